/-! BumpwardModel -/
set_option maxRecDepth 100000
def RX6 : String := "BumpwardModel"
def TX6 : u_T := fun k => match k with
  | 0 => ("BumpwardModel", "thrown", "I", false)
  | 1 => ("BumpwardModel", "minute", "I", false)
  | 2 => ("BumpwardModel", "drawn", "I", false)
  | 3 => ("BumpwardModel", "draws", "I", false)
  | 4 => ("BumpwardModel", "meetings", "I", false)
  | 5 => ("BumpwardModel", "disputes", "I", false)
  | 6 => ("BumpwardModel", "refused", "I", false)
  | 7 => ("BumpwardModel", "kind", "[[I", true)
  | 8 => ("BumpwardModel", "hours", "[[I", true)
  | 9 => ("BumpwardModel", "isCarpet", "[Z", true)
  | 10 => ("BumpwardModel", "isBarred", "[Z", true)
  | _ => ("BumpwardModel", "walkers", "Ljava/util/ArrayList;", true)
def tyX6 : Nat → FieldType := fun k => match k with
  | 0 => .int
  | 1 => .int
  | 2 => .int
  | 3 => .int
  | 4 => .int
  | 5 => .int
  | 6 => .int
  | 7 => .array (.array .int)
  | 8 => .array (.array .int)
  | 9 => .array .boolean
  | 10 => .array .boolean
  | _ => .object "java/util/ArrayList"
abbrev wsX60 : List Cond := u_ws RX6 TX6 12
theorem nmX6 : ∀ a, a < 12 → ∀ b, b < 12 → a ≠ b → (TX6 a).2.1 ≠ (TX6 b).2.1 := by decide +kernel
theorem tyX6_ok : ∀ k, k < 12 → parseFieldDescriptor (TX6 k).2.2.1 = some (tyX6 k) := by decide +kernel
abbrev cX6_init : ByteArray := prog_13_method_1_code
def yX6_init : MethodName := ⟨RX6, "<init>", "()V"⟩
def dkwX6_init_2 : List UInt8 := [42, 187, 0, 28, 89, 183, 0, 30, 181, 0, 31, 177]
abbrev dktX6_init_2 : List UInt8 := dkwX6_init_2 ++ []
def dkwX6_init_1 : List UInt8 := [5, 197, 0, 13, 2, 181, 0, 18, 42, 16, 36, 188, 4, 181, 0, 21, 42, 16, 36, 188, 4, 181, 0, 25]
abbrev dktX6_init_1 : List UInt8 := dkwX6_init_1 ++ dktX6_init_2
def dkwX6_init_0 : List UInt8 := [42, 183, 0, 1, 42, 16, 7, 181, 0, 7, 42, 16, 36, 5, 197, 0, 13, 2, 181, 0, 15, 42, 16, 36]
abbrev dktX6_init_0 : List UInt8 := dkwX6_init_0 ++ dktX6_init_1
theorem dksX6_init_0 : cX6_init.data.toList.drop 0 = dktX6_init_0 := by decide +kernel
theorem dksX6_init_1 : cX6_init.data.toList.drop 24 = dktX6_init_1 := dk_seg dksX6_init_0 24 rfl rfl
theorem dksX6_init_2 : cX6_init.data.toList.drop 48 = dktX6_init_2 := dk_seg dksX6_init_1 24 rfl rfl
theorem dX6_init_0 : decode cX6_init 0 = .ok (.aload_n 0, 1) := dk_42 (dk_at dksX6_init_0 0 rfl rfl)
theorem dX6_init_1 : decode cX6_init 1 = .ok (.invokespecial 1, 3) := dk_183 0 1 (dk_at dksX6_init_0 1 rfl rfl)
theorem dX6_init_4 : decode cX6_init 4 = .ok (.aload_n 0, 1) := dk_42 (dk_at dksX6_init_0 4 rfl rfl)
theorem dX6_init_5 : decode cX6_init 5 = .ok (.bipush 7, 2) := dk_16 7 (dk_at dksX6_init_0 5 rfl rfl)
theorem dX6_init_7 : decode cX6_init 7 = .ok (.putfield 7, 3) := dk_181 0 7 (dk_at dksX6_init_0 7 rfl rfl)
theorem dX6_init_10 : decode cX6_init 10 = .ok (.aload_n 0, 1) := dk_42 (dk_at dksX6_init_0 10 rfl rfl)
theorem dX6_init_11 : decode cX6_init 11 = .ok (.bipush 36, 2) := dk_16 36 (dk_at dksX6_init_0 11 rfl rfl)
theorem dX6_init_13 : decode cX6_init 13 = .ok (.iconst 2, 1) := dk_5 (dk_at dksX6_init_0 13 rfl rfl)
theorem dX6_init_14 : decode cX6_init 14 = .ok (.multianewarray 13 2, 4) := by decide +kernel
theorem dX6_init_18 : decode cX6_init 18 = .ok (.putfield 15, 3) := dk_181 0 15 (dk_at dksX6_init_0 18 rfl rfl)
theorem dX6_init_21 : decode cX6_init 21 = .ok (.aload_n 0, 1) := dk_42 (dk_at dksX6_init_0 21 rfl rfl)
theorem dX6_init_22 : decode cX6_init 22 = .ok (.bipush 36, 2) := dk_16 36 (dk_at dksX6_init_0 22 rfl rfl)
theorem dX6_init_24 : decode cX6_init 24 = .ok (.iconst 2, 1) := dk_5 (dk_at dksX6_init_1 0 rfl rfl)
theorem dX6_init_25 : decode cX6_init 25 = .ok (.multianewarray 13 2, 4) := by decide +kernel
theorem dX6_init_29 : decode cX6_init 29 = .ok (.putfield 18, 3) := dk_181 0 18 (dk_at dksX6_init_1 5 rfl rfl)
theorem dX6_init_32 : decode cX6_init 32 = .ok (.aload_n 0, 1) := dk_42 (dk_at dksX6_init_1 8 rfl rfl)
theorem dX6_init_33 : decode cX6_init 33 = .ok (.bipush 36, 2) := dk_16 36 (dk_at dksX6_init_1 9 rfl rfl)
theorem dX6_init_35 : decode cX6_init 35 = .ok (.newarray .boolean, 2) := dk_188_4 (dk_at dksX6_init_1 11 rfl rfl)
theorem dX6_init_37 : decode cX6_init 37 = .ok (.putfield 21, 3) := dk_181 0 21 (dk_at dksX6_init_1 13 rfl rfl)
theorem dX6_init_40 : decode cX6_init 40 = .ok (.aload_n 0, 1) := dk_42 (dk_at dksX6_init_1 16 rfl rfl)
theorem dX6_init_41 : decode cX6_init 41 = .ok (.bipush 36, 2) := dk_16 36 (dk_at dksX6_init_1 17 rfl rfl)
theorem dX6_init_43 : decode cX6_init 43 = .ok (.newarray .boolean, 2) := dk_188_4 (dk_at dksX6_init_1 19 rfl rfl)
theorem dX6_init_45 : decode cX6_init 45 = .ok (.putfield 25, 3) := dk_181 0 25 (dk_at dksX6_init_1 21 rfl rfl)
theorem dX6_init_48 : decode cX6_init 48 = .ok (.aload_n 0, 1) := dk_42 (dk_at dksX6_init_2 0 rfl rfl)
theorem dX6_init_49 : decode cX6_init 49 = .ok (.new 28, 3) := dk_187 0 28 (dk_at dksX6_init_2 1 rfl rfl)
theorem dX6_init_52 : decode cX6_init 52 = .ok (.dup, 1) := dk_89 (dk_at dksX6_init_2 4 rfl rfl)
theorem dX6_init_53 : decode cX6_init 53 = .ok (.invokespecial 30, 3) := dk_183 0 30 (dk_at dksX6_init_2 5 rfl rfl)
theorem dX6_init_56 : decode cX6_init 56 = .ok (.putfield 31, 3) := dk_181 0 31 (dk_at dksX6_init_2 8 rfl rfl)
theorem dX6_init_59 : decode cX6_init 59 = .ok (.return_, 1) := dk_177 (dk_at dksX6_init_2 11 rfl rfl)
abbrev cX6_thrown : ByteArray := prog_13_method_2_code
def yX6_thrown : MethodName := ⟨RX6, "thrown", "()I"⟩
theorem dX6_thrown_0 : decode cX6_thrown 0 = .ok (.aload_n 0, 1) := by decide +kernel
theorem dX6_thrown_1 : decode cX6_thrown 1 = .ok (.getfield 35, 3) := by decide +kernel
theorem dX6_thrown_4 : decode cX6_thrown 4 = .ok (.ireturn, 1) := by decide +kernel
abbrev cX6_edge : ByteArray := prog_13_method_19_code
def yX6_edge : MethodName := ⟨RX6, "edge", "(IIII)I"⟩
def dkwX6_edge_5 : List UInt8 := [5, 160, 0, 8, 21, 4, 167, 0, 4, 3, 79, 21, 6, 172]
abbrev dktX6_edge_5 : List UInt8 := dkwX6_edge_5 ++ []
def dkwX6_edge_4 : List UInt8 := [180, 0, 15, 21, 5, 50, 28, 184, 0, 64, 29, 79, 42, 180, 0, 18, 21, 5, 50, 28, 184, 0, 64, 29]
abbrev dktX6_edge_4 : List UInt8 := dkwX6_edge_4 ++ dktX6_edge_5
def dkwX6_edge_3 : List UInt8 := [172, 27, 28, 184, 0, 61, 54, 5, 42, 180, 0, 15, 21, 5, 50, 28, 184, 0, 64, 46, 54, 6, 42]
abbrev dktX6_edge_3 : List UInt8 := dkwX6_edge_3 ++ dktX6_edge_4
def dkwX6_edge_2 : List UInt8 := [21, 4, 3, 18, 86, 184, 0, 42, 154, 0, 7, 4, 167, 0, 4, 3, 5, 182, 0, 38, 153, 0, 5, 3]
abbrev dktX6_edge_2 : List UInt8 := dkwX6_edge_2 ++ dktX6_edge_3
def dkwX6_edge_1 : List UInt8 := [153, 0, 5, 3, 172, 42, 27, 28, 184, 0, 50, 2, 159, 0, 23, 29, 3, 5, 184, 0, 42, 153, 0, 14]
abbrev dktX6_edge_1 : List UInt8 := dkwX6_edge_1 ++ dktX6_edge_2
def dkwX6_edge_0 : List UInt8 := [42, 27, 184, 0, 76, 154, 0, 10, 28, 184, 0, 80, 153, 0, 7, 4, 167, 0, 4, 3, 4, 182, 0, 83]
abbrev dktX6_edge_0 : List UInt8 := dkwX6_edge_0 ++ dktX6_edge_1
theorem dksX6_edge_0 : cX6_edge.data.toList.drop 0 = dktX6_edge_0 := by decide +kernel
theorem dksX6_edge_1 : cX6_edge.data.toList.drop 24 = dktX6_edge_1 := dk_seg dksX6_edge_0 24 rfl rfl
theorem dksX6_edge_2 : cX6_edge.data.toList.drop 48 = dktX6_edge_2 := dk_seg dksX6_edge_1 24 rfl rfl
theorem dksX6_edge_3 : cX6_edge.data.toList.drop 72 = dktX6_edge_3 := dk_seg dksX6_edge_2 24 rfl rfl
theorem dksX6_edge_4 : cX6_edge.data.toList.drop 95 = dktX6_edge_4 := dk_seg dksX6_edge_3 23 rfl rfl
theorem dksX6_edge_5 : cX6_edge.data.toList.drop 119 = dktX6_edge_5 := dk_seg dksX6_edge_4 24 rfl rfl
theorem dX6_edge_0 : decode cX6_edge 0 = .ok (.aload_n 0, 1) := dk_42 (dk_at dksX6_edge_0 0 rfl rfl)
theorem dX6_edge_1 : decode cX6_edge 1 = .ok (.iload_n 1, 1) := dk_27 (dk_at dksX6_edge_0 1 rfl rfl)
theorem dX6_edge_2 : decode cX6_edge 2 = .ok (.invokestatic 76, 3) := dk_184 0 76 (dk_at dksX6_edge_0 2 rfl rfl)
theorem dX6_edge_5 : decode cX6_edge 5 = .ok (.ifCond .ne 10, 3) := dk_154 0 10 (dk_at dksX6_edge_0 5 rfl rfl)
theorem dX6_edge_8 : decode cX6_edge 8 = .ok (.iload_n 2, 1) := dk_28 (dk_at dksX6_edge_0 8 rfl rfl)
theorem dX6_edge_9 : decode cX6_edge 9 = .ok (.invokestatic 80, 3) := dk_184 0 80 (dk_at dksX6_edge_0 9 rfl rfl)
theorem dX6_edge_12 : decode cX6_edge 12 = .ok (.ifCond .eq 7, 3) := dk_153 0 7 (dk_at dksX6_edge_0 12 rfl rfl)
theorem dX6_edge_15 : decode cX6_edge 15 = .ok (.iconst 1, 1) := dk_4 (dk_at dksX6_edge_0 15 rfl rfl)
theorem dX6_edge_16 : decode cX6_edge 16 = .ok (.goto 4, 3) := dk_167 0 4 (dk_at dksX6_edge_0 16 rfl rfl)
theorem dX6_edge_19 : decode cX6_edge 19 = .ok (.iconst 0, 1) := dk_3 (dk_at dksX6_edge_0 19 rfl rfl)
theorem dX6_edge_20 : decode cX6_edge 20 = .ok (.iconst 1, 1) := dk_4 (dk_at dksX6_edge_0 20 rfl rfl)
theorem dX6_edge_21 : decode cX6_edge 21 = .ok (.invokevirtual 83, 3) := dk_182 0 83 (dk_at dksX6_edge_0 21 rfl rfl)
theorem dX6_edge_24 : decode cX6_edge 24 = .ok (.ifCond .eq 5, 3) := dk_153 0 5 (dk_at dksX6_edge_1 0 rfl rfl)
theorem dX6_edge_27 : decode cX6_edge 27 = .ok (.iconst 0, 1) := dk_3 (dk_at dksX6_edge_1 3 rfl rfl)
theorem dX6_edge_28 : decode cX6_edge 28 = .ok (.ireturn, 1) := dk_172 (dk_at dksX6_edge_1 4 rfl rfl)
theorem dX6_edge_29 : decode cX6_edge 29 = .ok (.aload_n 0, 1) := dk_42 (dk_at dksX6_edge_1 5 rfl rfl)
theorem dX6_edge_30 : decode cX6_edge 30 = .ok (.iload_n 1, 1) := dk_27 (dk_at dksX6_edge_1 6 rfl rfl)
theorem dX6_edge_31 : decode cX6_edge 31 = .ok (.iload_n 2, 1) := dk_28 (dk_at dksX6_edge_1 7 rfl rfl)
theorem dX6_edge_32 : decode cX6_edge 32 = .ok (.invokestatic 50, 3) := dk_184 0 50 (dk_at dksX6_edge_1 8 rfl rfl)
theorem dX6_edge_35 : decode cX6_edge 35 = .ok (.iconst (-1), 1) := dk_2 (dk_at dksX6_edge_1 11 rfl rfl)
theorem dX6_edge_36 : decode cX6_edge 36 = .ok (.if_icmp .eq 23, 3) := dk_159 0 23 (dk_at dksX6_edge_1 12 rfl rfl)
theorem dX6_edge_39 : decode cX6_edge 39 = .ok (.iload_n 3, 1) := dk_29 (dk_at dksX6_edge_1 15 rfl rfl)
theorem dX6_edge_40 : decode cX6_edge 40 = .ok (.iconst 0, 1) := dk_3 (dk_at dksX6_edge_1 16 rfl rfl)
theorem dX6_edge_41 : decode cX6_edge 41 = .ok (.iconst 2, 1) := dk_5 (dk_at dksX6_edge_1 17 rfl rfl)
theorem dX6_edge_42 : decode cX6_edge 42 = .ok (.invokestatic 42, 3) := dk_184 0 42 (dk_at dksX6_edge_1 18 rfl rfl)
theorem dX6_edge_45 : decode cX6_edge 45 = .ok (.ifCond .eq 14, 3) := dk_153 0 14 (dk_at dksX6_edge_1 21 rfl rfl)
theorem dX6_edge_48 : decode cX6_edge 48 = .ok (.iload 4, 2) := dk_21 4 (dk_at dksX6_edge_2 0 rfl rfl)
theorem dX6_edge_50 : decode cX6_edge 50 = .ok (.iconst 0, 1) := dk_3 (dk_at dksX6_edge_2 2 rfl rfl)
theorem dX6_edge_51 : decode cX6_edge 51 = .ok (.ldc 86, 2) := dk_18 86 (dk_at dksX6_edge_2 3 rfl rfl)
theorem dX6_edge_53 : decode cX6_edge 53 = .ok (.invokestatic 42, 3) := dk_184 0 42 (dk_at dksX6_edge_2 5 rfl rfl)
theorem dX6_edge_56 : decode cX6_edge 56 = .ok (.ifCond .ne 7, 3) := dk_154 0 7 (dk_at dksX6_edge_2 8 rfl rfl)
theorem dX6_edge_59 : decode cX6_edge 59 = .ok (.iconst 1, 1) := dk_4 (dk_at dksX6_edge_2 11 rfl rfl)
theorem dX6_edge_60 : decode cX6_edge 60 = .ok (.goto 4, 3) := dk_167 0 4 (dk_at dksX6_edge_2 12 rfl rfl)
theorem dX6_edge_63 : decode cX6_edge 63 = .ok (.iconst 0, 1) := dk_3 (dk_at dksX6_edge_2 15 rfl rfl)
theorem dX6_edge_64 : decode cX6_edge 64 = .ok (.iconst 2, 1) := dk_5 (dk_at dksX6_edge_2 16 rfl rfl)
theorem dX6_edge_65 : decode cX6_edge 65 = .ok (.invokevirtual 38, 3) := dk_182 0 38 (dk_at dksX6_edge_2 17 rfl rfl)
theorem dX6_edge_68 : decode cX6_edge 68 = .ok (.ifCond .eq 5, 3) := dk_153 0 5 (dk_at dksX6_edge_2 20 rfl rfl)
theorem dX6_edge_71 : decode cX6_edge 71 = .ok (.iconst 0, 1) := dk_3 (dk_at dksX6_edge_2 23 rfl rfl)
theorem dX6_edge_72 : decode cX6_edge 72 = .ok (.ireturn, 1) := dk_172 (dk_at dksX6_edge_3 0 rfl rfl)
theorem dX6_edge_73 : decode cX6_edge 73 = .ok (.iload_n 1, 1) := dk_27 (dk_at dksX6_edge_3 1 rfl rfl)
theorem dX6_edge_74 : decode cX6_edge 74 = .ok (.iload_n 2, 1) := dk_28 (dk_at dksX6_edge_3 2 rfl rfl)
theorem dX6_edge_75 : decode cX6_edge 75 = .ok (.invokestatic 61, 3) := dk_184 0 61 (dk_at dksX6_edge_3 3 rfl rfl)
theorem dX6_edge_78 : decode cX6_edge 78 = .ok (.istore 5, 2) := dk_54 5 (dk_at dksX6_edge_3 6 rfl rfl)
theorem dX6_edge_80 : decode cX6_edge 80 = .ok (.aload_n 0, 1) := dk_42 (dk_at dksX6_edge_3 8 rfl rfl)
theorem dX6_edge_81 : decode cX6_edge 81 = .ok (.getfield 15, 3) := dk_180 0 15 (dk_at dksX6_edge_3 9 rfl rfl)
theorem dX6_edge_84 : decode cX6_edge 84 = .ok (.iload 5, 2) := dk_21 5 (dk_at dksX6_edge_3 12 rfl rfl)
theorem dX6_edge_86 : decode cX6_edge 86 = .ok (.aaload, 1) := dk_50 (dk_at dksX6_edge_3 14 rfl rfl)
theorem dX6_edge_87 : decode cX6_edge 87 = .ok (.iload_n 2, 1) := dk_28 (dk_at dksX6_edge_3 15 rfl rfl)
theorem dX6_edge_88 : decode cX6_edge 88 = .ok (.invokestatic 64, 3) := dk_184 0 64 (dk_at dksX6_edge_3 16 rfl rfl)
theorem dX6_edge_91 : decode cX6_edge 91 = .ok (.iaload, 1) := dk_46 (dk_at dksX6_edge_3 19 rfl rfl)
theorem dX6_edge_92 : decode cX6_edge 92 = .ok (.istore 6, 2) := dk_54 6 (dk_at dksX6_edge_3 20 rfl rfl)
theorem dX6_edge_94 : decode cX6_edge 94 = .ok (.aload_n 0, 1) := dk_42 (dk_at dksX6_edge_3 22 rfl rfl)
theorem dX6_edge_95 : decode cX6_edge 95 = .ok (.getfield 15, 3) := dk_180 0 15 (dk_at dksX6_edge_4 0 rfl rfl)
theorem dX6_edge_98 : decode cX6_edge 98 = .ok (.iload 5, 2) := dk_21 5 (dk_at dksX6_edge_4 3 rfl rfl)
theorem dX6_edge_100 : decode cX6_edge 100 = .ok (.aaload, 1) := dk_50 (dk_at dksX6_edge_4 5 rfl rfl)
theorem dX6_edge_101 : decode cX6_edge 101 = .ok (.iload_n 2, 1) := dk_28 (dk_at dksX6_edge_4 6 rfl rfl)
theorem dX6_edge_102 : decode cX6_edge 102 = .ok (.invokestatic 64, 3) := dk_184 0 64 (dk_at dksX6_edge_4 7 rfl rfl)
theorem dX6_edge_105 : decode cX6_edge 105 = .ok (.iload_n 3, 1) := dk_29 (dk_at dksX6_edge_4 10 rfl rfl)
theorem dX6_edge_106 : decode cX6_edge 106 = .ok (.iastore, 1) := dk_79 (dk_at dksX6_edge_4 11 rfl rfl)
theorem dX6_edge_107 : decode cX6_edge 107 = .ok (.aload_n 0, 1) := dk_42 (dk_at dksX6_edge_4 12 rfl rfl)
theorem dX6_edge_108 : decode cX6_edge 108 = .ok (.getfield 18, 3) := dk_180 0 18 (dk_at dksX6_edge_4 13 rfl rfl)
theorem dX6_edge_111 : decode cX6_edge 111 = .ok (.iload 5, 2) := dk_21 5 (dk_at dksX6_edge_4 16 rfl rfl)
theorem dX6_edge_113 : decode cX6_edge 113 = .ok (.aaload, 1) := dk_50 (dk_at dksX6_edge_4 18 rfl rfl)
theorem dX6_edge_114 : decode cX6_edge 114 = .ok (.iload_n 2, 1) := dk_28 (dk_at dksX6_edge_4 19 rfl rfl)
theorem dX6_edge_115 : decode cX6_edge 115 = .ok (.invokestatic 64, 3) := dk_184 0 64 (dk_at dksX6_edge_4 20 rfl rfl)
theorem dX6_edge_118 : decode cX6_edge 118 = .ok (.iload_n 3, 1) := dk_29 (dk_at dksX6_edge_4 23 rfl rfl)
theorem dX6_edge_119 : decode cX6_edge 119 = .ok (.iconst 2, 1) := dk_5 (dk_at dksX6_edge_5 0 rfl rfl)
theorem dX6_edge_120 : decode cX6_edge 120 = .ok (.if_icmp .ne 8, 3) := dk_160 0 8 (dk_at dksX6_edge_5 1 rfl rfl)
theorem dX6_edge_123 : decode cX6_edge 123 = .ok (.iload 4, 2) := dk_21 4 (dk_at dksX6_edge_5 4 rfl rfl)
theorem dX6_edge_125 : decode cX6_edge 125 = .ok (.goto 4, 3) := dk_167 0 4 (dk_at dksX6_edge_5 6 rfl rfl)
theorem dX6_edge_128 : decode cX6_edge 128 = .ok (.iconst 0, 1) := dk_3 (dk_at dksX6_edge_5 9 rfl rfl)
theorem dX6_edge_129 : decode cX6_edge 129 = .ok (.iastore, 1) := dk_79 (dk_at dksX6_edge_5 10 rfl rfl)
theorem dX6_edge_130 : decode cX6_edge 130 = .ok (.iload 6, 2) := dk_21 6 (dk_at dksX6_edge_5 11 rfl rfl)
theorem dX6_edge_132 : decode cX6_edge 132 = .ok (.ireturn, 1) := dk_172 (dk_at dksX6_edge_5 13 rfl rfl)
abbrev cX6_isNoCell : ByteArray := prog_13_method_6_code
def yX6_isNoCell : MethodName := ⟨RX6, "isNoCell", "(I)Z"⟩
def dkwX6_isNoCell_0 : List UInt8 := [26, 3, 16, 35, 184, 0, 42, 154, 0, 7, 4, 167, 0, 4, 3, 172]
abbrev dktX6_isNoCell_0 : List UInt8 := dkwX6_isNoCell_0 ++ []
theorem dksX6_isNoCell_0 : cX6_isNoCell.data.toList.drop 0 = dktX6_isNoCell_0 := by decide +kernel
theorem dX6_isNoCell_0 : decode cX6_isNoCell 0 = .ok (.iload_n 0, 1) := dk_26 (dk_at dksX6_isNoCell_0 0 rfl rfl)
theorem dX6_isNoCell_1 : decode cX6_isNoCell 1 = .ok (.iconst 0, 1) := dk_3 (dk_at dksX6_isNoCell_0 1 rfl rfl)
theorem dX6_isNoCell_2 : decode cX6_isNoCell 2 = .ok (.bipush 35, 2) := dk_16 35 (dk_at dksX6_isNoCell_0 2 rfl rfl)
theorem dX6_isNoCell_4 : decode cX6_isNoCell 4 = .ok (.invokestatic 42, 3) := dk_184 0 42 (dk_at dksX6_isNoCell_0 4 rfl rfl)
theorem dX6_isNoCell_7 : decode cX6_isNoCell 7 = .ok (.ifCond .ne 7, 3) := dk_154 0 7 (dk_at dksX6_isNoCell_0 7 rfl rfl)
theorem dX6_isNoCell_10 : decode cX6_isNoCell 10 = .ok (.iconst 1, 1) := dk_4 (dk_at dksX6_isNoCell_0 10 rfl rfl)
theorem dX6_isNoCell_11 : decode cX6_isNoCell 11 = .ok (.goto 4, 3) := dk_167 0 4 (dk_at dksX6_isNoCell_0 11 rfl rfl)
theorem dX6_isNoCell_14 : decode cX6_isNoCell 14 = .ok (.iconst 0, 1) := dk_3 (dk_at dksX6_isNoCell_0 14 rfl rfl)
theorem dX6_isNoCell_15 : decode cX6_isNoCell 15 = .ok (.ireturn, 1) := dk_172 (dk_at dksX6_isNoCell_0 15 rfl rfl)
abbrev cX6_isIn : ByteArray := prog_13_method_3_code
def yX6_isIn : MethodName := ⟨RX6, "isIn", "(III)Z"⟩
def dkwX6_isIn_0 : List UInt8 := [26, 27, 161, 0, 12, 26, 28, 163, 0, 7, 4, 167, 0, 4, 3, 172]
abbrev dktX6_isIn_0 : List UInt8 := dkwX6_isIn_0 ++ []
theorem dksX6_isIn_0 : cX6_isIn.data.toList.drop 0 = dktX6_isIn_0 := by decide +kernel
theorem dX6_isIn_0 : decode cX6_isIn 0 = .ok (.iload_n 0, 1) := dk_26 (dk_at dksX6_isIn_0 0 rfl rfl)
theorem dX6_isIn_1 : decode cX6_isIn 1 = .ok (.iload_n 1, 1) := dk_27 (dk_at dksX6_isIn_0 1 rfl rfl)
theorem dX6_isIn_2 : decode cX6_isIn 2 = .ok (.if_icmp .lt 12, 3) := dk_161 0 12 (dk_at dksX6_isIn_0 2 rfl rfl)
theorem dX6_isIn_5 : decode cX6_isIn 5 = .ok (.iload_n 0, 1) := dk_26 (dk_at dksX6_isIn_0 5 rfl rfl)
theorem dX6_isIn_6 : decode cX6_isIn 6 = .ok (.iload_n 2, 1) := dk_28 (dk_at dksX6_isIn_0 6 rfl rfl)
theorem dX6_isIn_7 : decode cX6_isIn 7 = .ok (.if_icmp .gt 7, 3) := dk_163 0 7 (dk_at dksX6_isIn_0 7 rfl rfl)
theorem dX6_isIn_10 : decode cX6_isIn 10 = .ok (.iconst 1, 1) := dk_4 (dk_at dksX6_isIn_0 10 rfl rfl)
theorem dX6_isIn_11 : decode cX6_isIn 11 = .ok (.goto 4, 3) := dk_167 0 4 (dk_at dksX6_isIn_0 11 rfl rfl)
theorem dX6_isIn_14 : decode cX6_isIn 14 = .ok (.iconst 0, 1) := dk_3 (dk_at dksX6_isIn_0 14 rfl rfl)
theorem dX6_isIn_15 : decode cX6_isIn 15 = .ok (.ireturn, 1) := dk_172 (dk_at dksX6_isIn_0 15 rfl rfl)
abbrev cX6_isNoSide : ByteArray := prog_13_method_7_code
def yX6_isNoSide : MethodName := ⟨RX6, "isNoSide", "(I)Z"⟩
def dkwX6_isNoSide_0 : List UInt8 := [26, 3, 6, 184, 0, 42, 154, 0, 7, 4, 167, 0, 4, 3, 172]
abbrev dktX6_isNoSide_0 : List UInt8 := dkwX6_isNoSide_0 ++ []
theorem dksX6_isNoSide_0 : cX6_isNoSide.data.toList.drop 0 = dktX6_isNoSide_0 := by decide +kernel
theorem dX6_isNoSide_0 : decode cX6_isNoSide 0 = .ok (.iload_n 0, 1) := dk_26 (dk_at dksX6_isNoSide_0 0 rfl rfl)
theorem dX6_isNoSide_1 : decode cX6_isNoSide 1 = .ok (.iconst 0, 1) := dk_3 (dk_at dksX6_isNoSide_0 1 rfl rfl)
theorem dX6_isNoSide_2 : decode cX6_isNoSide 2 = .ok (.iconst 3, 1) := dk_6 (dk_at dksX6_isNoSide_0 2 rfl rfl)
theorem dX6_isNoSide_3 : decode cX6_isNoSide 3 = .ok (.invokestatic 42, 3) := dk_184 0 42 (dk_at dksX6_isNoSide_0 3 rfl rfl)
theorem dX6_isNoSide_6 : decode cX6_isNoSide 6 = .ok (.ifCond .ne 7, 3) := dk_154 0 7 (dk_at dksX6_isNoSide_0 6 rfl rfl)
theorem dX6_isNoSide_9 : decode cX6_isNoSide 9 = .ok (.iconst 1, 1) := dk_4 (dk_at dksX6_isNoSide_0 9 rfl rfl)
theorem dX6_isNoSide_10 : decode cX6_isNoSide 10 = .ok (.goto 4, 3) := dk_167 0 4 (dk_at dksX6_isNoSide_0 10 rfl rfl)
theorem dX6_isNoSide_13 : decode cX6_isNoSide 13 = .ok (.iconst 0, 1) := dk_3 (dk_at dksX6_isNoSide_0 13 rfl rfl)
theorem dX6_isNoSide_14 : decode cX6_isNoSide 14 = .ok (.ireturn, 1) := dk_172 (dk_at dksX6_isNoSide_0 14 rfl rfl)
abbrev cX6_start : ByteArray := prog_13_method_5_code
def yX6_start : MethodName := ⟨RX6, "start", "(ZI)Z"⟩
def dkwX6_start_0 : List UInt8 := [42, 3, 181, 0, 35, 42, 27, 28, 182, 0, 38, 172]
abbrev dktX6_start_0 : List UInt8 := dkwX6_start_0 ++ []
theorem dksX6_start_0 : cX6_start.data.toList.drop 0 = dktX6_start_0 := by decide +kernel
theorem dX6_start_0 : decode cX6_start 0 = .ok (.aload_n 0, 1) := dk_42 (dk_at dksX6_start_0 0 rfl rfl)
theorem dX6_start_1 : decode cX6_start 1 = .ok (.iconst 0, 1) := dk_3 (dk_at dksX6_start_0 1 rfl rfl)
theorem dX6_start_2 : decode cX6_start 2 = .ok (.putfield 35, 3) := dk_181 0 35 (dk_at dksX6_start_0 2 rfl rfl)
theorem dX6_start_5 : decode cX6_start 5 = .ok (.aload_n 0, 1) := dk_42 (dk_at dksX6_start_0 5 rfl rfl)
theorem dX6_start_6 : decode cX6_start 6 = .ok (.iload_n 1, 1) := dk_27 (dk_at dksX6_start_0 6 rfl rfl)
theorem dX6_start_7 : decode cX6_start 7 = .ok (.iload_n 2, 1) := dk_28 (dk_at dksX6_start_0 7 rfl rfl)
theorem dX6_start_8 : decode cX6_start 8 = .ok (.invokevirtual 38, 3) := dk_182 0 38 (dk_at dksX6_start_0 8 rfl rfl)
theorem dX6_start_11 : decode cX6_start 11 = .ok (.ireturn, 1) := dk_172 (dk_at dksX6_start_0 11 rfl rfl)
abbrev cX6_refuse : ByteArray := prog_13_method_4_code
def yX6_refuse : MethodName := ⟨RX6, "refuse", "(ZI)Z"⟩
def dkwX6_refuse_1 : List UInt8 := [167, 0, 4, 3, 172]
abbrev dktX6_refuse_1 : List UInt8 := dkwX6_refuse_1 ++ []
def dkwX6_refuse_0 : List UInt8 := [27, 153, 0, 15, 42, 180, 0, 35, 154, 0, 8, 42, 28, 181, 0, 35, 42, 180, 0, 35, 158, 0, 7, 4]
abbrev dktX6_refuse_0 : List UInt8 := dkwX6_refuse_0 ++ dktX6_refuse_1
theorem dksX6_refuse_0 : cX6_refuse.data.toList.drop 0 = dktX6_refuse_0 := by decide +kernel
theorem dksX6_refuse_1 : cX6_refuse.data.toList.drop 24 = dktX6_refuse_1 := dk_seg dksX6_refuse_0 24 rfl rfl
theorem dX6_refuse_0 : decode cX6_refuse 0 = .ok (.iload_n 1, 1) := dk_27 (dk_at dksX6_refuse_0 0 rfl rfl)
theorem dX6_refuse_1 : decode cX6_refuse 1 = .ok (.ifCond .eq 15, 3) := dk_153 0 15 (dk_at dksX6_refuse_0 1 rfl rfl)
theorem dX6_refuse_4 : decode cX6_refuse 4 = .ok (.aload_n 0, 1) := dk_42 (dk_at dksX6_refuse_0 4 rfl rfl)
theorem dX6_refuse_5 : decode cX6_refuse 5 = .ok (.getfield 35, 3) := dk_180 0 35 (dk_at dksX6_refuse_0 5 rfl rfl)
theorem dX6_refuse_8 : decode cX6_refuse 8 = .ok (.ifCond .ne 8, 3) := dk_154 0 8 (dk_at dksX6_refuse_0 8 rfl rfl)
theorem dX6_refuse_11 : decode cX6_refuse 11 = .ok (.aload_n 0, 1) := dk_42 (dk_at dksX6_refuse_0 11 rfl rfl)
theorem dX6_refuse_12 : decode cX6_refuse 12 = .ok (.iload_n 2, 1) := dk_28 (dk_at dksX6_refuse_0 12 rfl rfl)
theorem dX6_refuse_13 : decode cX6_refuse 13 = .ok (.putfield 35, 3) := dk_181 0 35 (dk_at dksX6_refuse_0 13 rfl rfl)
theorem dX6_refuse_16 : decode cX6_refuse 16 = .ok (.aload_n 0, 1) := dk_42 (dk_at dksX6_refuse_0 16 rfl rfl)
theorem dX6_refuse_17 : decode cX6_refuse 17 = .ok (.getfield 35, 3) := dk_180 0 35 (dk_at dksX6_refuse_0 17 rfl rfl)
theorem dX6_refuse_20 : decode cX6_refuse 20 = .ok (.ifCond .le 7, 3) := dk_158 0 7 (dk_at dksX6_refuse_0 20 rfl rfl)
theorem dX6_refuse_23 : decode cX6_refuse 23 = .ok (.iconst 1, 1) := dk_4 (dk_at dksX6_refuse_0 23 rfl rfl)
theorem dX6_refuse_24 : decode cX6_refuse 24 = .ok (.goto 4, 3) := dk_167 0 4 (dk_at dksX6_refuse_1 0 rfl rfl)
theorem dX6_refuse_27 : decode cX6_refuse 27 = .ok (.iconst 0, 1) := dk_3 (dk_at dksX6_refuse_1 3 rfl rfl)
theorem dX6_refuse_28 : decode cX6_refuse 28 = .ok (.ireturn, 1) := dk_172 (dk_at dksX6_refuse_1 4 rfl rfl)
abbrev cX6_beyond : ByteArray := prog_13_method_9_code
def yX6_beyond : MethodName := ⟨RX6, "beyond", "(II)I"⟩
def dkwX6_beyond_3 : List UInt8 := [96, 167, 0, 4, 2, 172]
abbrev dktX6_beyond_3 : List UInt8 := dkwX6_beyond_3 ++ []
def dkwX6_beyond_2 : List UInt8 := [62, 28, 3, 8, 184, 0, 42, 153, 0, 21, 29, 3, 8, 184, 0, 42, 153, 0, 12, 16, 6, 28, 104, 29]
abbrev dktX6_beyond_2 : List UInt8 := dkwX6_beyond_2 ++ dktX6_beyond_3
def dkwX6_beyond_1 : List UInt8 := [26, 16, 6, 112, 27, 4, 160, 0, 7, 4, 167, 0, 13, 27, 6, 160, 0, 7, 2, 167, 0, 4, 3, 96]
abbrev dktX6_beyond_1 : List UInt8 := dkwX6_beyond_1 ++ dktX6_beyond_2
def dkwX6_beyond_0 : List UInt8 := [26, 16, 6, 108, 27, 154, 0, 7, 2, 167, 0, 13, 27, 5, 160, 0, 7, 4, 167, 0, 4, 3, 96, 61]
abbrev dktX6_beyond_0 : List UInt8 := dkwX6_beyond_0 ++ dktX6_beyond_1
theorem dksX6_beyond_0 : cX6_beyond.data.toList.drop 0 = dktX6_beyond_0 := by decide +kernel
theorem dksX6_beyond_1 : cX6_beyond.data.toList.drop 24 = dktX6_beyond_1 := dk_seg dksX6_beyond_0 24 rfl rfl
theorem dksX6_beyond_2 : cX6_beyond.data.toList.drop 48 = dktX6_beyond_2 := dk_seg dksX6_beyond_1 24 rfl rfl
theorem dksX6_beyond_3 : cX6_beyond.data.toList.drop 72 = dktX6_beyond_3 := dk_seg dksX6_beyond_2 24 rfl rfl
theorem dX6_beyond_0 : decode cX6_beyond 0 = .ok (.iload_n 0, 1) := dk_26 (dk_at dksX6_beyond_0 0 rfl rfl)
theorem dX6_beyond_1 : decode cX6_beyond 1 = .ok (.bipush 6, 2) := dk_16 6 (dk_at dksX6_beyond_0 1 rfl rfl)
theorem dX6_beyond_3 : decode cX6_beyond 3 = .ok (.idiv, 1) := dk_108 (dk_at dksX6_beyond_0 3 rfl rfl)
theorem dX6_beyond_4 : decode cX6_beyond 4 = .ok (.iload_n 1, 1) := dk_27 (dk_at dksX6_beyond_0 4 rfl rfl)
theorem dX6_beyond_5 : decode cX6_beyond 5 = .ok (.ifCond .ne 7, 3) := dk_154 0 7 (dk_at dksX6_beyond_0 5 rfl rfl)
theorem dX6_beyond_8 : decode cX6_beyond 8 = .ok (.iconst (-1), 1) := dk_2 (dk_at dksX6_beyond_0 8 rfl rfl)
theorem dX6_beyond_9 : decode cX6_beyond 9 = .ok (.goto 13, 3) := dk_167 0 13 (dk_at dksX6_beyond_0 9 rfl rfl)
theorem dX6_beyond_12 : decode cX6_beyond 12 = .ok (.iload_n 1, 1) := dk_27 (dk_at dksX6_beyond_0 12 rfl rfl)
theorem dX6_beyond_13 : decode cX6_beyond 13 = .ok (.iconst 2, 1) := dk_5 (dk_at dksX6_beyond_0 13 rfl rfl)
theorem dX6_beyond_14 : decode cX6_beyond 14 = .ok (.if_icmp .ne 7, 3) := dk_160 0 7 (dk_at dksX6_beyond_0 14 rfl rfl)
theorem dX6_beyond_17 : decode cX6_beyond 17 = .ok (.iconst 1, 1) := dk_4 (dk_at dksX6_beyond_0 17 rfl rfl)
theorem dX6_beyond_18 : decode cX6_beyond 18 = .ok (.goto 4, 3) := dk_167 0 4 (dk_at dksX6_beyond_0 18 rfl rfl)
theorem dX6_beyond_21 : decode cX6_beyond 21 = .ok (.iconst 0, 1) := dk_3 (dk_at dksX6_beyond_0 21 rfl rfl)
theorem dX6_beyond_22 : decode cX6_beyond 22 = .ok (.iadd, 1) := dk_96 (dk_at dksX6_beyond_0 22 rfl rfl)
theorem dX6_beyond_23 : decode cX6_beyond 23 = .ok (.istore_n 2, 1) := dk_61 (dk_at dksX6_beyond_0 23 rfl rfl)
theorem dX6_beyond_24 : decode cX6_beyond 24 = .ok (.iload_n 0, 1) := dk_26 (dk_at dksX6_beyond_1 0 rfl rfl)
theorem dX6_beyond_25 : decode cX6_beyond 25 = .ok (.bipush 6, 2) := dk_16 6 (dk_at dksX6_beyond_1 1 rfl rfl)
theorem dX6_beyond_27 : decode cX6_beyond 27 = .ok (.irem, 1) := dk_112 (dk_at dksX6_beyond_1 3 rfl rfl)
theorem dX6_beyond_28 : decode cX6_beyond 28 = .ok (.iload_n 1, 1) := dk_27 (dk_at dksX6_beyond_1 4 rfl rfl)
theorem dX6_beyond_29 : decode cX6_beyond 29 = .ok (.iconst 1, 1) := dk_4 (dk_at dksX6_beyond_1 5 rfl rfl)
theorem dX6_beyond_30 : decode cX6_beyond 30 = .ok (.if_icmp .ne 7, 3) := dk_160 0 7 (dk_at dksX6_beyond_1 6 rfl rfl)
theorem dX6_beyond_33 : decode cX6_beyond 33 = .ok (.iconst 1, 1) := dk_4 (dk_at dksX6_beyond_1 9 rfl rfl)
theorem dX6_beyond_34 : decode cX6_beyond 34 = .ok (.goto 13, 3) := dk_167 0 13 (dk_at dksX6_beyond_1 10 rfl rfl)
theorem dX6_beyond_37 : decode cX6_beyond 37 = .ok (.iload_n 1, 1) := dk_27 (dk_at dksX6_beyond_1 13 rfl rfl)
theorem dX6_beyond_38 : decode cX6_beyond 38 = .ok (.iconst 3, 1) := dk_6 (dk_at dksX6_beyond_1 14 rfl rfl)
theorem dX6_beyond_39 : decode cX6_beyond 39 = .ok (.if_icmp .ne 7, 3) := dk_160 0 7 (dk_at dksX6_beyond_1 15 rfl rfl)
theorem dX6_beyond_42 : decode cX6_beyond 42 = .ok (.iconst (-1), 1) := dk_2 (dk_at dksX6_beyond_1 18 rfl rfl)
theorem dX6_beyond_43 : decode cX6_beyond 43 = .ok (.goto 4, 3) := dk_167 0 4 (dk_at dksX6_beyond_1 19 rfl rfl)
theorem dX6_beyond_46 : decode cX6_beyond 46 = .ok (.iconst 0, 1) := dk_3 (dk_at dksX6_beyond_1 22 rfl rfl)
theorem dX6_beyond_47 : decode cX6_beyond 47 = .ok (.iadd, 1) := dk_96 (dk_at dksX6_beyond_1 23 rfl rfl)
theorem dX6_beyond_48 : decode cX6_beyond 48 = .ok (.istore_n 3, 1) := dk_62 (dk_at dksX6_beyond_2 0 rfl rfl)
theorem dX6_beyond_49 : decode cX6_beyond 49 = .ok (.iload_n 2, 1) := dk_28 (dk_at dksX6_beyond_2 1 rfl rfl)
theorem dX6_beyond_50 : decode cX6_beyond 50 = .ok (.iconst 0, 1) := dk_3 (dk_at dksX6_beyond_2 2 rfl rfl)
theorem dX6_beyond_51 : decode cX6_beyond 51 = .ok (.iconst 5, 1) := dk_8 (dk_at dksX6_beyond_2 3 rfl rfl)
theorem dX6_beyond_52 : decode cX6_beyond 52 = .ok (.invokestatic 42, 3) := dk_184 0 42 (dk_at dksX6_beyond_2 4 rfl rfl)
theorem dX6_beyond_55 : decode cX6_beyond 55 = .ok (.ifCond .eq 21, 3) := dk_153 0 21 (dk_at dksX6_beyond_2 7 rfl rfl)
theorem dX6_beyond_58 : decode cX6_beyond 58 = .ok (.iload_n 3, 1) := dk_29 (dk_at dksX6_beyond_2 10 rfl rfl)
theorem dX6_beyond_59 : decode cX6_beyond 59 = .ok (.iconst 0, 1) := dk_3 (dk_at dksX6_beyond_2 11 rfl rfl)
theorem dX6_beyond_60 : decode cX6_beyond 60 = .ok (.iconst 5, 1) := dk_8 (dk_at dksX6_beyond_2 12 rfl rfl)
theorem dX6_beyond_61 : decode cX6_beyond 61 = .ok (.invokestatic 42, 3) := dk_184 0 42 (dk_at dksX6_beyond_2 13 rfl rfl)
theorem dX6_beyond_64 : decode cX6_beyond 64 = .ok (.ifCond .eq 12, 3) := dk_153 0 12 (dk_at dksX6_beyond_2 16 rfl rfl)
theorem dX6_beyond_67 : decode cX6_beyond 67 = .ok (.bipush 6, 2) := dk_16 6 (dk_at dksX6_beyond_2 19 rfl rfl)
theorem dX6_beyond_69 : decode cX6_beyond 69 = .ok (.iload_n 2, 1) := dk_28 (dk_at dksX6_beyond_2 21 rfl rfl)
theorem dX6_beyond_70 : decode cX6_beyond 70 = .ok (.imul, 1) := dk_104 (dk_at dksX6_beyond_2 22 rfl rfl)
theorem dX6_beyond_71 : decode cX6_beyond 71 = .ok (.iload_n 3, 1) := dk_29 (dk_at dksX6_beyond_2 23 rfl rfl)
theorem dX6_beyond_72 : decode cX6_beyond 72 = .ok (.iadd, 1) := dk_96 (dk_at dksX6_beyond_3 0 rfl rfl)
theorem dX6_beyond_73 : decode cX6_beyond 73 = .ok (.goto 4, 3) := dk_167 0 4 (dk_at dksX6_beyond_3 1 rfl rfl)
theorem dX6_beyond_76 : decode cX6_beyond 76 = .ok (.iconst (-1), 1) := dk_2 (dk_at dksX6_beyond_3 4 rfl rfl)
theorem dX6_beyond_77 : decode cX6_beyond 77 = .ok (.ireturn, 1) := dk_172 (dk_at dksX6_beyond_3 5 rfl rfl)
abbrev cX6_keeper : ByteArray := prog_13_method_10_code
def yX6_keeper : MethodName := ⟨RX6, "keeper", "(II)I"⟩
def dkwX6_keeper_0 : List UInt8 := [27, 153, 0, 8, 27, 6, 160, 0, 11, 26, 27, 184, 0, 50, 167, 0, 4, 26, 172]
abbrev dktX6_keeper_0 : List UInt8 := dkwX6_keeper_0 ++ []
theorem dksX6_keeper_0 : cX6_keeper.data.toList.drop 0 = dktX6_keeper_0 := by decide +kernel
theorem dX6_keeper_0 : decode cX6_keeper 0 = .ok (.iload_n 1, 1) := dk_27 (dk_at dksX6_keeper_0 0 rfl rfl)
theorem dX6_keeper_1 : decode cX6_keeper 1 = .ok (.ifCond .eq 8, 3) := dk_153 0 8 (dk_at dksX6_keeper_0 1 rfl rfl)
theorem dX6_keeper_4 : decode cX6_keeper 4 = .ok (.iload_n 1, 1) := dk_27 (dk_at dksX6_keeper_0 4 rfl rfl)
theorem dX6_keeper_5 : decode cX6_keeper 5 = .ok (.iconst 3, 1) := dk_6 (dk_at dksX6_keeper_0 5 rfl rfl)
theorem dX6_keeper_6 : decode cX6_keeper 6 = .ok (.if_icmp .ne 11, 3) := dk_160 0 11 (dk_at dksX6_keeper_0 6 rfl rfl)
theorem dX6_keeper_9 : decode cX6_keeper 9 = .ok (.iload_n 0, 1) := dk_26 (dk_at dksX6_keeper_0 9 rfl rfl)
theorem dX6_keeper_10 : decode cX6_keeper 10 = .ok (.iload_n 1, 1) := dk_27 (dk_at dksX6_keeper_0 10 rfl rfl)
theorem dX6_keeper_11 : decode cX6_keeper 11 = .ok (.invokestatic 50, 3) := dk_184 0 50 (dk_at dksX6_keeper_0 11 rfl rfl)
theorem dX6_keeper_14 : decode cX6_keeper 14 = .ok (.goto 4, 3) := dk_167 0 4 (dk_at dksX6_keeper_0 14 rfl rfl)
theorem dX6_keeper_17 : decode cX6_keeper 17 = .ok (.iload_n 0, 1) := dk_26 (dk_at dksX6_keeper_0 17 rfl rfl)
theorem dX6_keeper_18 : decode cX6_keeper 18 = .ok (.ireturn, 1) := dk_172 (dk_at dksX6_keeper_0 18 rfl rfl)
abbrev cX6_way : ByteArray := prog_13_method_11_code
def yX6_way : MethodName := ⟨RX6, "way", "(I)I"⟩
def dkwX6_way_0 : List UInt8 := [26, 5, 112, 4, 160, 0, 7, 3, 167, 0, 4, 4, 172]
abbrev dktX6_way_0 : List UInt8 := dkwX6_way_0 ++ []
theorem dksX6_way_0 : cX6_way.data.toList.drop 0 = dktX6_way_0 := by decide +kernel
theorem dX6_way_0 : decode cX6_way 0 = .ok (.iload_n 0, 1) := dk_26 (dk_at dksX6_way_0 0 rfl rfl)
theorem dX6_way_1 : decode cX6_way 1 = .ok (.iconst 2, 1) := dk_5 (dk_at dksX6_way_0 1 rfl rfl)
theorem dX6_way_2 : decode cX6_way 2 = .ok (.irem, 1) := dk_112 (dk_at dksX6_way_0 2 rfl rfl)
theorem dX6_way_3 : decode cX6_way 3 = .ok (.iconst 1, 1) := dk_4 (dk_at dksX6_way_0 3 rfl rfl)
theorem dX6_way_4 : decode cX6_way 4 = .ok (.if_icmp .ne 7, 3) := dk_160 0 7 (dk_at dksX6_way_0 4 rfl rfl)
theorem dX6_way_7 : decode cX6_way 7 = .ok (.iconst 0, 1) := dk_3 (dk_at dksX6_way_0 7 rfl rfl)
theorem dX6_way_8 : decode cX6_way 8 = .ok (.goto 4, 3) := dk_167 0 4 (dk_at dksX6_way_0 8 rfl rfl)
theorem dX6_way_11 : decode cX6_way 11 = .ok (.iconst 1, 1) := dk_4 (dk_at dksX6_way_0 11 rfl rfl)
theorem dX6_way_12 : decode cX6_way 12 = .ok (.ireturn, 1) := dk_172 (dk_at dksX6_way_0 12 rfl rfl)
abbrev cX6_lay : ByteArray := prog_13_method_21_code
def yX6_lay : MethodName := ⟨RX6, "lay", "(I)I"⟩
def dkwX6_lay_4 : List UInt8 := [3, 79, 132, 4, 1, 167, 255, 194, 132, 3, 1, 167, 255, 179, 42, 4, 182, 0, 90, 172]
abbrev dktX6_lay_4 : List UInt8 := dkwX6_lay_4 ++ []
def dkwX6_lay_3 : List UInt8 := [29, 50, 21, 4, 28, 16, 40, 162, 0, 7, 4, 167, 0, 4, 3, 79, 42, 180, 0, 18, 29, 50, 21, 4]
abbrev dktX6_lay_3 : List UInt8 := dkwX6_lay_3 ++ dktX6_lay_4
def dkwX6_lay_2 : List UInt8 := [184, 0, 87, 154, 0, 6, 167, 0, 44, 16, 29, 28, 104, 16, 13, 96, 16, 127, 112, 61, 42, 180, 0, 15]
abbrev dktX6_lay_2 : List UInt8 := dkwX6_lay_2 ++ dktX6_lay_3
def dkwX6_lay_1 : List UInt8 := [172, 27, 61, 3, 62, 29, 16, 36, 162, 0, 77, 3, 54, 4, 21, 4, 5, 162, 0, 62, 29, 21, 4]
abbrev dktX6_lay_1 : List UInt8 := dkwX6_lay_1 ++ dktX6_lay_2
def dkwX6_lay_0 : List UInt8 := [42, 27, 3, 16, 126, 184, 0, 42, 154, 0, 7, 4, 167, 0, 4, 3, 4, 182, 0, 83, 153, 0, 5, 3]
abbrev dktX6_lay_0 : List UInt8 := dkwX6_lay_0 ++ dktX6_lay_1
theorem dksX6_lay_0 : cX6_lay.data.toList.drop 0 = dktX6_lay_0 := by decide +kernel
theorem dksX6_lay_1 : cX6_lay.data.toList.drop 24 = dktX6_lay_1 := dk_seg dksX6_lay_0 24 rfl rfl
theorem dksX6_lay_2 : cX6_lay.data.toList.drop 47 = dktX6_lay_2 := dk_seg dksX6_lay_1 23 rfl rfl
theorem dksX6_lay_3 : cX6_lay.data.toList.drop 71 = dktX6_lay_3 := dk_seg dksX6_lay_2 24 rfl rfl
theorem dksX6_lay_4 : cX6_lay.data.toList.drop 95 = dktX6_lay_4 := dk_seg dksX6_lay_3 24 rfl rfl
theorem dX6_lay_0 : decode cX6_lay 0 = .ok (.aload_n 0, 1) := dk_42 (dk_at dksX6_lay_0 0 rfl rfl)
theorem dX6_lay_1 : decode cX6_lay 1 = .ok (.iload_n 1, 1) := dk_27 (dk_at dksX6_lay_0 1 rfl rfl)
theorem dX6_lay_2 : decode cX6_lay 2 = .ok (.iconst 0, 1) := dk_3 (dk_at dksX6_lay_0 2 rfl rfl)
theorem dX6_lay_3 : decode cX6_lay 3 = .ok (.bipush 126, 2) := dk_16 126 (dk_at dksX6_lay_0 3 rfl rfl)
theorem dX6_lay_5 : decode cX6_lay 5 = .ok (.invokestatic 42, 3) := dk_184 0 42 (dk_at dksX6_lay_0 5 rfl rfl)
theorem dX6_lay_8 : decode cX6_lay 8 = .ok (.ifCond .ne 7, 3) := dk_154 0 7 (dk_at dksX6_lay_0 8 rfl rfl)
theorem dX6_lay_11 : decode cX6_lay 11 = .ok (.iconst 1, 1) := dk_4 (dk_at dksX6_lay_0 11 rfl rfl)
theorem dX6_lay_12 : decode cX6_lay 12 = .ok (.goto 4, 3) := dk_167 0 4 (dk_at dksX6_lay_0 12 rfl rfl)
theorem dX6_lay_15 : decode cX6_lay 15 = .ok (.iconst 0, 1) := dk_3 (dk_at dksX6_lay_0 15 rfl rfl)
theorem dX6_lay_16 : decode cX6_lay 16 = .ok (.iconst 1, 1) := dk_4 (dk_at dksX6_lay_0 16 rfl rfl)
theorem dX6_lay_17 : decode cX6_lay 17 = .ok (.invokevirtual 83, 3) := dk_182 0 83 (dk_at dksX6_lay_0 17 rfl rfl)
theorem dX6_lay_20 : decode cX6_lay 20 = .ok (.ifCond .eq 5, 3) := dk_153 0 5 (dk_at dksX6_lay_0 20 rfl rfl)
theorem dX6_lay_23 : decode cX6_lay 23 = .ok (.iconst 0, 1) := dk_3 (dk_at dksX6_lay_0 23 rfl rfl)
theorem dX6_lay_24 : decode cX6_lay 24 = .ok (.ireturn, 1) := dk_172 (dk_at dksX6_lay_1 0 rfl rfl)
theorem dX6_lay_25 : decode cX6_lay 25 = .ok (.iload_n 1, 1) := dk_27 (dk_at dksX6_lay_1 1 rfl rfl)
theorem dX6_lay_26 : decode cX6_lay 26 = .ok (.istore_n 2, 1) := dk_61 (dk_at dksX6_lay_1 2 rfl rfl)
theorem dX6_lay_27 : decode cX6_lay 27 = .ok (.iconst 0, 1) := dk_3 (dk_at dksX6_lay_1 3 rfl rfl)
theorem dX6_lay_28 : decode cX6_lay 28 = .ok (.istore_n 3, 1) := dk_62 (dk_at dksX6_lay_1 4 rfl rfl)
theorem dX6_lay_29 : decode cX6_lay 29 = .ok (.iload_n 3, 1) := dk_29 (dk_at dksX6_lay_1 5 rfl rfl)
theorem dX6_lay_30 : decode cX6_lay 30 = .ok (.bipush 36, 2) := dk_16 36 (dk_at dksX6_lay_1 6 rfl rfl)
theorem dX6_lay_32 : decode cX6_lay 32 = .ok (.if_icmp .ge 77, 3) := dk_162 0 77 (dk_at dksX6_lay_1 8 rfl rfl)
theorem dX6_lay_35 : decode cX6_lay 35 = .ok (.iconst 0, 1) := dk_3 (dk_at dksX6_lay_1 11 rfl rfl)
theorem dX6_lay_36 : decode cX6_lay 36 = .ok (.istore 4, 2) := dk_54 4 (dk_at dksX6_lay_1 12 rfl rfl)
theorem dX6_lay_38 : decode cX6_lay 38 = .ok (.iload 4, 2) := dk_21 4 (dk_at dksX6_lay_1 14 rfl rfl)
theorem dX6_lay_40 : decode cX6_lay 40 = .ok (.iconst 2, 1) := dk_5 (dk_at dksX6_lay_1 16 rfl rfl)
theorem dX6_lay_41 : decode cX6_lay 41 = .ok (.if_icmp .ge 62, 3) := dk_162 0 62 (dk_at dksX6_lay_1 17 rfl rfl)
theorem dX6_lay_44 : decode cX6_lay 44 = .ok (.iload_n 3, 1) := dk_29 (dk_at dksX6_lay_1 20 rfl rfl)
theorem dX6_lay_45 : decode cX6_lay 45 = .ok (.iload 4, 2) := dk_21 4 (dk_at dksX6_lay_1 21 rfl rfl)
theorem dX6_lay_47 : decode cX6_lay 47 = .ok (.invokestatic 87, 3) := dk_184 0 87 (dk_at dksX6_lay_2 0 rfl rfl)
theorem dX6_lay_50 : decode cX6_lay 50 = .ok (.ifCond .ne 6, 3) := dk_154 0 6 (dk_at dksX6_lay_2 3 rfl rfl)
theorem dX6_lay_53 : decode cX6_lay 53 = .ok (.goto 44, 3) := dk_167 0 44 (dk_at dksX6_lay_2 6 rfl rfl)
theorem dX6_lay_56 : decode cX6_lay 56 = .ok (.bipush 29, 2) := dk_16 29 (dk_at dksX6_lay_2 9 rfl rfl)
theorem dX6_lay_58 : decode cX6_lay 58 = .ok (.iload_n 2, 1) := dk_28 (dk_at dksX6_lay_2 11 rfl rfl)
theorem dX6_lay_59 : decode cX6_lay 59 = .ok (.imul, 1) := dk_104 (dk_at dksX6_lay_2 12 rfl rfl)
theorem dX6_lay_60 : decode cX6_lay 60 = .ok (.bipush 13, 2) := dk_16 13 (dk_at dksX6_lay_2 13 rfl rfl)
theorem dX6_lay_62 : decode cX6_lay 62 = .ok (.iadd, 1) := dk_96 (dk_at dksX6_lay_2 15 rfl rfl)
theorem dX6_lay_63 : decode cX6_lay 63 = .ok (.bipush 127, 2) := dk_16 127 (dk_at dksX6_lay_2 16 rfl rfl)
theorem dX6_lay_65 : decode cX6_lay 65 = .ok (.irem, 1) := dk_112 (dk_at dksX6_lay_2 18 rfl rfl)
theorem dX6_lay_66 : decode cX6_lay 66 = .ok (.istore_n 2, 1) := dk_61 (dk_at dksX6_lay_2 19 rfl rfl)
theorem dX6_lay_67 : decode cX6_lay 67 = .ok (.aload_n 0, 1) := dk_42 (dk_at dksX6_lay_2 20 rfl rfl)
theorem dX6_lay_68 : decode cX6_lay 68 = .ok (.getfield 15, 3) := dk_180 0 15 (dk_at dksX6_lay_2 21 rfl rfl)
theorem dX6_lay_71 : decode cX6_lay 71 = .ok (.iload_n 3, 1) := dk_29 (dk_at dksX6_lay_3 0 rfl rfl)
theorem dX6_lay_72 : decode cX6_lay 72 = .ok (.aaload, 1) := dk_50 (dk_at dksX6_lay_3 1 rfl rfl)
theorem dX6_lay_73 : decode cX6_lay 73 = .ok (.iload 4, 2) := dk_21 4 (dk_at dksX6_lay_3 2 rfl rfl)
theorem dX6_lay_75 : decode cX6_lay 75 = .ok (.iload_n 2, 1) := dk_28 (dk_at dksX6_lay_3 4 rfl rfl)
theorem dX6_lay_76 : decode cX6_lay 76 = .ok (.bipush 40, 2) := dk_16 40 (dk_at dksX6_lay_3 5 rfl rfl)
theorem dX6_lay_78 : decode cX6_lay 78 = .ok (.if_icmp .ge 7, 3) := dk_162 0 7 (dk_at dksX6_lay_3 7 rfl rfl)
theorem dX6_lay_81 : decode cX6_lay 81 = .ok (.iconst 1, 1) := dk_4 (dk_at dksX6_lay_3 10 rfl rfl)
theorem dX6_lay_82 : decode cX6_lay 82 = .ok (.goto 4, 3) := dk_167 0 4 (dk_at dksX6_lay_3 11 rfl rfl)
theorem dX6_lay_85 : decode cX6_lay 85 = .ok (.iconst 0, 1) := dk_3 (dk_at dksX6_lay_3 14 rfl rfl)
theorem dX6_lay_86 : decode cX6_lay 86 = .ok (.iastore, 1) := dk_79 (dk_at dksX6_lay_3 15 rfl rfl)
theorem dX6_lay_87 : decode cX6_lay 87 = .ok (.aload_n 0, 1) := dk_42 (dk_at dksX6_lay_3 16 rfl rfl)
theorem dX6_lay_88 : decode cX6_lay 88 = .ok (.getfield 18, 3) := dk_180 0 18 (dk_at dksX6_lay_3 17 rfl rfl)
theorem dX6_lay_91 : decode cX6_lay 91 = .ok (.iload_n 3, 1) := dk_29 (dk_at dksX6_lay_3 20 rfl rfl)
theorem dX6_lay_92 : decode cX6_lay 92 = .ok (.aaload, 1) := dk_50 (dk_at dksX6_lay_3 21 rfl rfl)
theorem dX6_lay_93 : decode cX6_lay 93 = .ok (.iload 4, 2) := dk_21 4 (dk_at dksX6_lay_3 22 rfl rfl)
theorem dX6_lay_95 : decode cX6_lay 95 = .ok (.iconst 0, 1) := dk_3 (dk_at dksX6_lay_4 0 rfl rfl)
theorem dX6_lay_96 : decode cX6_lay 96 = .ok (.iastore, 1) := dk_79 (dk_at dksX6_lay_4 1 rfl rfl)
theorem dX6_lay_97 : decode cX6_lay 97 = .ok (.iinc 4 1, 3) := dk_132 4 1 (dk_at dksX6_lay_4 2 rfl rfl)
theorem dX6_lay_100 : decode cX6_lay 100 = .ok (.goto (-62), 3) := dk_167 255 194 (dk_at dksX6_lay_4 5 rfl rfl)
theorem dX6_lay_103 : decode cX6_lay 103 = .ok (.iinc 3 1, 3) := dk_132 3 1 (dk_at dksX6_lay_4 8 rfl rfl)
theorem dX6_lay_106 : decode cX6_lay 106 = .ok (.goto (-77), 3) := dk_167 255 179 (dk_at dksX6_lay_4 11 rfl rfl)
theorem dX6_lay_109 : decode cX6_lay 109 = .ok (.aload_n 0, 1) := dk_42 (dk_at dksX6_lay_4 14 rfl rfl)
theorem dX6_lay_110 : decode cX6_lay 110 = .ok (.iconst 1, 1) := dk_4 (dk_at dksX6_lay_4 15 rfl rfl)
theorem dX6_lay_111 : decode cX6_lay 111 = .ok (.invokevirtual 90, 3) := dk_182 0 90 (dk_at dksX6_lay_4 16 rfl rfl)
theorem dX6_lay_114 : decode cX6_lay 114 = .ok (.ireturn, 1) := dk_172 (dk_at dksX6_lay_4 19 rfl rfl)
abbrev cX6_isWithin : ByteArray := prog_13_method_17_code
def yX6_isWithin : MethodName := ⟨RX6, "isWithin", "(II)Z"⟩
def dkwX6_isWithin_0 : List UInt8 := [26, 27, 154, 0, 7, 4, 167, 0, 4, 5, 184, 0, 50, 2, 159, 0, 7, 4, 167, 0, 4, 3, 172]
abbrev dktX6_isWithin_0 : List UInt8 := dkwX6_isWithin_0 ++ []
theorem dksX6_isWithin_0 : cX6_isWithin.data.toList.drop 0 = dktX6_isWithin_0 := by decide +kernel
theorem dX6_isWithin_0 : decode cX6_isWithin 0 = .ok (.iload_n 0, 1) := dk_26 (dk_at dksX6_isWithin_0 0 rfl rfl)
theorem dX6_isWithin_1 : decode cX6_isWithin 1 = .ok (.iload_n 1, 1) := dk_27 (dk_at dksX6_isWithin_0 1 rfl rfl)
theorem dX6_isWithin_2 : decode cX6_isWithin 2 = .ok (.ifCond .ne 7, 3) := dk_154 0 7 (dk_at dksX6_isWithin_0 2 rfl rfl)
theorem dX6_isWithin_5 : decode cX6_isWithin 5 = .ok (.iconst 1, 1) := dk_4 (dk_at dksX6_isWithin_0 5 rfl rfl)
theorem dX6_isWithin_6 : decode cX6_isWithin 6 = .ok (.goto 4, 3) := dk_167 0 4 (dk_at dksX6_isWithin_0 6 rfl rfl)
theorem dX6_isWithin_9 : decode cX6_isWithin 9 = .ok (.iconst 2, 1) := dk_5 (dk_at dksX6_isWithin_0 9 rfl rfl)
theorem dX6_isWithin_10 : decode cX6_isWithin 10 = .ok (.invokestatic 50, 3) := dk_184 0 50 (dk_at dksX6_isWithin_0 10 rfl rfl)
theorem dX6_isWithin_13 : decode cX6_isWithin 13 = .ok (.iconst (-1), 1) := dk_2 (dk_at dksX6_isWithin_0 13 rfl rfl)
theorem dX6_isWithin_14 : decode cX6_isWithin 14 = .ok (.if_icmp .eq 7, 3) := dk_159 0 7 (dk_at dksX6_isWithin_0 14 rfl rfl)
theorem dX6_isWithin_17 : decode cX6_isWithin 17 = .ok (.iconst 1, 1) := dk_4 (dk_at dksX6_isWithin_0 17 rfl rfl)
theorem dX6_isWithin_18 : decode cX6_isWithin 18 = .ok (.goto 4, 3) := dk_167 0 4 (dk_at dksX6_isWithin_0 18 rfl rfl)
theorem dX6_isWithin_21 : decode cX6_isWithin 21 = .ok (.iconst 0, 1) := dk_3 (dk_at dksX6_isWithin_0 21 rfl rfl)
theorem dX6_isWithin_22 : decode cX6_isWithin 22 = .ok (.ireturn, 1) := dk_172 (dk_at dksX6_isWithin_0 22 rfl rfl)
abbrev cX6_kinds : ByteArray := prog_13_method_20_code
def yX6_kinds : MethodName := ⟨RX6, "kinds", "(I)I"⟩
def dkwX6_kinds_2 : List UInt8 := [96, 61, 132, 4, 1, 167, 255, 217, 132, 3, 1, 167, 255, 202, 28, 172]
abbrev dktX6_kinds_2 : List UInt8 := dkwX6_kinds_2 ++ []
def dkwX6_kinds_1 : List UInt8 := [184, 0, 87, 153, 0, 20, 42, 180, 0, 15, 29, 50, 21, 4, 46, 27, 160, 0, 7, 4, 167, 0, 4, 3]
abbrev dktX6_kinds_1 : List UInt8 := dkwX6_kinds_1 ++ dktX6_kinds_2
def dkwX6_kinds_0 : List UInt8 := [3, 61, 3, 62, 29, 16, 36, 162, 0, 54, 3, 54, 4, 21, 4, 5, 162, 0, 39, 28, 29, 21, 4]
abbrev dktX6_kinds_0 : List UInt8 := dkwX6_kinds_0 ++ dktX6_kinds_1
theorem dksX6_kinds_0 : cX6_kinds.data.toList.drop 0 = dktX6_kinds_0 := by decide +kernel
theorem dksX6_kinds_1 : cX6_kinds.data.toList.drop 23 = dktX6_kinds_1 := dk_seg dksX6_kinds_0 23 rfl rfl
theorem dksX6_kinds_2 : cX6_kinds.data.toList.drop 47 = dktX6_kinds_2 := dk_seg dksX6_kinds_1 24 rfl rfl
theorem dX6_kinds_0 : decode cX6_kinds 0 = .ok (.iconst 0, 1) := dk_3 (dk_at dksX6_kinds_0 0 rfl rfl)
theorem dX6_kinds_1 : decode cX6_kinds 1 = .ok (.istore_n 2, 1) := dk_61 (dk_at dksX6_kinds_0 1 rfl rfl)
theorem dX6_kinds_2 : decode cX6_kinds 2 = .ok (.iconst 0, 1) := dk_3 (dk_at dksX6_kinds_0 2 rfl rfl)
theorem dX6_kinds_3 : decode cX6_kinds 3 = .ok (.istore_n 3, 1) := dk_62 (dk_at dksX6_kinds_0 3 rfl rfl)
theorem dX6_kinds_4 : decode cX6_kinds 4 = .ok (.iload_n 3, 1) := dk_29 (dk_at dksX6_kinds_0 4 rfl rfl)
theorem dX6_kinds_5 : decode cX6_kinds 5 = .ok (.bipush 36, 2) := dk_16 36 (dk_at dksX6_kinds_0 5 rfl rfl)
theorem dX6_kinds_7 : decode cX6_kinds 7 = .ok (.if_icmp .ge 54, 3) := dk_162 0 54 (dk_at dksX6_kinds_0 7 rfl rfl)
theorem dX6_kinds_10 : decode cX6_kinds 10 = .ok (.iconst 0, 1) := dk_3 (dk_at dksX6_kinds_0 10 rfl rfl)
theorem dX6_kinds_11 : decode cX6_kinds 11 = .ok (.istore 4, 2) := dk_54 4 (dk_at dksX6_kinds_0 11 rfl rfl)
theorem dX6_kinds_13 : decode cX6_kinds 13 = .ok (.iload 4, 2) := dk_21 4 (dk_at dksX6_kinds_0 13 rfl rfl)
theorem dX6_kinds_15 : decode cX6_kinds 15 = .ok (.iconst 2, 1) := dk_5 (dk_at dksX6_kinds_0 15 rfl rfl)
theorem dX6_kinds_16 : decode cX6_kinds 16 = .ok (.if_icmp .ge 39, 3) := dk_162 0 39 (dk_at dksX6_kinds_0 16 rfl rfl)
theorem dX6_kinds_19 : decode cX6_kinds 19 = .ok (.iload_n 2, 1) := dk_28 (dk_at dksX6_kinds_0 19 rfl rfl)
theorem dX6_kinds_20 : decode cX6_kinds 20 = .ok (.iload_n 3, 1) := dk_29 (dk_at dksX6_kinds_0 20 rfl rfl)
theorem dX6_kinds_21 : decode cX6_kinds 21 = .ok (.iload 4, 2) := dk_21 4 (dk_at dksX6_kinds_0 21 rfl rfl)
theorem dX6_kinds_23 : decode cX6_kinds 23 = .ok (.invokestatic 87, 3) := dk_184 0 87 (dk_at dksX6_kinds_1 0 rfl rfl)
theorem dX6_kinds_26 : decode cX6_kinds 26 = .ok (.ifCond .eq 20, 3) := dk_153 0 20 (dk_at dksX6_kinds_1 3 rfl rfl)
theorem dX6_kinds_29 : decode cX6_kinds 29 = .ok (.aload_n 0, 1) := dk_42 (dk_at dksX6_kinds_1 6 rfl rfl)
theorem dX6_kinds_30 : decode cX6_kinds 30 = .ok (.getfield 15, 3) := dk_180 0 15 (dk_at dksX6_kinds_1 7 rfl rfl)
theorem dX6_kinds_33 : decode cX6_kinds 33 = .ok (.iload_n 3, 1) := dk_29 (dk_at dksX6_kinds_1 10 rfl rfl)
theorem dX6_kinds_34 : decode cX6_kinds 34 = .ok (.aaload, 1) := dk_50 (dk_at dksX6_kinds_1 11 rfl rfl)
theorem dX6_kinds_35 : decode cX6_kinds 35 = .ok (.iload 4, 2) := dk_21 4 (dk_at dksX6_kinds_1 12 rfl rfl)
theorem dX6_kinds_37 : decode cX6_kinds 37 = .ok (.iaload, 1) := dk_46 (dk_at dksX6_kinds_1 14 rfl rfl)
theorem dX6_kinds_38 : decode cX6_kinds 38 = .ok (.iload_n 1, 1) := dk_27 (dk_at dksX6_kinds_1 15 rfl rfl)
theorem dX6_kinds_39 : decode cX6_kinds 39 = .ok (.if_icmp .ne 7, 3) := dk_160 0 7 (dk_at dksX6_kinds_1 16 rfl rfl)
theorem dX6_kinds_42 : decode cX6_kinds 42 = .ok (.iconst 1, 1) := dk_4 (dk_at dksX6_kinds_1 19 rfl rfl)
theorem dX6_kinds_43 : decode cX6_kinds 43 = .ok (.goto 4, 3) := dk_167 0 4 (dk_at dksX6_kinds_1 20 rfl rfl)
theorem dX6_kinds_46 : decode cX6_kinds 46 = .ok (.iconst 0, 1) := dk_3 (dk_at dksX6_kinds_1 23 rfl rfl)
theorem dX6_kinds_47 : decode cX6_kinds 47 = .ok (.iadd, 1) := dk_96 (dk_at dksX6_kinds_2 0 rfl rfl)
theorem dX6_kinds_48 : decode cX6_kinds 48 = .ok (.istore_n 2, 1) := dk_61 (dk_at dksX6_kinds_2 1 rfl rfl)
theorem dX6_kinds_49 : decode cX6_kinds 49 = .ok (.iinc 4 1, 3) := dk_132 4 1 (dk_at dksX6_kinds_2 2 rfl rfl)
theorem dX6_kinds_52 : decode cX6_kinds 52 = .ok (.goto (-39), 3) := dk_167 255 217 (dk_at dksX6_kinds_2 5 rfl rfl)
theorem dX6_kinds_55 : decode cX6_kinds 55 = .ok (.iinc 3 1, 3) := dk_132 3 1 (dk_at dksX6_kinds_2 8 rfl rfl)
theorem dX6_kinds_58 : decode cX6_kinds 58 = .ok (.goto (-54), 3) := dk_167 255 202 (dk_at dksX6_kinds_2 11 rfl rfl)
theorem dX6_kinds_61 : decode cX6_kinds 61 = .ok (.iload_n 2, 1) := dk_28 (dk_at dksX6_kinds_2 14 rfl rfl)
theorem dX6_kinds_62 : decode cX6_kinds 62 = .ok (.ireturn, 1) := dk_172 (dk_at dksX6_kinds_2 15 rfl rfl)
abbrev cX6_cell : ByteArray := prog_13_method_23_code
def yX6_cell : MethodName := ⟨RX6, "cell", "(IZZ)I"⟩
def dkwX6_cell_1 : List UInt8 := [180, 0, 25, 27, 29, 84, 42, 180, 0, 25, 184, 0, 93, 172]
abbrev dktX6_cell_1 : List UInt8 := dkwX6_cell_1 ++ []
def dkwX6_cell_0 : List UInt8 := [42, 27, 184, 0, 76, 4, 182, 0, 83, 153, 0, 5, 3, 172, 42, 180, 0, 21, 27, 28, 84, 42]
abbrev dktX6_cell_0 : List UInt8 := dkwX6_cell_0 ++ dktX6_cell_1
theorem dksX6_cell_0 : cX6_cell.data.toList.drop 0 = dktX6_cell_0 := by decide +kernel
theorem dksX6_cell_1 : cX6_cell.data.toList.drop 22 = dktX6_cell_1 := dk_seg dksX6_cell_0 22 rfl rfl
theorem dX6_cell_0 : decode cX6_cell 0 = .ok (.aload_n 0, 1) := dk_42 (dk_at dksX6_cell_0 0 rfl rfl)
theorem dX6_cell_1 : decode cX6_cell 1 = .ok (.iload_n 1, 1) := dk_27 (dk_at dksX6_cell_0 1 rfl rfl)
theorem dX6_cell_2 : decode cX6_cell 2 = .ok (.invokestatic 76, 3) := dk_184 0 76 (dk_at dksX6_cell_0 2 rfl rfl)
theorem dX6_cell_5 : decode cX6_cell 5 = .ok (.iconst 1, 1) := dk_4 (dk_at dksX6_cell_0 5 rfl rfl)
theorem dX6_cell_6 : decode cX6_cell 6 = .ok (.invokevirtual 83, 3) := dk_182 0 83 (dk_at dksX6_cell_0 6 rfl rfl)
theorem dX6_cell_9 : decode cX6_cell 9 = .ok (.ifCond .eq 5, 3) := dk_153 0 5 (dk_at dksX6_cell_0 9 rfl rfl)
theorem dX6_cell_12 : decode cX6_cell 12 = .ok (.iconst 0, 1) := dk_3 (dk_at dksX6_cell_0 12 rfl rfl)
theorem dX6_cell_13 : decode cX6_cell 13 = .ok (.ireturn, 1) := dk_172 (dk_at dksX6_cell_0 13 rfl rfl)
theorem dX6_cell_14 : decode cX6_cell 14 = .ok (.aload_n 0, 1) := dk_42 (dk_at dksX6_cell_0 14 rfl rfl)
theorem dX6_cell_15 : decode cX6_cell 15 = .ok (.getfield 21, 3) := dk_180 0 21 (dk_at dksX6_cell_0 15 rfl rfl)
theorem dX6_cell_18 : decode cX6_cell 18 = .ok (.iload_n 1, 1) := dk_27 (dk_at dksX6_cell_0 18 rfl rfl)
theorem dX6_cell_19 : decode cX6_cell 19 = .ok (.iload_n 2, 1) := dk_28 (dk_at dksX6_cell_0 19 rfl rfl)
theorem dX6_cell_20 : decode cX6_cell 20 = .ok (.bastore, 1) := dk_84 (dk_at dksX6_cell_0 20 rfl rfl)
theorem dX6_cell_21 : decode cX6_cell 21 = .ok (.aload_n 0, 1) := dk_42 (dk_at dksX6_cell_0 21 rfl rfl)
theorem dX6_cell_22 : decode cX6_cell 22 = .ok (.getfield 25, 3) := dk_180 0 25 (dk_at dksX6_cell_1 0 rfl rfl)
theorem dX6_cell_25 : decode cX6_cell 25 = .ok (.iload_n 1, 1) := dk_27 (dk_at dksX6_cell_1 3 rfl rfl)
theorem dX6_cell_26 : decode cX6_cell 26 = .ok (.iload_n 3, 1) := dk_29 (dk_at dksX6_cell_1 4 rfl rfl)
theorem dX6_cell_27 : decode cX6_cell 27 = .ok (.bastore, 1) := dk_84 (dk_at dksX6_cell_1 5 rfl rfl)
theorem dX6_cell_28 : decode cX6_cell 28 = .ok (.aload_n 0, 1) := dk_42 (dk_at dksX6_cell_1 6 rfl rfl)
theorem dX6_cell_29 : decode cX6_cell 29 = .ok (.getfield 25, 3) := dk_180 0 25 (dk_at dksX6_cell_1 7 rfl rfl)
theorem dX6_cell_32 : decode cX6_cell 32 = .ok (.invokestatic 93, 3) := dk_184 0 93 (dk_at dksX6_cell_1 10 rfl rfl)
theorem dX6_cell_35 : decode cX6_cell 35 = .ok (.ireturn, 1) := dk_172 (dk_at dksX6_cell_1 13 rfl rfl)
abbrev cX6_all : ByteArray := prog_13_method_22_code
def yX6_all : MethodName := ⟨RX6, "all", "([Z)I"⟩
def dkwX6_all_1 : List UInt8 := [21, 5, 153, 0, 7, 4, 167, 0, 4, 3, 96, 60, 132, 4, 1, 167, 255, 228, 27, 172]
abbrev dktX6_all_1 : List UInt8 := dkwX6_all_1 ++ []
def dkwX6_all_0 : List UInt8 := [3, 60, 42, 77, 44, 190, 62, 3, 54, 4, 21, 4, 29, 162, 0, 28, 44, 21, 4, 51, 54, 5, 27]
abbrev dktX6_all_0 : List UInt8 := dkwX6_all_0 ++ dktX6_all_1
theorem dksX6_all_0 : cX6_all.data.toList.drop 0 = dktX6_all_0 := by decide +kernel
theorem dksX6_all_1 : cX6_all.data.toList.drop 23 = dktX6_all_1 := dk_seg dksX6_all_0 23 rfl rfl
theorem dX6_all_0 : decode cX6_all 0 = .ok (.iconst 0, 1) := dk_3 (dk_at dksX6_all_0 0 rfl rfl)
theorem dX6_all_1 : decode cX6_all 1 = .ok (.istore_n 1, 1) := dk_60 (dk_at dksX6_all_0 1 rfl rfl)
theorem dX6_all_2 : decode cX6_all 2 = .ok (.aload_n 0, 1) := dk_42 (dk_at dksX6_all_0 2 rfl rfl)
theorem dX6_all_3 : decode cX6_all 3 = .ok (.astore_n 2, 1) := dk_77 (dk_at dksX6_all_0 3 rfl rfl)
theorem dX6_all_4 : decode cX6_all 4 = .ok (.aload_n 2, 1) := dk_44 (dk_at dksX6_all_0 4 rfl rfl)
theorem dX6_all_5 : decode cX6_all 5 = .ok (.arraylength, 1) := dk_190 (dk_at dksX6_all_0 5 rfl rfl)
theorem dX6_all_6 : decode cX6_all 6 = .ok (.istore_n 3, 1) := dk_62 (dk_at dksX6_all_0 6 rfl rfl)
theorem dX6_all_7 : decode cX6_all 7 = .ok (.iconst 0, 1) := dk_3 (dk_at dksX6_all_0 7 rfl rfl)
theorem dX6_all_8 : decode cX6_all 8 = .ok (.istore 4, 2) := dk_54 4 (dk_at dksX6_all_0 8 rfl rfl)
theorem dX6_all_10 : decode cX6_all 10 = .ok (.iload 4, 2) := dk_21 4 (dk_at dksX6_all_0 10 rfl rfl)
theorem dX6_all_12 : decode cX6_all 12 = .ok (.iload_n 3, 1) := dk_29 (dk_at dksX6_all_0 12 rfl rfl)
theorem dX6_all_13 : decode cX6_all 13 = .ok (.if_icmp .ge 28, 3) := dk_162 0 28 (dk_at dksX6_all_0 13 rfl rfl)
theorem dX6_all_16 : decode cX6_all 16 = .ok (.aload_n 2, 1) := dk_44 (dk_at dksX6_all_0 16 rfl rfl)
theorem dX6_all_17 : decode cX6_all 17 = .ok (.iload 4, 2) := dk_21 4 (dk_at dksX6_all_0 17 rfl rfl)
theorem dX6_all_19 : decode cX6_all 19 = .ok (.baload, 1) := dk_51 (dk_at dksX6_all_0 19 rfl rfl)
theorem dX6_all_20 : decode cX6_all 20 = .ok (.istore 5, 2) := dk_54 5 (dk_at dksX6_all_0 20 rfl rfl)
theorem dX6_all_22 : decode cX6_all 22 = .ok (.iload_n 1, 1) := dk_27 (dk_at dksX6_all_0 22 rfl rfl)
theorem dX6_all_23 : decode cX6_all 23 = .ok (.iload 5, 2) := dk_21 5 (dk_at dksX6_all_1 0 rfl rfl)
theorem dX6_all_25 : decode cX6_all 25 = .ok (.ifCond .eq 7, 3) := dk_153 0 7 (dk_at dksX6_all_1 2 rfl rfl)
theorem dX6_all_28 : decode cX6_all 28 = .ok (.iconst 1, 1) := dk_4 (dk_at dksX6_all_1 5 rfl rfl)
theorem dX6_all_29 : decode cX6_all 29 = .ok (.goto 4, 3) := dk_167 0 4 (dk_at dksX6_all_1 6 rfl rfl)
theorem dX6_all_32 : decode cX6_all 32 = .ok (.iconst 0, 1) := dk_3 (dk_at dksX6_all_1 9 rfl rfl)
theorem dX6_all_33 : decode cX6_all 33 = .ok (.iadd, 1) := dk_96 (dk_at dksX6_all_1 10 rfl rfl)
theorem dX6_all_34 : decode cX6_all 34 = .ok (.istore_n 1, 1) := dk_60 (dk_at dksX6_all_1 11 rfl rfl)
theorem dX6_all_35 : decode cX6_all 35 = .ok (.iinc 4 1, 3) := dk_132 4 1 (dk_at dksX6_all_1 12 rfl rfl)
theorem dX6_all_38 : decode cX6_all 38 = .ok (.goto (-28), 3) := dk_167 255 228 (dk_at dksX6_all_1 15 rfl rfl)
theorem dX6_all_41 : decode cX6_all 41 = .ok (.iload_n 1, 1) := dk_27 (dk_at dksX6_all_1 18 rfl rfl)
theorem dX6_all_42 : decode cX6_all 42 = .ok (.ireturn, 1) := dk_172 (dk_at dksX6_all_1 19 rfl rfl)
abbrev cX6_walker : ByteArray := prog_13_method_25_code
def yX6_walker : MethodName := ⟨RX6, "walker", "(IIIZ)I"⟩
def dkwX6_walker_6 : List UInt8 := [182, 0, 46, 4, 100, 172]
abbrev dktX6_walker_6 : List UInt8 := dkwX6_walker_6 ++ []
def dkwX6_walker_5 : List UInt8 := [4, 84, 167, 0, 8, 25, 5, 184, 0, 110, 42, 180, 0, 31, 25, 5, 182, 0, 114, 87, 42, 180, 0, 31]
abbrev dktX6_walker_5 : List UInt8 := dkwX6_walker_5 ++ dktX6_walker_6
def dkwX6_walker_4 : List UInt8 := [181, 0, 104, 25, 5, 29, 181, 0, 107, 21, 4, 153, 0, 18, 25, 5, 180, 0, 97, 25, 5, 180, 0, 101]
abbrev dktX6_walker_4 : List UInt8 := dkwX6_walker_4 ++ dktX6_walker_5
def dkwX6_walker_3 : List UInt8 := [187, 0, 72, 89, 183, 0, 100, 58, 5, 25, 5, 7, 27, 104, 28, 96, 181, 0, 101, 25, 5, 27]
abbrev dktX6_walker_3 : List UInt8 := dkwX6_walker_3 ++ dktX6_walker_4
def dkwX6_walker_2 : List UInt8 := [180, 0, 31, 182, 0, 46, 6, 160, 0, 7, 4, 167, 0, 4, 3, 6, 182, 0, 38, 153, 0, 5, 3, 172]
abbrev dktX6_walker_2 : List UInt8 := dkwX6_walker_2 ++ dktX6_walker_3
def dkwX6_walker_1 : List UInt8 := [17, 1, 244, 184, 0, 42, 154, 0, 7, 4, 167, 0, 4, 3, 5, 182, 0, 38, 154, 0, 27, 42, 42]
abbrev dktX6_walker_1 : List UInt8 := dkwX6_walker_1 ++ dktX6_walker_2
def dkwX6_walker_0 : List UInt8 := [42, 27, 184, 0, 76, 4, 182, 0, 83, 154, 0, 58, 42, 28, 184, 0, 80, 154, 0, 14, 29, 4]
abbrev dktX6_walker_0 : List UInt8 := dkwX6_walker_0 ++ dktX6_walker_1
theorem dksX6_walker_0 : cX6_walker.data.toList.drop 0 = dktX6_walker_0 := by decide +kernel
theorem dksX6_walker_1 : cX6_walker.data.toList.drop 22 = dktX6_walker_1 := dk_seg dksX6_walker_0 22 rfl rfl
theorem dksX6_walker_2 : cX6_walker.data.toList.drop 45 = dktX6_walker_2 := dk_seg dksX6_walker_1 23 rfl rfl
theorem dksX6_walker_3 : cX6_walker.data.toList.drop 69 = dktX6_walker_3 := dk_seg dksX6_walker_2 24 rfl rfl
theorem dksX6_walker_4 : cX6_walker.data.toList.drop 91 = dktX6_walker_4 := dk_seg dksX6_walker_3 22 rfl rfl
theorem dksX6_walker_5 : cX6_walker.data.toList.drop 115 = dktX6_walker_5 := dk_seg dksX6_walker_4 24 rfl rfl
theorem dksX6_walker_6 : cX6_walker.data.toList.drop 139 = dktX6_walker_6 := dk_seg dksX6_walker_5 24 rfl rfl
theorem dX6_walker_0 : decode cX6_walker 0 = .ok (.aload_n 0, 1) := dk_42 (dk_at dksX6_walker_0 0 rfl rfl)
theorem dX6_walker_1 : decode cX6_walker 1 = .ok (.iload_n 1, 1) := dk_27 (dk_at dksX6_walker_0 1 rfl rfl)
theorem dX6_walker_2 : decode cX6_walker 2 = .ok (.invokestatic 76, 3) := dk_184 0 76 (dk_at dksX6_walker_0 2 rfl rfl)
theorem dX6_walker_5 : decode cX6_walker 5 = .ok (.iconst 1, 1) := dk_4 (dk_at dksX6_walker_0 5 rfl rfl)
theorem dX6_walker_6 : decode cX6_walker 6 = .ok (.invokevirtual 83, 3) := dk_182 0 83 (dk_at dksX6_walker_0 6 rfl rfl)
theorem dX6_walker_9 : decode cX6_walker 9 = .ok (.ifCond .ne 58, 3) := dk_154 0 58 (dk_at dksX6_walker_0 9 rfl rfl)
theorem dX6_walker_12 : decode cX6_walker 12 = .ok (.aload_n 0, 1) := dk_42 (dk_at dksX6_walker_0 12 rfl rfl)
theorem dX6_walker_13 : decode cX6_walker 13 = .ok (.iload_n 2, 1) := dk_28 (dk_at dksX6_walker_0 13 rfl rfl)
theorem dX6_walker_14 : decode cX6_walker 14 = .ok (.invokestatic 80, 3) := dk_184 0 80 (dk_at dksX6_walker_0 14 rfl rfl)
theorem dX6_walker_17 : decode cX6_walker 17 = .ok (.ifCond .ne 14, 3) := dk_154 0 14 (dk_at dksX6_walker_0 17 rfl rfl)
theorem dX6_walker_20 : decode cX6_walker 20 = .ok (.iload_n 3, 1) := dk_29 (dk_at dksX6_walker_0 20 rfl rfl)
theorem dX6_walker_21 : decode cX6_walker 21 = .ok (.iconst 1, 1) := dk_4 (dk_at dksX6_walker_0 21 rfl rfl)
theorem dX6_walker_22 : decode cX6_walker 22 = .ok (.sipush 500, 3) := dk_17 1 244 (dk_at dksX6_walker_1 0 rfl rfl)
theorem dX6_walker_25 : decode cX6_walker 25 = .ok (.invokestatic 42, 3) := dk_184 0 42 (dk_at dksX6_walker_1 3 rfl rfl)
theorem dX6_walker_28 : decode cX6_walker 28 = .ok (.ifCond .ne 7, 3) := dk_154 0 7 (dk_at dksX6_walker_1 6 rfl rfl)
theorem dX6_walker_31 : decode cX6_walker 31 = .ok (.iconst 1, 1) := dk_4 (dk_at dksX6_walker_1 9 rfl rfl)
theorem dX6_walker_32 : decode cX6_walker 32 = .ok (.goto 4, 3) := dk_167 0 4 (dk_at dksX6_walker_1 10 rfl rfl)
theorem dX6_walker_35 : decode cX6_walker 35 = .ok (.iconst 0, 1) := dk_3 (dk_at dksX6_walker_1 13 rfl rfl)
theorem dX6_walker_36 : decode cX6_walker 36 = .ok (.iconst 2, 1) := dk_5 (dk_at dksX6_walker_1 14 rfl rfl)
theorem dX6_walker_37 : decode cX6_walker 37 = .ok (.invokevirtual 38, 3) := dk_182 0 38 (dk_at dksX6_walker_1 15 rfl rfl)
theorem dX6_walker_40 : decode cX6_walker 40 = .ok (.ifCond .ne 27, 3) := dk_154 0 27 (dk_at dksX6_walker_1 18 rfl rfl)
theorem dX6_walker_43 : decode cX6_walker 43 = .ok (.aload_n 0, 1) := dk_42 (dk_at dksX6_walker_1 21 rfl rfl)
theorem dX6_walker_44 : decode cX6_walker 44 = .ok (.aload_n 0, 1) := dk_42 (dk_at dksX6_walker_1 22 rfl rfl)
theorem dX6_walker_45 : decode cX6_walker 45 = .ok (.getfield 31, 3) := dk_180 0 31 (dk_at dksX6_walker_2 0 rfl rfl)
theorem dX6_walker_48 : decode cX6_walker 48 = .ok (.invokevirtual 46, 3) := dk_182 0 46 (dk_at dksX6_walker_2 3 rfl rfl)
theorem dX6_walker_51 : decode cX6_walker 51 = .ok (.iconst 3, 1) := dk_6 (dk_at dksX6_walker_2 6 rfl rfl)
theorem dX6_walker_52 : decode cX6_walker 52 = .ok (.if_icmp .ne 7, 3) := dk_160 0 7 (dk_at dksX6_walker_2 7 rfl rfl)
theorem dX6_walker_55 : decode cX6_walker 55 = .ok (.iconst 1, 1) := dk_4 (dk_at dksX6_walker_2 10 rfl rfl)
theorem dX6_walker_56 : decode cX6_walker 56 = .ok (.goto 4, 3) := dk_167 0 4 (dk_at dksX6_walker_2 11 rfl rfl)
theorem dX6_walker_59 : decode cX6_walker 59 = .ok (.iconst 0, 1) := dk_3 (dk_at dksX6_walker_2 14 rfl rfl)
theorem dX6_walker_60 : decode cX6_walker 60 = .ok (.iconst 3, 1) := dk_6 (dk_at dksX6_walker_2 15 rfl rfl)
theorem dX6_walker_61 : decode cX6_walker 61 = .ok (.invokevirtual 38, 3) := dk_182 0 38 (dk_at dksX6_walker_2 16 rfl rfl)
theorem dX6_walker_64 : decode cX6_walker 64 = .ok (.ifCond .eq 5, 3) := dk_153 0 5 (dk_at dksX6_walker_2 19 rfl rfl)
theorem dX6_walker_67 : decode cX6_walker 67 = .ok (.iconst 0, 1) := dk_3 (dk_at dksX6_walker_2 22 rfl rfl)
theorem dX6_walker_68 : decode cX6_walker 68 = .ok (.ireturn, 1) := dk_172 (dk_at dksX6_walker_2 23 rfl rfl)
theorem dX6_walker_69 : decode cX6_walker 69 = .ok (.new 72, 3) := dk_187 0 72 (dk_at dksX6_walker_3 0 rfl rfl)
theorem dX6_walker_72 : decode cX6_walker 72 = .ok (.dup, 1) := dk_89 (dk_at dksX6_walker_3 3 rfl rfl)
theorem dX6_walker_73 : decode cX6_walker 73 = .ok (.invokespecial 100, 3) := dk_183 0 100 (dk_at dksX6_walker_3 4 rfl rfl)
theorem dX6_walker_76 : decode cX6_walker 76 = .ok (.astore 5, 2) := dk_58 5 (dk_at dksX6_walker_3 7 rfl rfl)
theorem dX6_walker_78 : decode cX6_walker 78 = .ok (.aload 5, 2) := dk_25 5 (dk_at dksX6_walker_3 9 rfl rfl)
theorem dX6_walker_80 : decode cX6_walker 80 = .ok (.iconst 4, 1) := dk_7 (dk_at dksX6_walker_3 11 rfl rfl)
theorem dX6_walker_81 : decode cX6_walker 81 = .ok (.iload_n 1, 1) := dk_27 (dk_at dksX6_walker_3 12 rfl rfl)
theorem dX6_walker_82 : decode cX6_walker 82 = .ok (.imul, 1) := dk_104 (dk_at dksX6_walker_3 13 rfl rfl)
theorem dX6_walker_83 : decode cX6_walker 83 = .ok (.iload_n 2, 1) := dk_28 (dk_at dksX6_walker_3 14 rfl rfl)
theorem dX6_walker_84 : decode cX6_walker 84 = .ok (.iadd, 1) := dk_96 (dk_at dksX6_walker_3 15 rfl rfl)
theorem dX6_walker_85 : decode cX6_walker 85 = .ok (.putfield 101, 3) := dk_181 0 101 (dk_at dksX6_walker_3 16 rfl rfl)
theorem dX6_walker_88 : decode cX6_walker 88 = .ok (.aload 5, 2) := dk_25 5 (dk_at dksX6_walker_3 19 rfl rfl)
theorem dX6_walker_90 : decode cX6_walker 90 = .ok (.iload_n 1, 1) := dk_27 (dk_at dksX6_walker_3 21 rfl rfl)
theorem dX6_walker_91 : decode cX6_walker 91 = .ok (.putfield 104, 3) := dk_181 0 104 (dk_at dksX6_walker_4 0 rfl rfl)
theorem dX6_walker_94 : decode cX6_walker 94 = .ok (.aload 5, 2) := dk_25 5 (dk_at dksX6_walker_4 3 rfl rfl)
theorem dX6_walker_96 : decode cX6_walker 96 = .ok (.iload_n 3, 1) := dk_29 (dk_at dksX6_walker_4 5 rfl rfl)
theorem dX6_walker_97 : decode cX6_walker 97 = .ok (.putfield 107, 3) := dk_181 0 107 (dk_at dksX6_walker_4 6 rfl rfl)
theorem dX6_walker_100 : decode cX6_walker 100 = .ok (.iload 4, 2) := dk_21 4 (dk_at dksX6_walker_4 9 rfl rfl)
theorem dX6_walker_102 : decode cX6_walker 102 = .ok (.ifCond .eq 18, 3) := dk_153 0 18 (dk_at dksX6_walker_4 11 rfl rfl)
theorem dX6_walker_105 : decode cX6_walker 105 = .ok (.aload 5, 2) := dk_25 5 (dk_at dksX6_walker_4 14 rfl rfl)
theorem dX6_walker_107 : decode cX6_walker 107 = .ok (.getfield 97, 3) := dk_180 0 97 (dk_at dksX6_walker_4 16 rfl rfl)
theorem dX6_walker_110 : decode cX6_walker 110 = .ok (.aload 5, 2) := dk_25 5 (dk_at dksX6_walker_4 19 rfl rfl)
theorem dX6_walker_112 : decode cX6_walker 112 = .ok (.getfield 101, 3) := dk_180 0 101 (dk_at dksX6_walker_4 21 rfl rfl)
theorem dX6_walker_115 : decode cX6_walker 115 = .ok (.iconst 1, 1) := dk_4 (dk_at dksX6_walker_5 0 rfl rfl)
theorem dX6_walker_116 : decode cX6_walker 116 = .ok (.bastore, 1) := dk_84 (dk_at dksX6_walker_5 1 rfl rfl)
theorem dX6_walker_117 : decode cX6_walker 117 = .ok (.goto 8, 3) := dk_167 0 8 (dk_at dksX6_walker_5 2 rfl rfl)
theorem dX6_walker_120 : decode cX6_walker 120 = .ok (.aload 5, 2) := dk_25 5 (dk_at dksX6_walker_5 5 rfl rfl)
theorem dX6_walker_122 : decode cX6_walker 122 = .ok (.invokestatic 110, 3) := dk_184 0 110 (dk_at dksX6_walker_5 7 rfl rfl)
theorem dX6_walker_125 : decode cX6_walker 125 = .ok (.aload_n 0, 1) := dk_42 (dk_at dksX6_walker_5 10 rfl rfl)
theorem dX6_walker_126 : decode cX6_walker 126 = .ok (.getfield 31, 3) := dk_180 0 31 (dk_at dksX6_walker_5 11 rfl rfl)
theorem dX6_walker_129 : decode cX6_walker 129 = .ok (.aload 5, 2) := dk_25 5 (dk_at dksX6_walker_5 14 rfl rfl)
theorem dX6_walker_131 : decode cX6_walker 131 = .ok (.invokevirtual 114, 3) := dk_182 0 114 (dk_at dksX6_walker_5 16 rfl rfl)
theorem dX6_walker_134 : decode cX6_walker 134 = .ok (.pop, 1) := dk_87 (dk_at dksX6_walker_5 19 rfl rfl)
theorem dX6_walker_135 : decode cX6_walker 135 = .ok (.aload_n 0, 1) := dk_42 (dk_at dksX6_walker_5 20 rfl rfl)
theorem dX6_walker_136 : decode cX6_walker 136 = .ok (.getfield 31, 3) := dk_180 0 31 (dk_at dksX6_walker_5 21 rfl rfl)
theorem dX6_walker_139 : decode cX6_walker 139 = .ok (.invokevirtual 46, 3) := dk_182 0 46 (dk_at dksX6_walker_6 0 rfl rfl)
theorem dX6_walker_142 : decode cX6_walker 142 = .ok (.iconst 1, 1) := dk_4 (dk_at dksX6_walker_6 3 rfl rfl)
theorem dX6_walker_143 : decode cX6_walker 143 = .ok (.isub, 1) := dk_100 (dk_at dksX6_walker_6 4 rfl rfl)
theorem dX6_walker_144 : decode cX6_walker 144 = .ok (.ireturn, 1) := dk_172 (dk_at dksX6_walker_6 5 rfl rfl)
abbrev cX6_fill : ByteArray := prog_13_method_24_code
def yX6_fill : MethodName := ⟨RX6, "fill", "(LBumpwardModel$Walker;)V"⟩
def dkwX6_fill_0 : List UInt8 := [3, 60, 27, 17, 0, 144, 162, 0, 16, 42, 180, 0, 97, 27, 4, 84, 132, 1, 1, 167, 255, 239, 177]
abbrev dktX6_fill_0 : List UInt8 := dkwX6_fill_0 ++ []
theorem dksX6_fill_0 : cX6_fill.data.toList.drop 0 = dktX6_fill_0 := by decide +kernel
theorem dX6_fill_0 : decode cX6_fill 0 = .ok (.iconst 0, 1) := dk_3 (dk_at dksX6_fill_0 0 rfl rfl)
theorem dX6_fill_1 : decode cX6_fill 1 = .ok (.istore_n 1, 1) := dk_60 (dk_at dksX6_fill_0 1 rfl rfl)
theorem dX6_fill_2 : decode cX6_fill 2 = .ok (.iload_n 1, 1) := dk_27 (dk_at dksX6_fill_0 2 rfl rfl)
theorem dX6_fill_3 : decode cX6_fill 3 = .ok (.sipush 144, 3) := dk_17 0 144 (dk_at dksX6_fill_0 3 rfl rfl)
theorem dX6_fill_6 : decode cX6_fill 6 = .ok (.if_icmp .ge 16, 3) := dk_162 0 16 (dk_at dksX6_fill_0 6 rfl rfl)
theorem dX6_fill_9 : decode cX6_fill 9 = .ok (.aload_n 0, 1) := dk_42 (dk_at dksX6_fill_0 9 rfl rfl)
theorem dX6_fill_10 : decode cX6_fill 10 = .ok (.getfield 97, 3) := dk_180 0 97 (dk_at dksX6_fill_0 10 rfl rfl)
theorem dX6_fill_13 : decode cX6_fill 13 = .ok (.iload_n 1, 1) := dk_27 (dk_at dksX6_fill_0 13 rfl rfl)
theorem dX6_fill_14 : decode cX6_fill 14 = .ok (.iconst 1, 1) := dk_4 (dk_at dksX6_fill_0 14 rfl rfl)
theorem dX6_fill_15 : decode cX6_fill 15 = .ok (.bastore, 1) := dk_84 (dk_at dksX6_fill_0 15 rfl rfl)
theorem dX6_fill_16 : decode cX6_fill 16 = .ok (.iinc 1 1, 3) := dk_132 1 1 (dk_at dksX6_fill_0 16 rfl rfl)
theorem dX6_fill_19 : decode cX6_fill 19 = .ok (.goto (-17), 3) := dk_167 255 239 (dk_at dksX6_fill_0 19 rfl rfl)
theorem dX6_fill_22 : decode cX6_fill 22 = .ok (.return_, 1) := dk_177 (dk_at dksX6_fill_0 22 rfl rfl)
abbrev cX6_forward : ByteArray := prog_13_method_34_code
def yX6_forward : MethodName := ⟨RX6, "forward", "(IZ)Z"⟩
def dkwX6_forward_11 : List UInt8 := [21, 8, 184, 0, 175, 45, 45, 21, 8, 184, 0, 179, 184, 0, 183, 42, 45, 182, 0, 187, 21, 8, 172]
abbrev dktX6_forward_11 : List UInt8 := dkwX6_forward_11 ++ []
def dkwX6_forward_10 : List UInt8 := [167, 0, 4, 3, 96, 181, 0, 172, 21, 4, 2, 159, 0, 17, 45, 21, 4, 7, 108, 21, 4, 7, 112]
abbrev dktX6_forward_10 : List UInt8 := dkwX6_forward_10 ++ dktX6_forward_11
def dkwX6_forward_9 : List UInt8 := [21, 7, 184, 0, 50, 104, 21, 7, 96, 181, 0, 101, 45, 89, 180, 0, 172, 21, 8, 153, 0, 7, 4]
abbrev dktX6_forward_9 : List UInt8 := dkwX6_forward_9 ++ dktX6_forward_10
def dkwX6_forward_8 : List UInt8 := [21, 9, 153, 0, 7, 4, 167, 0, 4, 3, 96, 181, 0, 169, 21, 9, 154, 0, 19, 45, 7, 21, 6]
abbrev dktX6_forward_8 : List UInt8 := dkwX6_forward_8 ++ dktX6_forward_9
def dkwX6_forward_7 : List UInt8 := [16, 13, 96, 16, 127, 112, 181, 0, 7, 42, 89, 180, 0, 166, 4, 96, 181, 0, 166, 45, 89, 180, 0, 169]
abbrev dktX6_forward_7 : List UInt8 := dkwX6_forward_7 ++ dktX6_forward_8
def dkwX6_forward_6 : List UInt8 := [180, 0, 7, 6, 112, 154, 0, 7, 4, 167, 0, 4, 3, 54, 9, 42, 16, 29, 42, 180, 0, 7, 104]
abbrev dktX6_forward_6 : List UInt8 := dkwX6_forward_6 ++ dktX6_forward_7
def dkwX6_forward_5 : List UInt8 := [182, 0, 163, 54, 8, 21, 8, 154, 0, 99, 3, 54, 9, 42, 180, 0, 21, 21, 6, 51, 153, 0, 46, 42]
abbrev dktX6_forward_5 : List UInt8 := dkwX6_forward_5 ++ dktX6_forward_6
def dkwX6_forward_4 : List UInt8 := [153, 0, 5, 3, 172, 45, 182, 0, 160, 54, 6, 45, 180, 0, 101, 7, 112, 54, 7, 42, 21, 6, 21, 7]
abbrev dktX6_forward_4 : List UInt8 := dkwX6_forward_4 ++ dktX6_forward_5
def dkwX6_forward_3 : List UInt8 := [159, 0, 17, 42, 180, 0, 25, 21, 5, 51, 153, 0, 7, 4, 167, 0, 4, 3, 5, 182, 0, 38]
abbrev dktX6_forward_3 : List UInt8 := dkwX6_forward_3 ++ dktX6_forward_4
def dkwX6_forward_2 : List UInt8 := [21, 4, 7, 112, 184, 0, 50, 54, 5, 42, 42, 45, 28, 182, 0, 156, 154, 0, 19, 21, 5, 2]
abbrev dktX6_forward_2 : List UInt8 := dkwX6_forward_2 ++ dktX6_forward_3
def dkwX6_forward_1 : List UInt8 := [192, 0, 72, 78, 45, 182, 0, 122, 54, 4, 21, 4, 2, 160, 0, 7, 2, 167, 0, 14, 21, 4, 7, 108]
abbrev dktX6_forward_1 : List UInt8 := dkwX6_forward_1 ++ dktX6_forward_2
def dkwX6_forward_0 : List UInt8 := [42, 42, 27, 182, 0, 149, 4, 182, 0, 83, 153, 0, 5, 3, 172, 42, 180, 0, 31, 27, 182, 0, 152]
abbrev dktX6_forward_0 : List UInt8 := dkwX6_forward_0 ++ dktX6_forward_1
theorem dksX6_forward_0 : cX6_forward.data.toList.drop 0 = dktX6_forward_0 := by decide +kernel
theorem dksX6_forward_1 : cX6_forward.data.toList.drop 23 = dktX6_forward_1 := dk_seg dksX6_forward_0 23 rfl rfl
theorem dksX6_forward_2 : cX6_forward.data.toList.drop 47 = dktX6_forward_2 := dk_seg dksX6_forward_1 24 rfl rfl
theorem dksX6_forward_3 : cX6_forward.data.toList.drop 69 = dktX6_forward_3 := dk_seg dksX6_forward_2 22 rfl rfl
theorem dksX6_forward_4 : cX6_forward.data.toList.drop 91 = dktX6_forward_4 := dk_seg dksX6_forward_3 22 rfl rfl
theorem dksX6_forward_5 : cX6_forward.data.toList.drop 115 = dktX6_forward_5 := dk_seg dksX6_forward_4 24 rfl rfl
theorem dksX6_forward_6 : cX6_forward.data.toList.drop 139 = dktX6_forward_6 := dk_seg dksX6_forward_5 24 rfl rfl
theorem dksX6_forward_7 : cX6_forward.data.toList.drop 162 = dktX6_forward_7 := dk_seg dksX6_forward_6 23 rfl rfl
theorem dksX6_forward_8 : cX6_forward.data.toList.drop 186 = dktX6_forward_8 := dk_seg dksX6_forward_7 24 rfl rfl
theorem dksX6_forward_9 : cX6_forward.data.toList.drop 209 = dktX6_forward_9 := dk_seg dksX6_forward_8 23 rfl rfl
theorem dksX6_forward_10 : cX6_forward.data.toList.drop 232 = dktX6_forward_10 := dk_seg dksX6_forward_9 23 rfl rfl
theorem dksX6_forward_11 : cX6_forward.data.toList.drop 255 = dktX6_forward_11 := dk_seg dksX6_forward_10 23 rfl rfl
theorem dX6_forward_0 : decode cX6_forward 0 = .ok (.aload_n 0, 1) := dk_42 (dk_at dksX6_forward_0 0 rfl rfl)
theorem dX6_forward_1 : decode cX6_forward 1 = .ok (.aload_n 0, 1) := dk_42 (dk_at dksX6_forward_0 1 rfl rfl)
theorem dX6_forward_2 : decode cX6_forward 2 = .ok (.iload_n 1, 1) := dk_27 (dk_at dksX6_forward_0 2 rfl rfl)
theorem dX6_forward_3 : decode cX6_forward 3 = .ok (.invokevirtual 149, 3) := dk_182 0 149 (dk_at dksX6_forward_0 3 rfl rfl)
theorem dX6_forward_6 : decode cX6_forward 6 = .ok (.iconst 1, 1) := dk_4 (dk_at dksX6_forward_0 6 rfl rfl)
theorem dX6_forward_7 : decode cX6_forward 7 = .ok (.invokevirtual 83, 3) := dk_182 0 83 (dk_at dksX6_forward_0 7 rfl rfl)
theorem dX6_forward_10 : decode cX6_forward 10 = .ok (.ifCond .eq 5, 3) := dk_153 0 5 (dk_at dksX6_forward_0 10 rfl rfl)
theorem dX6_forward_13 : decode cX6_forward 13 = .ok (.iconst 0, 1) := dk_3 (dk_at dksX6_forward_0 13 rfl rfl)
theorem dX6_forward_14 : decode cX6_forward 14 = .ok (.ireturn, 1) := dk_172 (dk_at dksX6_forward_0 14 rfl rfl)
theorem dX6_forward_15 : decode cX6_forward 15 = .ok (.aload_n 0, 1) := dk_42 (dk_at dksX6_forward_0 15 rfl rfl)
theorem dX6_forward_16 : decode cX6_forward 16 = .ok (.getfield 31, 3) := dk_180 0 31 (dk_at dksX6_forward_0 16 rfl rfl)
theorem dX6_forward_19 : decode cX6_forward 19 = .ok (.iload_n 1, 1) := dk_27 (dk_at dksX6_forward_0 19 rfl rfl)
theorem dX6_forward_20 : decode cX6_forward 20 = .ok (.invokevirtual 152, 3) := dk_182 0 152 (dk_at dksX6_forward_0 20 rfl rfl)
theorem dX6_forward_23 : decode cX6_forward 23 = .ok (.checkcast 72, 3) := dk_192 0 72 (dk_at dksX6_forward_1 0 rfl rfl)
theorem dX6_forward_26 : decode cX6_forward 26 = .ok (.astore_n 3, 1) := dk_78 (dk_at dksX6_forward_1 3 rfl rfl)
theorem dX6_forward_27 : decode cX6_forward 27 = .ok (.aload_n 3, 1) := dk_45 (dk_at dksX6_forward_1 4 rfl rfl)
theorem dX6_forward_28 : decode cX6_forward 28 = .ok (.invokevirtual 122, 3) := dk_182 0 122 (dk_at dksX6_forward_1 5 rfl rfl)
theorem dX6_forward_31 : decode cX6_forward 31 = .ok (.istore 4, 2) := dk_54 4 (dk_at dksX6_forward_1 8 rfl rfl)
theorem dX6_forward_33 : decode cX6_forward 33 = .ok (.iload 4, 2) := dk_21 4 (dk_at dksX6_forward_1 10 rfl rfl)
theorem dX6_forward_35 : decode cX6_forward 35 = .ok (.iconst (-1), 1) := dk_2 (dk_at dksX6_forward_1 12 rfl rfl)
theorem dX6_forward_36 : decode cX6_forward 36 = .ok (.if_icmp .ne 7, 3) := dk_160 0 7 (dk_at dksX6_forward_1 13 rfl rfl)
theorem dX6_forward_39 : decode cX6_forward 39 = .ok (.iconst (-1), 1) := dk_2 (dk_at dksX6_forward_1 16 rfl rfl)
theorem dX6_forward_40 : decode cX6_forward 40 = .ok (.goto 14, 3) := dk_167 0 14 (dk_at dksX6_forward_1 17 rfl rfl)
theorem dX6_forward_43 : decode cX6_forward 43 = .ok (.iload 4, 2) := dk_21 4 (dk_at dksX6_forward_1 20 rfl rfl)
theorem dX6_forward_45 : decode cX6_forward 45 = .ok (.iconst 4, 1) := dk_7 (dk_at dksX6_forward_1 22 rfl rfl)
theorem dX6_forward_46 : decode cX6_forward 46 = .ok (.idiv, 1) := dk_108 (dk_at dksX6_forward_1 23 rfl rfl)
theorem dX6_forward_47 : decode cX6_forward 47 = .ok (.iload 4, 2) := dk_21 4 (dk_at dksX6_forward_2 0 rfl rfl)
theorem dX6_forward_49 : decode cX6_forward 49 = .ok (.iconst 4, 1) := dk_7 (dk_at dksX6_forward_2 2 rfl rfl)
theorem dX6_forward_50 : decode cX6_forward 50 = .ok (.irem, 1) := dk_112 (dk_at dksX6_forward_2 3 rfl rfl)
theorem dX6_forward_51 : decode cX6_forward 51 = .ok (.invokestatic 50, 3) := dk_184 0 50 (dk_at dksX6_forward_2 4 rfl rfl)
theorem dX6_forward_54 : decode cX6_forward 54 = .ok (.istore 5, 2) := dk_54 5 (dk_at dksX6_forward_2 7 rfl rfl)
theorem dX6_forward_56 : decode cX6_forward 56 = .ok (.aload_n 0, 1) := dk_42 (dk_at dksX6_forward_2 9 rfl rfl)
theorem dX6_forward_57 : decode cX6_forward 57 = .ok (.aload_n 0, 1) := dk_42 (dk_at dksX6_forward_2 10 rfl rfl)
theorem dX6_forward_58 : decode cX6_forward 58 = .ok (.aload_n 3, 1) := dk_45 (dk_at dksX6_forward_2 11 rfl rfl)
theorem dX6_forward_59 : decode cX6_forward 59 = .ok (.iload_n 2, 1) := dk_28 (dk_at dksX6_forward_2 12 rfl rfl)
theorem dX6_forward_60 : decode cX6_forward 60 = .ok (.invokevirtual 156, 3) := dk_182 0 156 (dk_at dksX6_forward_2 13 rfl rfl)
theorem dX6_forward_63 : decode cX6_forward 63 = .ok (.ifCond .ne 19, 3) := dk_154 0 19 (dk_at dksX6_forward_2 16 rfl rfl)
theorem dX6_forward_66 : decode cX6_forward 66 = .ok (.iload 5, 2) := dk_21 5 (dk_at dksX6_forward_2 19 rfl rfl)
theorem dX6_forward_68 : decode cX6_forward 68 = .ok (.iconst (-1), 1) := dk_2 (dk_at dksX6_forward_2 21 rfl rfl)
theorem dX6_forward_69 : decode cX6_forward 69 = .ok (.if_icmp .eq 17, 3) := dk_159 0 17 (dk_at dksX6_forward_3 0 rfl rfl)
theorem dX6_forward_72 : decode cX6_forward 72 = .ok (.aload_n 0, 1) := dk_42 (dk_at dksX6_forward_3 3 rfl rfl)
theorem dX6_forward_73 : decode cX6_forward 73 = .ok (.getfield 25, 3) := dk_180 0 25 (dk_at dksX6_forward_3 4 rfl rfl)
theorem dX6_forward_76 : decode cX6_forward 76 = .ok (.iload 5, 2) := dk_21 5 (dk_at dksX6_forward_3 7 rfl rfl)
theorem dX6_forward_78 : decode cX6_forward 78 = .ok (.baload, 1) := dk_51 (dk_at dksX6_forward_3 9 rfl rfl)
theorem dX6_forward_79 : decode cX6_forward 79 = .ok (.ifCond .eq 7, 3) := dk_153 0 7 (dk_at dksX6_forward_3 10 rfl rfl)
theorem dX6_forward_82 : decode cX6_forward 82 = .ok (.iconst 1, 1) := dk_4 (dk_at dksX6_forward_3 13 rfl rfl)
theorem dX6_forward_83 : decode cX6_forward 83 = .ok (.goto 4, 3) := dk_167 0 4 (dk_at dksX6_forward_3 14 rfl rfl)
theorem dX6_forward_86 : decode cX6_forward 86 = .ok (.iconst 0, 1) := dk_3 (dk_at dksX6_forward_3 17 rfl rfl)
theorem dX6_forward_87 : decode cX6_forward 87 = .ok (.iconst 2, 1) := dk_5 (dk_at dksX6_forward_3 18 rfl rfl)
theorem dX6_forward_88 : decode cX6_forward 88 = .ok (.invokevirtual 38, 3) := dk_182 0 38 (dk_at dksX6_forward_3 19 rfl rfl)
theorem dX6_forward_91 : decode cX6_forward 91 = .ok (.ifCond .eq 5, 3) := dk_153 0 5 (dk_at dksX6_forward_4 0 rfl rfl)
theorem dX6_forward_94 : decode cX6_forward 94 = .ok (.iconst 0, 1) := dk_3 (dk_at dksX6_forward_4 3 rfl rfl)
theorem dX6_forward_95 : decode cX6_forward 95 = .ok (.ireturn, 1) := dk_172 (dk_at dksX6_forward_4 4 rfl rfl)
theorem dX6_forward_96 : decode cX6_forward 96 = .ok (.aload_n 3, 1) := dk_45 (dk_at dksX6_forward_4 5 rfl rfl)
theorem dX6_forward_97 : decode cX6_forward 97 = .ok (.invokevirtual 160, 3) := dk_182 0 160 (dk_at dksX6_forward_4 6 rfl rfl)
theorem dX6_forward_100 : decode cX6_forward 100 = .ok (.istore 6, 2) := dk_54 6 (dk_at dksX6_forward_4 9 rfl rfl)
theorem dX6_forward_102 : decode cX6_forward 102 = .ok (.aload_n 3, 1) := dk_45 (dk_at dksX6_forward_4 11 rfl rfl)
theorem dX6_forward_103 : decode cX6_forward 103 = .ok (.getfield 101, 3) := dk_180 0 101 (dk_at dksX6_forward_4 12 rfl rfl)
theorem dX6_forward_106 : decode cX6_forward 106 = .ok (.iconst 4, 1) := dk_7 (dk_at dksX6_forward_4 15 rfl rfl)
theorem dX6_forward_107 : decode cX6_forward 107 = .ok (.irem, 1) := dk_112 (dk_at dksX6_forward_4 16 rfl rfl)
theorem dX6_forward_108 : decode cX6_forward 108 = .ok (.istore 7, 2) := dk_54 7 (dk_at dksX6_forward_4 17 rfl rfl)
theorem dX6_forward_110 : decode cX6_forward 110 = .ok (.aload_n 0, 1) := dk_42 (dk_at dksX6_forward_4 19 rfl rfl)
theorem dX6_forward_111 : decode cX6_forward 111 = .ok (.iload 6, 2) := dk_21 6 (dk_at dksX6_forward_4 20 rfl rfl)
theorem dX6_forward_113 : decode cX6_forward 113 = .ok (.iload 7, 2) := dk_21 7 (dk_at dksX6_forward_4 22 rfl rfl)
theorem dX6_forward_115 : decode cX6_forward 115 = .ok (.invokevirtual 163, 3) := dk_182 0 163 (dk_at dksX6_forward_5 0 rfl rfl)
theorem dX6_forward_118 : decode cX6_forward 118 = .ok (.istore 8, 2) := dk_54 8 (dk_at dksX6_forward_5 3 rfl rfl)
theorem dX6_forward_120 : decode cX6_forward 120 = .ok (.iload 8, 2) := dk_21 8 (dk_at dksX6_forward_5 5 rfl rfl)
theorem dX6_forward_122 : decode cX6_forward 122 = .ok (.ifCond .ne 99, 3) := dk_154 0 99 (dk_at dksX6_forward_5 7 rfl rfl)
theorem dX6_forward_125 : decode cX6_forward 125 = .ok (.iconst 0, 1) := dk_3 (dk_at dksX6_forward_5 10 rfl rfl)
theorem dX6_forward_126 : decode cX6_forward 126 = .ok (.istore 9, 2) := dk_54 9 (dk_at dksX6_forward_5 11 rfl rfl)
theorem dX6_forward_128 : decode cX6_forward 128 = .ok (.aload_n 0, 1) := dk_42 (dk_at dksX6_forward_5 13 rfl rfl)
theorem dX6_forward_129 : decode cX6_forward 129 = .ok (.getfield 21, 3) := dk_180 0 21 (dk_at dksX6_forward_5 14 rfl rfl)
theorem dX6_forward_132 : decode cX6_forward 132 = .ok (.iload 6, 2) := dk_21 6 (dk_at dksX6_forward_5 17 rfl rfl)
theorem dX6_forward_134 : decode cX6_forward 134 = .ok (.baload, 1) := dk_51 (dk_at dksX6_forward_5 19 rfl rfl)
theorem dX6_forward_135 : decode cX6_forward 135 = .ok (.ifCond .eq 46, 3) := dk_153 0 46 (dk_at dksX6_forward_5 20 rfl rfl)
theorem dX6_forward_138 : decode cX6_forward 138 = .ok (.aload_n 0, 1) := dk_42 (dk_at dksX6_forward_5 23 rfl rfl)
theorem dX6_forward_139 : decode cX6_forward 139 = .ok (.getfield 7, 3) := dk_180 0 7 (dk_at dksX6_forward_6 0 rfl rfl)
theorem dX6_forward_142 : decode cX6_forward 142 = .ok (.iconst 3, 1) := dk_6 (dk_at dksX6_forward_6 3 rfl rfl)
theorem dX6_forward_143 : decode cX6_forward 143 = .ok (.irem, 1) := dk_112 (dk_at dksX6_forward_6 4 rfl rfl)
theorem dX6_forward_144 : decode cX6_forward 144 = .ok (.ifCond .ne 7, 3) := dk_154 0 7 (dk_at dksX6_forward_6 5 rfl rfl)
theorem dX6_forward_147 : decode cX6_forward 147 = .ok (.iconst 1, 1) := dk_4 (dk_at dksX6_forward_6 8 rfl rfl)
theorem dX6_forward_148 : decode cX6_forward 148 = .ok (.goto 4, 3) := dk_167 0 4 (dk_at dksX6_forward_6 9 rfl rfl)
theorem dX6_forward_151 : decode cX6_forward 151 = .ok (.iconst 0, 1) := dk_3 (dk_at dksX6_forward_6 12 rfl rfl)
theorem dX6_forward_152 : decode cX6_forward 152 = .ok (.istore 9, 2) := dk_54 9 (dk_at dksX6_forward_6 13 rfl rfl)
theorem dX6_forward_154 : decode cX6_forward 154 = .ok (.aload_n 0, 1) := dk_42 (dk_at dksX6_forward_6 15 rfl rfl)
theorem dX6_forward_155 : decode cX6_forward 155 = .ok (.bipush 29, 2) := dk_16 29 (dk_at dksX6_forward_6 16 rfl rfl)
theorem dX6_forward_157 : decode cX6_forward 157 = .ok (.aload_n 0, 1) := dk_42 (dk_at dksX6_forward_6 18 rfl rfl)
theorem dX6_forward_158 : decode cX6_forward 158 = .ok (.getfield 7, 3) := dk_180 0 7 (dk_at dksX6_forward_6 19 rfl rfl)
theorem dX6_forward_161 : decode cX6_forward 161 = .ok (.imul, 1) := dk_104 (dk_at dksX6_forward_6 22 rfl rfl)
theorem dX6_forward_162 : decode cX6_forward 162 = .ok (.bipush 13, 2) := dk_16 13 (dk_at dksX6_forward_7 0 rfl rfl)
theorem dX6_forward_164 : decode cX6_forward 164 = .ok (.iadd, 1) := dk_96 (dk_at dksX6_forward_7 2 rfl rfl)
theorem dX6_forward_165 : decode cX6_forward 165 = .ok (.bipush 127, 2) := dk_16 127 (dk_at dksX6_forward_7 3 rfl rfl)
theorem dX6_forward_167 : decode cX6_forward 167 = .ok (.irem, 1) := dk_112 (dk_at dksX6_forward_7 5 rfl rfl)
theorem dX6_forward_168 : decode cX6_forward 168 = .ok (.putfield 7, 3) := dk_181 0 7 (dk_at dksX6_forward_7 6 rfl rfl)
theorem dX6_forward_171 : decode cX6_forward 171 = .ok (.aload_n 0, 1) := dk_42 (dk_at dksX6_forward_7 9 rfl rfl)
theorem dX6_forward_172 : decode cX6_forward 172 = .ok (.dup, 1) := dk_89 (dk_at dksX6_forward_7 10 rfl rfl)
theorem dX6_forward_173 : decode cX6_forward 173 = .ok (.getfield 166, 3) := dk_180 0 166 (dk_at dksX6_forward_7 11 rfl rfl)
theorem dX6_forward_176 : decode cX6_forward 176 = .ok (.iconst 1, 1) := dk_4 (dk_at dksX6_forward_7 14 rfl rfl)
theorem dX6_forward_177 : decode cX6_forward 177 = .ok (.iadd, 1) := dk_96 (dk_at dksX6_forward_7 15 rfl rfl)
theorem dX6_forward_178 : decode cX6_forward 178 = .ok (.putfield 166, 3) := dk_181 0 166 (dk_at dksX6_forward_7 16 rfl rfl)
theorem dX6_forward_181 : decode cX6_forward 181 = .ok (.aload_n 3, 1) := dk_45 (dk_at dksX6_forward_7 19 rfl rfl)
theorem dX6_forward_182 : decode cX6_forward 182 = .ok (.dup, 1) := dk_89 (dk_at dksX6_forward_7 20 rfl rfl)
theorem dX6_forward_183 : decode cX6_forward 183 = .ok (.getfield 169, 3) := dk_180 0 169 (dk_at dksX6_forward_7 21 rfl rfl)
theorem dX6_forward_186 : decode cX6_forward 186 = .ok (.iload 9, 2) := dk_21 9 (dk_at dksX6_forward_8 0 rfl rfl)
theorem dX6_forward_188 : decode cX6_forward 188 = .ok (.ifCond .eq 7, 3) := dk_153 0 7 (dk_at dksX6_forward_8 2 rfl rfl)
theorem dX6_forward_191 : decode cX6_forward 191 = .ok (.iconst 1, 1) := dk_4 (dk_at dksX6_forward_8 5 rfl rfl)
theorem dX6_forward_192 : decode cX6_forward 192 = .ok (.goto 4, 3) := dk_167 0 4 (dk_at dksX6_forward_8 6 rfl rfl)
theorem dX6_forward_195 : decode cX6_forward 195 = .ok (.iconst 0, 1) := dk_3 (dk_at dksX6_forward_8 9 rfl rfl)
theorem dX6_forward_196 : decode cX6_forward 196 = .ok (.iadd, 1) := dk_96 (dk_at dksX6_forward_8 10 rfl rfl)
theorem dX6_forward_197 : decode cX6_forward 197 = .ok (.putfield 169, 3) := dk_181 0 169 (dk_at dksX6_forward_8 11 rfl rfl)
theorem dX6_forward_200 : decode cX6_forward 200 = .ok (.iload 9, 2) := dk_21 9 (dk_at dksX6_forward_8 14 rfl rfl)
theorem dX6_forward_202 : decode cX6_forward 202 = .ok (.ifCond .ne 19, 3) := dk_154 0 19 (dk_at dksX6_forward_8 16 rfl rfl)
theorem dX6_forward_205 : decode cX6_forward 205 = .ok (.aload_n 3, 1) := dk_45 (dk_at dksX6_forward_8 19 rfl rfl)
theorem dX6_forward_206 : decode cX6_forward 206 = .ok (.iconst 4, 1) := dk_7 (dk_at dksX6_forward_8 20 rfl rfl)
theorem dX6_forward_207 : decode cX6_forward 207 = .ok (.iload 6, 2) := dk_21 6 (dk_at dksX6_forward_8 21 rfl rfl)
theorem dX6_forward_209 : decode cX6_forward 209 = .ok (.iload 7, 2) := dk_21 7 (dk_at dksX6_forward_9 0 rfl rfl)
theorem dX6_forward_211 : decode cX6_forward 211 = .ok (.invokestatic 50, 3) := dk_184 0 50 (dk_at dksX6_forward_9 2 rfl rfl)
theorem dX6_forward_214 : decode cX6_forward 214 = .ok (.imul, 1) := dk_104 (dk_at dksX6_forward_9 5 rfl rfl)
theorem dX6_forward_215 : decode cX6_forward 215 = .ok (.iload 7, 2) := dk_21 7 (dk_at dksX6_forward_9 6 rfl rfl)
theorem dX6_forward_217 : decode cX6_forward 217 = .ok (.iadd, 1) := dk_96 (dk_at dksX6_forward_9 8 rfl rfl)
theorem dX6_forward_218 : decode cX6_forward 218 = .ok (.putfield 101, 3) := dk_181 0 101 (dk_at dksX6_forward_9 9 rfl rfl)
theorem dX6_forward_221 : decode cX6_forward 221 = .ok (.aload_n 3, 1) := dk_45 (dk_at dksX6_forward_9 12 rfl rfl)
theorem dX6_forward_222 : decode cX6_forward 222 = .ok (.dup, 1) := dk_89 (dk_at dksX6_forward_9 13 rfl rfl)
theorem dX6_forward_223 : decode cX6_forward 223 = .ok (.getfield 172, 3) := dk_180 0 172 (dk_at dksX6_forward_9 14 rfl rfl)
theorem dX6_forward_226 : decode cX6_forward 226 = .ok (.iload 8, 2) := dk_21 8 (dk_at dksX6_forward_9 17 rfl rfl)
theorem dX6_forward_228 : decode cX6_forward 228 = .ok (.ifCond .eq 7, 3) := dk_153 0 7 (dk_at dksX6_forward_9 19 rfl rfl)
theorem dX6_forward_231 : decode cX6_forward 231 = .ok (.iconst 1, 1) := dk_4 (dk_at dksX6_forward_9 22 rfl rfl)
theorem dX6_forward_232 : decode cX6_forward 232 = .ok (.goto 4, 3) := dk_167 0 4 (dk_at dksX6_forward_10 0 rfl rfl)
theorem dX6_forward_235 : decode cX6_forward 235 = .ok (.iconst 0, 1) := dk_3 (dk_at dksX6_forward_10 3 rfl rfl)
theorem dX6_forward_236 : decode cX6_forward 236 = .ok (.iadd, 1) := dk_96 (dk_at dksX6_forward_10 4 rfl rfl)
theorem dX6_forward_237 : decode cX6_forward 237 = .ok (.putfield 172, 3) := dk_181 0 172 (dk_at dksX6_forward_10 5 rfl rfl)
theorem dX6_forward_240 : decode cX6_forward 240 = .ok (.iload 4, 2) := dk_21 4 (dk_at dksX6_forward_10 8 rfl rfl)
theorem dX6_forward_242 : decode cX6_forward 242 = .ok (.iconst (-1), 1) := dk_2 (dk_at dksX6_forward_10 10 rfl rfl)
theorem dX6_forward_243 : decode cX6_forward 243 = .ok (.if_icmp .eq 17, 3) := dk_159 0 17 (dk_at dksX6_forward_10 11 rfl rfl)
theorem dX6_forward_246 : decode cX6_forward 246 = .ok (.aload_n 3, 1) := dk_45 (dk_at dksX6_forward_10 14 rfl rfl)
theorem dX6_forward_247 : decode cX6_forward 247 = .ok (.iload 4, 2) := dk_21 4 (dk_at dksX6_forward_10 15 rfl rfl)
theorem dX6_forward_249 : decode cX6_forward 249 = .ok (.iconst 4, 1) := dk_7 (dk_at dksX6_forward_10 17 rfl rfl)
theorem dX6_forward_250 : decode cX6_forward 250 = .ok (.idiv, 1) := dk_108 (dk_at dksX6_forward_10 18 rfl rfl)
theorem dX6_forward_251 : decode cX6_forward 251 = .ok (.iload 4, 2) := dk_21 4 (dk_at dksX6_forward_10 19 rfl rfl)
theorem dX6_forward_253 : decode cX6_forward 253 = .ok (.iconst 4, 1) := dk_7 (dk_at dksX6_forward_10 21 rfl rfl)
theorem dX6_forward_254 : decode cX6_forward 254 = .ok (.irem, 1) := dk_112 (dk_at dksX6_forward_10 22 rfl rfl)
theorem dX6_forward_255 : decode cX6_forward 255 = .ok (.iload 8, 2) := dk_21 8 (dk_at dksX6_forward_11 0 rfl rfl)
theorem dX6_forward_257 : decode cX6_forward 257 = .ok (.invokestatic 175, 3) := dk_184 0 175 (dk_at dksX6_forward_11 2 rfl rfl)
theorem dX6_forward_260 : decode cX6_forward 260 = .ok (.aload_n 3, 1) := dk_45 (dk_at dksX6_forward_11 5 rfl rfl)
theorem dX6_forward_261 : decode cX6_forward 261 = .ok (.aload_n 3, 1) := dk_45 (dk_at dksX6_forward_11 6 rfl rfl)
theorem dX6_forward_262 : decode cX6_forward 262 = .ok (.iload 8, 2) := dk_21 8 (dk_at dksX6_forward_11 7 rfl rfl)
theorem dX6_forward_264 : decode cX6_forward 264 = .ok (.invokestatic 179, 3) := dk_184 0 179 (dk_at dksX6_forward_11 9 rfl rfl)
theorem dX6_forward_267 : decode cX6_forward 267 = .ok (.invokestatic 183, 3) := dk_184 0 183 (dk_at dksX6_forward_11 12 rfl rfl)
theorem dX6_forward_270 : decode cX6_forward 270 = .ok (.aload_n 0, 1) := dk_42 (dk_at dksX6_forward_11 15 rfl rfl)
theorem dX6_forward_271 : decode cX6_forward 271 = .ok (.aload_n 3, 1) := dk_45 (dk_at dksX6_forward_11 16 rfl rfl)
theorem dX6_forward_272 : decode cX6_forward 272 = .ok (.invokevirtual 187, 3) := dk_182 0 187 (dk_at dksX6_forward_11 17 rfl rfl)
theorem dX6_forward_275 : decode cX6_forward 275 = .ok (.iload 8, 2) := dk_21 8 (dk_at dksX6_forward_11 20 rfl rfl)
theorem dX6_forward_277 : decode cX6_forward 277 = .ok (.ireturn, 1) := dk_172 (dk_at dksX6_forward_11 22 rfl rfl)
abbrev cX6_isNoWalker : ByteArray := prog_13_method_8_code
def yX6_isNoWalker : MethodName := ⟨RX6, "isNoWalker", "(I)Z"⟩
def dkwX6_isNoWalker_0 : List UInt8 := [27, 3, 42, 180, 0, 31, 182, 0, 46, 4, 100, 184, 0, 42, 154, 0, 7, 4, 167, 0, 4, 3, 172]
abbrev dktX6_isNoWalker_0 : List UInt8 := dkwX6_isNoWalker_0 ++ []
theorem dksX6_isNoWalker_0 : cX6_isNoWalker.data.toList.drop 0 = dktX6_isNoWalker_0 := by decide +kernel
theorem dX6_isNoWalker_0 : decode cX6_isNoWalker 0 = .ok (.iload_n 1, 1) := dk_27 (dk_at dksX6_isNoWalker_0 0 rfl rfl)
theorem dX6_isNoWalker_1 : decode cX6_isNoWalker 1 = .ok (.iconst 0, 1) := dk_3 (dk_at dksX6_isNoWalker_0 1 rfl rfl)
theorem dX6_isNoWalker_2 : decode cX6_isNoWalker 2 = .ok (.aload_n 0, 1) := dk_42 (dk_at dksX6_isNoWalker_0 2 rfl rfl)
theorem dX6_isNoWalker_3 : decode cX6_isNoWalker 3 = .ok (.getfield 31, 3) := dk_180 0 31 (dk_at dksX6_isNoWalker_0 3 rfl rfl)
theorem dX6_isNoWalker_6 : decode cX6_isNoWalker 6 = .ok (.invokevirtual 46, 3) := dk_182 0 46 (dk_at dksX6_isNoWalker_0 6 rfl rfl)
theorem dX6_isNoWalker_9 : decode cX6_isNoWalker 9 = .ok (.iconst 1, 1) := dk_4 (dk_at dksX6_isNoWalker_0 9 rfl rfl)
theorem dX6_isNoWalker_10 : decode cX6_isNoWalker 10 = .ok (.isub, 1) := dk_100 (dk_at dksX6_isNoWalker_0 10 rfl rfl)
theorem dX6_isNoWalker_11 : decode cX6_isNoWalker 11 = .ok (.invokestatic 42, 3) := dk_184 0 42 (dk_at dksX6_isNoWalker_0 11 rfl rfl)
theorem dX6_isNoWalker_14 : decode cX6_isNoWalker 14 = .ok (.ifCond .ne 7, 3) := dk_154 0 7 (dk_at dksX6_isNoWalker_0 14 rfl rfl)
theorem dX6_isNoWalker_17 : decode cX6_isNoWalker 17 = .ok (.iconst 1, 1) := dk_4 (dk_at dksX6_isNoWalker_0 17 rfl rfl)
theorem dX6_isNoWalker_18 : decode cX6_isNoWalker 18 = .ok (.goto 4, 3) := dk_167 0 4 (dk_at dksX6_isNoWalker_0 18 rfl rfl)
theorem dX6_isNoWalker_21 : decode cX6_isNoWalker 21 = .ok (.iconst 0, 1) := dk_3 (dk_at dksX6_isNoWalker_0 21 rfl rfl)
theorem dX6_isNoWalker_22 : decode cX6_isNoWalker 22 = .ok (.ireturn, 1) := dk_172 (dk_at dksX6_isNoWalker_0 22 rfl rfl)
abbrev cX6_isRefused : ByteArray := prog_13_method_30_code
def yX6_isRefused : MethodName := ⟨RX6, "isRefused", "(LBumpwardModel$Walker;Z)Z"⟩
def dkwX6_isRefused_1 : List UInt8 := [17, 11, 184, 160, 0, 7, 4, 167, 0, 4, 3, 172]
abbrev dktX6_isRefused_1 : List UInt8 := dkwX6_isRefused_1 ++ []
def dkwX6_isRefused_0 : List UInt8 := [43, 180, 0, 107, 153, 0, 25, 28, 154, 0, 11, 42, 43, 182, 0, 136, 153, 0, 13, 42, 180, 0, 54]
abbrev dktX6_isRefused_0 : List UInt8 := dkwX6_isRefused_0 ++ dktX6_isRefused_1
theorem dksX6_isRefused_0 : cX6_isRefused.data.toList.drop 0 = dktX6_isRefused_0 := by decide +kernel
theorem dksX6_isRefused_1 : cX6_isRefused.data.toList.drop 23 = dktX6_isRefused_1 := dk_seg dksX6_isRefused_0 23 rfl rfl
theorem dX6_isRefused_0 : decode cX6_isRefused 0 = .ok (.aload_n 1, 1) := dk_43 (dk_at dksX6_isRefused_0 0 rfl rfl)
theorem dX6_isRefused_1 : decode cX6_isRefused 1 = .ok (.getfield 107, 3) := dk_180 0 107 (dk_at dksX6_isRefused_0 1 rfl rfl)
theorem dX6_isRefused_4 : decode cX6_isRefused 4 = .ok (.ifCond .eq 25, 3) := dk_153 0 25 (dk_at dksX6_isRefused_0 4 rfl rfl)
theorem dX6_isRefused_7 : decode cX6_isRefused 7 = .ok (.iload_n 2, 1) := dk_28 (dk_at dksX6_isRefused_0 7 rfl rfl)
theorem dX6_isRefused_8 : decode cX6_isRefused 8 = .ok (.ifCond .ne 11, 3) := dk_154 0 11 (dk_at dksX6_isRefused_0 8 rfl rfl)
theorem dX6_isRefused_11 : decode cX6_isRefused 11 = .ok (.aload_n 0, 1) := dk_42 (dk_at dksX6_isRefused_0 11 rfl rfl)
theorem dX6_isRefused_12 : decode cX6_isRefused 12 = .ok (.aload_n 1, 1) := dk_43 (dk_at dksX6_isRefused_0 12 rfl rfl)
theorem dX6_isRefused_13 : decode cX6_isRefused 13 = .ok (.invokevirtual 136, 3) := dk_182 0 136 (dk_at dksX6_isRefused_0 13 rfl rfl)
theorem dX6_isRefused_16 : decode cX6_isRefused 16 = .ok (.ifCond .eq 13, 3) := dk_153 0 13 (dk_at dksX6_isRefused_0 16 rfl rfl)
theorem dX6_isRefused_19 : decode cX6_isRefused 19 = .ok (.aload_n 0, 1) := dk_42 (dk_at dksX6_isRefused_0 19 rfl rfl)
theorem dX6_isRefused_20 : decode cX6_isRefused 20 = .ok (.getfield 54, 3) := dk_180 0 54 (dk_at dksX6_isRefused_0 20 rfl rfl)
theorem dX6_isRefused_23 : decode cX6_isRefused 23 = .ok (.sipush 3000, 3) := dk_17 11 184 (dk_at dksX6_isRefused_1 0 rfl rfl)
theorem dX6_isRefused_26 : decode cX6_isRefused 26 = .ok (.if_icmp .ne 7, 3) := dk_160 0 7 (dk_at dksX6_isRefused_1 3 rfl rfl)
theorem dX6_isRefused_29 : decode cX6_isRefused 29 = .ok (.iconst 1, 1) := dk_4 (dk_at dksX6_isRefused_1 6 rfl rfl)
theorem dX6_isRefused_30 : decode cX6_isRefused 30 = .ok (.goto 4, 3) := dk_167 0 4 (dk_at dksX6_isRefused_1 7 rfl rfl)
theorem dX6_isRefused_33 : decode cX6_isRefused 33 = .ok (.iconst 0, 1) := dk_3 (dk_at dksX6_isRefused_1 10 rfl rfl)
theorem dX6_isRefused_34 : decode cX6_isRefused 34 = .ok (.ireturn, 1) := dk_172 (dk_at dksX6_isRefused_1 11 rfl rfl)
abbrev cX6_isSafe : ByteArray := prog_13_method_29_code
def yX6_isSafe : MethodName := ⟨RX6, "isSafe", "(LBumpwardModel$Walker;)Z"⟩
def dkwX6_isSafe_1 : List UInt8 := [167, 0, 22, 43, 180, 0, 107, 4, 100, 42, 43, 182, 0, 133, 161, 0, 7, 4, 167, 0, 4, 3, 172]
abbrev dktX6_isSafe_1 : List UInt8 := dkwX6_isSafe_1 ++ []
def dkwX6_isSafe_0 : List UInt8 := [42, 43, 182, 0, 133, 156, 0, 20, 43, 180, 0, 107, 16, 20, 164, 0, 7, 4, 167, 0, 26, 3]
abbrev dktX6_isSafe_0 : List UInt8 := dkwX6_isSafe_0 ++ dktX6_isSafe_1
theorem dksX6_isSafe_0 : cX6_isSafe.data.toList.drop 0 = dktX6_isSafe_0 := by decide +kernel
theorem dksX6_isSafe_1 : cX6_isSafe.data.toList.drop 22 = dktX6_isSafe_1 := dk_seg dksX6_isSafe_0 22 rfl rfl
theorem dX6_isSafe_0 : decode cX6_isSafe 0 = .ok (.aload_n 0, 1) := dk_42 (dk_at dksX6_isSafe_0 0 rfl rfl)
theorem dX6_isSafe_1 : decode cX6_isSafe 1 = .ok (.aload_n 1, 1) := dk_43 (dk_at dksX6_isSafe_0 1 rfl rfl)
theorem dX6_isSafe_2 : decode cX6_isSafe 2 = .ok (.invokevirtual 133, 3) := dk_182 0 133 (dk_at dksX6_isSafe_0 2 rfl rfl)
theorem dX6_isSafe_5 : decode cX6_isSafe 5 = .ok (.ifCond .ge 20, 3) := dk_156 0 20 (dk_at dksX6_isSafe_0 5 rfl rfl)
theorem dX6_isSafe_8 : decode cX6_isSafe 8 = .ok (.aload_n 1, 1) := dk_43 (dk_at dksX6_isSafe_0 8 rfl rfl)
theorem dX6_isSafe_9 : decode cX6_isSafe 9 = .ok (.getfield 107, 3) := dk_180 0 107 (dk_at dksX6_isSafe_0 9 rfl rfl)
theorem dX6_isSafe_12 : decode cX6_isSafe 12 = .ok (.bipush 20, 2) := dk_16 20 (dk_at dksX6_isSafe_0 12 rfl rfl)
theorem dX6_isSafe_14 : decode cX6_isSafe 14 = .ok (.if_icmp .le 7, 3) := dk_164 0 7 (dk_at dksX6_isSafe_0 14 rfl rfl)
theorem dX6_isSafe_17 : decode cX6_isSafe 17 = .ok (.iconst 1, 1) := dk_4 (dk_at dksX6_isSafe_0 17 rfl rfl)
theorem dX6_isSafe_18 : decode cX6_isSafe 18 = .ok (.goto 26, 3) := dk_167 0 26 (dk_at dksX6_isSafe_0 18 rfl rfl)
theorem dX6_isSafe_21 : decode cX6_isSafe 21 = .ok (.iconst 0, 1) := dk_3 (dk_at dksX6_isSafe_0 21 rfl rfl)
theorem dX6_isSafe_22 : decode cX6_isSafe 22 = .ok (.goto 22, 3) := dk_167 0 22 (dk_at dksX6_isSafe_1 0 rfl rfl)
theorem dX6_isSafe_25 : decode cX6_isSafe 25 = .ok (.aload_n 1, 1) := dk_43 (dk_at dksX6_isSafe_1 3 rfl rfl)
theorem dX6_isSafe_26 : decode cX6_isSafe 26 = .ok (.getfield 107, 3) := dk_180 0 107 (dk_at dksX6_isSafe_1 4 rfl rfl)
theorem dX6_isSafe_29 : decode cX6_isSafe 29 = .ok (.iconst 1, 1) := dk_4 (dk_at dksX6_isSafe_1 7 rfl rfl)
theorem dX6_isSafe_30 : decode cX6_isSafe 30 = .ok (.isub, 1) := dk_100 (dk_at dksX6_isSafe_1 8 rfl rfl)
theorem dX6_isSafe_31 : decode cX6_isSafe 31 = .ok (.aload_n 0, 1) := dk_42 (dk_at dksX6_isSafe_1 9 rfl rfl)
theorem dX6_isSafe_32 : decode cX6_isSafe 32 = .ok (.aload_n 1, 1) := dk_43 (dk_at dksX6_isSafe_1 10 rfl rfl)
theorem dX6_isSafe_33 : decode cX6_isSafe 33 = .ok (.invokevirtual 133, 3) := dk_182 0 133 (dk_at dksX6_isSafe_1 11 rfl rfl)
theorem dX6_isSafe_36 : decode cX6_isSafe 36 = .ok (.if_icmp .lt 7, 3) := dk_161 0 7 (dk_at dksX6_isSafe_1 14 rfl rfl)
theorem dX6_isSafe_39 : decode cX6_isSafe 39 = .ok (.iconst 1, 1) := dk_4 (dk_at dksX6_isSafe_1 17 rfl rfl)
theorem dX6_isSafe_40 : decode cX6_isSafe 40 = .ok (.goto 4, 3) := dk_167 0 4 (dk_at dksX6_isSafe_1 18 rfl rfl)
theorem dX6_isSafe_43 : decode cX6_isSafe 43 = .ok (.iconst 0, 1) := dk_3 (dk_at dksX6_isSafe_1 21 rfl rfl)
theorem dX6_isSafe_44 : decode cX6_isSafe 44 = .ok (.ireturn, 1) := dk_172 (dk_at dksX6_isSafe_1 22 rfl rfl)
abbrev cX6_costOf : ByteArray := prog_13_method_28_code
def yX6_costOf : MethodName := ⟨RX6, "costOf", "(LBumpwardModel$Walker;)I"⟩
def dkwX6_costOf_1 : List UInt8 := [96, 172]
abbrev dktX6_costOf_1 : List UInt8 := dkwX6_costOf_1 ++ []
def dkwX6_costOf_0 : List UInt8 := [42, 43, 182, 0, 129, 156, 0, 11, 42, 43, 182, 0, 129, 167, 0, 12, 5, 42, 43, 182, 0, 129, 104, 5]
abbrev dktX6_costOf_0 : List UInt8 := dkwX6_costOf_0 ++ dktX6_costOf_1
theorem dksX6_costOf_0 : cX6_costOf.data.toList.drop 0 = dktX6_costOf_0 := by decide +kernel
theorem dksX6_costOf_1 : cX6_costOf.data.toList.drop 24 = dktX6_costOf_1 := dk_seg dksX6_costOf_0 24 rfl rfl
theorem dX6_costOf_0 : decode cX6_costOf 0 = .ok (.aload_n 0, 1) := dk_42 (dk_at dksX6_costOf_0 0 rfl rfl)
theorem dX6_costOf_1 : decode cX6_costOf 1 = .ok (.aload_n 1, 1) := dk_43 (dk_at dksX6_costOf_0 1 rfl rfl)
theorem dX6_costOf_2 : decode cX6_costOf 2 = .ok (.invokevirtual 129, 3) := dk_182 0 129 (dk_at dksX6_costOf_0 2 rfl rfl)
theorem dX6_costOf_5 : decode cX6_costOf 5 = .ok (.ifCond .ge 11, 3) := dk_156 0 11 (dk_at dksX6_costOf_0 5 rfl rfl)
theorem dX6_costOf_8 : decode cX6_costOf 8 = .ok (.aload_n 0, 1) := dk_42 (dk_at dksX6_costOf_0 8 rfl rfl)
theorem dX6_costOf_9 : decode cX6_costOf 9 = .ok (.aload_n 1, 1) := dk_43 (dk_at dksX6_costOf_0 9 rfl rfl)
theorem dX6_costOf_10 : decode cX6_costOf 10 = .ok (.invokevirtual 129, 3) := dk_182 0 129 (dk_at dksX6_costOf_0 10 rfl rfl)
theorem dX6_costOf_13 : decode cX6_costOf 13 = .ok (.goto 12, 3) := dk_167 0 12 (dk_at dksX6_costOf_0 13 rfl rfl)
theorem dX6_costOf_16 : decode cX6_costOf 16 = .ok (.iconst 2, 1) := dk_5 (dk_at dksX6_costOf_0 16 rfl rfl)
theorem dX6_costOf_17 : decode cX6_costOf 17 = .ok (.aload_n 0, 1) := dk_42 (dk_at dksX6_costOf_0 17 rfl rfl)
theorem dX6_costOf_18 : decode cX6_costOf 18 = .ok (.aload_n 1, 1) := dk_43 (dk_at dksX6_costOf_0 18 rfl rfl)
theorem dX6_costOf_19 : decode cX6_costOf 19 = .ok (.invokevirtual 129, 3) := dk_182 0 129 (dk_at dksX6_costOf_0 19 rfl rfl)
theorem dX6_costOf_22 : decode cX6_costOf 22 = .ok (.imul, 1) := dk_104 (dk_at dksX6_costOf_0 22 rfl rfl)
theorem dX6_costOf_23 : decode cX6_costOf 23 = .ok (.iconst 2, 1) := dk_5 (dk_at dksX6_costOf_0 23 rfl rfl)
theorem dX6_costOf_24 : decode cX6_costOf 24 = .ok (.iadd, 1) := dk_96 (dk_at dksX6_costOf_1 0 rfl rfl)
theorem dX6_costOf_25 : decode cX6_costOf 25 = .ok (.ireturn, 1) := dk_172 (dk_at dksX6_costOf_1 1 rfl rfl)
abbrev cX6_returnOf : ByteArray := prog_13_method_27_code
def yX6_returnOf : MethodName := ⟨RX6, "returnOf", "(LBumpwardModel$Walker;)I"⟩
def dkwX6_returnOf_1 : List UInt8 := [43, 180, 0, 104, 46, 172]
abbrev dktX6_returnOf_1 : List UInt8 := dkwX6_returnOf_1 ++ []
def dkwX6_returnOf_0 : List UInt8 := [43, 182, 0, 122, 2, 160, 0, 8, 16, 254, 167, 0, 19, 42, 43, 43, 182, 0, 122, 7, 108, 182, 0, 125]
abbrev dktX6_returnOf_0 : List UInt8 := dkwX6_returnOf_0 ++ dktX6_returnOf_1
theorem dksX6_returnOf_0 : cX6_returnOf.data.toList.drop 0 = dktX6_returnOf_0 := by decide +kernel
theorem dksX6_returnOf_1 : cX6_returnOf.data.toList.drop 24 = dktX6_returnOf_1 := dk_seg dksX6_returnOf_0 24 rfl rfl
theorem dX6_returnOf_0 : decode cX6_returnOf 0 = .ok (.aload_n 1, 1) := dk_43 (dk_at dksX6_returnOf_0 0 rfl rfl)
theorem dX6_returnOf_1 : decode cX6_returnOf 1 = .ok (.invokevirtual 122, 3) := dk_182 0 122 (dk_at dksX6_returnOf_0 1 rfl rfl)
theorem dX6_returnOf_4 : decode cX6_returnOf 4 = .ok (.iconst (-1), 1) := dk_2 (dk_at dksX6_returnOf_0 4 rfl rfl)
theorem dX6_returnOf_5 : decode cX6_returnOf 5 = .ok (.if_icmp .ne 8, 3) := dk_160 0 8 (dk_at dksX6_returnOf_0 5 rfl rfl)
theorem dX6_returnOf_8 : decode cX6_returnOf 8 = .ok (.bipush (-2), 2) := dk_16 254 (dk_at dksX6_returnOf_0 8 rfl rfl)
theorem dX6_returnOf_10 : decode cX6_returnOf 10 = .ok (.goto 19, 3) := dk_167 0 19 (dk_at dksX6_returnOf_0 10 rfl rfl)
theorem dX6_returnOf_13 : decode cX6_returnOf 13 = .ok (.aload_n 0, 1) := dk_42 (dk_at dksX6_returnOf_0 13 rfl rfl)
theorem dX6_returnOf_14 : decode cX6_returnOf 14 = .ok (.aload_n 1, 1) := dk_43 (dk_at dksX6_returnOf_0 14 rfl rfl)
theorem dX6_returnOf_15 : decode cX6_returnOf 15 = .ok (.aload_n 1, 1) := dk_43 (dk_at dksX6_returnOf_0 15 rfl rfl)
theorem dX6_returnOf_16 : decode cX6_returnOf 16 = .ok (.invokevirtual 122, 3) := dk_182 0 122 (dk_at dksX6_returnOf_0 16 rfl rfl)
theorem dX6_returnOf_19 : decode cX6_returnOf 19 = .ok (.iconst 4, 1) := dk_7 (dk_at dksX6_returnOf_0 19 rfl rfl)
theorem dX6_returnOf_20 : decode cX6_returnOf 20 = .ok (.idiv, 1) := dk_108 (dk_at dksX6_returnOf_0 20 rfl rfl)
theorem dX6_returnOf_21 : decode cX6_returnOf 21 = .ok (.invokevirtual 125, 3) := dk_182 0 125 (dk_at dksX6_returnOf_0 21 rfl rfl)
theorem dX6_returnOf_24 : decode cX6_returnOf 24 = .ok (.aload_n 1, 1) := dk_43 (dk_at dksX6_returnOf_1 0 rfl rfl)
theorem dX6_returnOf_25 : decode cX6_returnOf 25 = .ok (.getfield 104, 3) := dk_180 0 104 (dk_at dksX6_returnOf_1 1 rfl rfl)
theorem dX6_returnOf_28 : decode cX6_returnOf 28 = .ok (.iaload, 1) := dk_46 (dk_at dksX6_returnOf_1 4 rfl rfl)
theorem dX6_returnOf_29 : decode cX6_returnOf 29 = .ok (.ireturn, 1) := dk_172 (dk_at dksX6_returnOf_1 5 rfl rfl)
abbrev cX6_fars : ByteArray := prog_13_method_26_code
def yX6_fars : MethodName := ⟨RX6, "fars", "(LBumpwardModel$Walker;I)[I"⟩
def dkwX6_fars_5 : List UInt8 := [132, 5, 1, 167, 255, 184, 132, 4, 1, 167, 255, 168, 45, 176]
abbrev dktX6_fars_5 : List UInt8 := dkwX6_fars_5 ++ []
def dkwX6_fars_4 : List UInt8 := [2, 160, 0, 16, 45, 21, 5, 21, 6, 184, 0, 50, 21, 4, 4, 96, 79, 132, 6, 1, 167, 255, 200]
abbrev dktX6_fars_4 : List UInt8 := dkwX6_fars_4 ++ dktX6_fars_5
def dkwX6_fars_3 : List UInt8 := [160, 0, 47, 43, 21, 5, 21, 6, 184, 0, 118, 4, 160, 0, 29, 45, 21, 5, 21, 6, 184, 0, 50, 46]
abbrev dktX6_fars_3 : List UInt8 := dkwX6_fars_3 ++ dktX6_fars_4
def dkwX6_fars_2 : List UInt8 := [54, 5, 21, 5, 16, 36, 162, 0, 71, 3, 54, 6, 21, 6, 7, 162, 0, 56, 45, 21, 5, 46, 21, 4]
abbrev dktX6_fars_2 : List UInt8 := dkwX6_fars_2 ++ dktX6_fars_3
def dkwX6_fars_1 : List UInt8 := [3, 167, 0, 4, 2, 79, 132, 4, 1, 167, 255, 231, 3, 54, 4, 21, 4, 16, 36, 162, 0, 87, 3]
abbrev dktX6_fars_1 : List UInt8 := dkwX6_fars_1 ++ dktX6_fars_2
def dkwX6_fars_0 : List UInt8 := [16, 36, 188, 10, 78, 3, 54, 4, 21, 4, 16, 36, 162, 0, 24, 45, 21, 4, 21, 4, 28, 160, 0, 7]
abbrev dktX6_fars_0 : List UInt8 := dkwX6_fars_0 ++ dktX6_fars_1
theorem dksX6_fars_0 : cX6_fars.data.toList.drop 0 = dktX6_fars_0 := by decide +kernel
theorem dksX6_fars_1 : cX6_fars.data.toList.drop 24 = dktX6_fars_1 := dk_seg dksX6_fars_0 24 rfl rfl
theorem dksX6_fars_2 : cX6_fars.data.toList.drop 47 = dktX6_fars_2 := dk_seg dksX6_fars_1 23 rfl rfl
theorem dksX6_fars_3 : cX6_fars.data.toList.drop 71 = dktX6_fars_3 := dk_seg dksX6_fars_2 24 rfl rfl
theorem dksX6_fars_4 : cX6_fars.data.toList.drop 95 = dktX6_fars_4 := dk_seg dksX6_fars_3 24 rfl rfl
theorem dksX6_fars_5 : cX6_fars.data.toList.drop 118 = dktX6_fars_5 := dk_seg dksX6_fars_4 23 rfl rfl
theorem dX6_fars_0 : decode cX6_fars 0 = .ok (.bipush 36, 2) := dk_16 36 (dk_at dksX6_fars_0 0 rfl rfl)
theorem dX6_fars_2 : decode cX6_fars 2 = .ok (.newarray .int, 2) := dk_188_10 (dk_at dksX6_fars_0 2 rfl rfl)
theorem dX6_fars_4 : decode cX6_fars 4 = .ok (.astore_n 3, 1) := dk_78 (dk_at dksX6_fars_0 4 rfl rfl)
theorem dX6_fars_5 : decode cX6_fars 5 = .ok (.iconst 0, 1) := dk_3 (dk_at dksX6_fars_0 5 rfl rfl)
theorem dX6_fars_6 : decode cX6_fars 6 = .ok (.istore 4, 2) := dk_54 4 (dk_at dksX6_fars_0 6 rfl rfl)
theorem dX6_fars_8 : decode cX6_fars 8 = .ok (.iload 4, 2) := dk_21 4 (dk_at dksX6_fars_0 8 rfl rfl)
theorem dX6_fars_10 : decode cX6_fars 10 = .ok (.bipush 36, 2) := dk_16 36 (dk_at dksX6_fars_0 10 rfl rfl)
theorem dX6_fars_12 : decode cX6_fars 12 = .ok (.if_icmp .ge 24, 3) := dk_162 0 24 (dk_at dksX6_fars_0 12 rfl rfl)
theorem dX6_fars_15 : decode cX6_fars 15 = .ok (.aload_n 3, 1) := dk_45 (dk_at dksX6_fars_0 15 rfl rfl)
theorem dX6_fars_16 : decode cX6_fars 16 = .ok (.iload 4, 2) := dk_21 4 (dk_at dksX6_fars_0 16 rfl rfl)
theorem dX6_fars_18 : decode cX6_fars 18 = .ok (.iload 4, 2) := dk_21 4 (dk_at dksX6_fars_0 18 rfl rfl)
theorem dX6_fars_20 : decode cX6_fars 20 = .ok (.iload_n 2, 1) := dk_28 (dk_at dksX6_fars_0 20 rfl rfl)
theorem dX6_fars_21 : decode cX6_fars 21 = .ok (.if_icmp .ne 7, 3) := dk_160 0 7 (dk_at dksX6_fars_0 21 rfl rfl)
theorem dX6_fars_24 : decode cX6_fars 24 = .ok (.iconst 0, 1) := dk_3 (dk_at dksX6_fars_1 0 rfl rfl)
theorem dX6_fars_25 : decode cX6_fars 25 = .ok (.goto 4, 3) := dk_167 0 4 (dk_at dksX6_fars_1 1 rfl rfl)
theorem dX6_fars_28 : decode cX6_fars 28 = .ok (.iconst (-1), 1) := dk_2 (dk_at dksX6_fars_1 4 rfl rfl)
theorem dX6_fars_29 : decode cX6_fars 29 = .ok (.iastore, 1) := dk_79 (dk_at dksX6_fars_1 5 rfl rfl)
theorem dX6_fars_30 : decode cX6_fars 30 = .ok (.iinc 4 1, 3) := dk_132 4 1 (dk_at dksX6_fars_1 6 rfl rfl)
theorem dX6_fars_33 : decode cX6_fars 33 = .ok (.goto (-25), 3) := dk_167 255 231 (dk_at dksX6_fars_1 9 rfl rfl)
theorem dX6_fars_36 : decode cX6_fars 36 = .ok (.iconst 0, 1) := dk_3 (dk_at dksX6_fars_1 12 rfl rfl)
theorem dX6_fars_37 : decode cX6_fars 37 = .ok (.istore 4, 2) := dk_54 4 (dk_at dksX6_fars_1 13 rfl rfl)
theorem dX6_fars_39 : decode cX6_fars 39 = .ok (.iload 4, 2) := dk_21 4 (dk_at dksX6_fars_1 15 rfl rfl)
theorem dX6_fars_41 : decode cX6_fars 41 = .ok (.bipush 36, 2) := dk_16 36 (dk_at dksX6_fars_1 17 rfl rfl)
theorem dX6_fars_43 : decode cX6_fars 43 = .ok (.if_icmp .ge 87, 3) := dk_162 0 87 (dk_at dksX6_fars_1 19 rfl rfl)
theorem dX6_fars_46 : decode cX6_fars 46 = .ok (.iconst 0, 1) := dk_3 (dk_at dksX6_fars_1 22 rfl rfl)
theorem dX6_fars_47 : decode cX6_fars 47 = .ok (.istore 5, 2) := dk_54 5 (dk_at dksX6_fars_2 0 rfl rfl)
theorem dX6_fars_49 : decode cX6_fars 49 = .ok (.iload 5, 2) := dk_21 5 (dk_at dksX6_fars_2 2 rfl rfl)
theorem dX6_fars_51 : decode cX6_fars 51 = .ok (.bipush 36, 2) := dk_16 36 (dk_at dksX6_fars_2 4 rfl rfl)
theorem dX6_fars_53 : decode cX6_fars 53 = .ok (.if_icmp .ge 71, 3) := dk_162 0 71 (dk_at dksX6_fars_2 6 rfl rfl)
theorem dX6_fars_56 : decode cX6_fars 56 = .ok (.iconst 0, 1) := dk_3 (dk_at dksX6_fars_2 9 rfl rfl)
theorem dX6_fars_57 : decode cX6_fars 57 = .ok (.istore 6, 2) := dk_54 6 (dk_at dksX6_fars_2 10 rfl rfl)
theorem dX6_fars_59 : decode cX6_fars 59 = .ok (.iload 6, 2) := dk_21 6 (dk_at dksX6_fars_2 12 rfl rfl)
theorem dX6_fars_61 : decode cX6_fars 61 = .ok (.iconst 4, 1) := dk_7 (dk_at dksX6_fars_2 14 rfl rfl)
theorem dX6_fars_62 : decode cX6_fars 62 = .ok (.if_icmp .ge 56, 3) := dk_162 0 56 (dk_at dksX6_fars_2 15 rfl rfl)
theorem dX6_fars_65 : decode cX6_fars 65 = .ok (.aload_n 3, 1) := dk_45 (dk_at dksX6_fars_2 18 rfl rfl)
theorem dX6_fars_66 : decode cX6_fars 66 = .ok (.iload 5, 2) := dk_21 5 (dk_at dksX6_fars_2 19 rfl rfl)
theorem dX6_fars_68 : decode cX6_fars 68 = .ok (.iaload, 1) := dk_46 (dk_at dksX6_fars_2 21 rfl rfl)
theorem dX6_fars_69 : decode cX6_fars 69 = .ok (.iload 4, 2) := dk_21 4 (dk_at dksX6_fars_2 22 rfl rfl)
theorem dX6_fars_71 : decode cX6_fars 71 = .ok (.if_icmp .ne 47, 3) := dk_160 0 47 (dk_at dksX6_fars_3 0 rfl rfl)
theorem dX6_fars_74 : decode cX6_fars 74 = .ok (.aload_n 1, 1) := dk_43 (dk_at dksX6_fars_3 3 rfl rfl)
theorem dX6_fars_75 : decode cX6_fars 75 = .ok (.iload 5, 2) := dk_21 5 (dk_at dksX6_fars_3 4 rfl rfl)
theorem dX6_fars_77 : decode cX6_fars 77 = .ok (.iload 6, 2) := dk_21 6 (dk_at dksX6_fars_3 6 rfl rfl)
theorem dX6_fars_79 : decode cX6_fars 79 = .ok (.invokestatic 118, 3) := dk_184 0 118 (dk_at dksX6_fars_3 8 rfl rfl)
theorem dX6_fars_82 : decode cX6_fars 82 = .ok (.iconst 1, 1) := dk_4 (dk_at dksX6_fars_3 11 rfl rfl)
theorem dX6_fars_83 : decode cX6_fars 83 = .ok (.if_icmp .ne 29, 3) := dk_160 0 29 (dk_at dksX6_fars_3 12 rfl rfl)
theorem dX6_fars_86 : decode cX6_fars 86 = .ok (.aload_n 3, 1) := dk_45 (dk_at dksX6_fars_3 15 rfl rfl)
theorem dX6_fars_87 : decode cX6_fars 87 = .ok (.iload 5, 2) := dk_21 5 (dk_at dksX6_fars_3 16 rfl rfl)
theorem dX6_fars_89 : decode cX6_fars 89 = .ok (.iload 6, 2) := dk_21 6 (dk_at dksX6_fars_3 18 rfl rfl)
theorem dX6_fars_91 : decode cX6_fars 91 = .ok (.invokestatic 50, 3) := dk_184 0 50 (dk_at dksX6_fars_3 20 rfl rfl)
theorem dX6_fars_94 : decode cX6_fars 94 = .ok (.iaload, 1) := dk_46 (dk_at dksX6_fars_3 23 rfl rfl)
theorem dX6_fars_95 : decode cX6_fars 95 = .ok (.iconst (-1), 1) := dk_2 (dk_at dksX6_fars_4 0 rfl rfl)
theorem dX6_fars_96 : decode cX6_fars 96 = .ok (.if_icmp .ne 16, 3) := dk_160 0 16 (dk_at dksX6_fars_4 1 rfl rfl)
theorem dX6_fars_99 : decode cX6_fars 99 = .ok (.aload_n 3, 1) := dk_45 (dk_at dksX6_fars_4 4 rfl rfl)
theorem dX6_fars_100 : decode cX6_fars 100 = .ok (.iload 5, 2) := dk_21 5 (dk_at dksX6_fars_4 5 rfl rfl)
theorem dX6_fars_102 : decode cX6_fars 102 = .ok (.iload 6, 2) := dk_21 6 (dk_at dksX6_fars_4 7 rfl rfl)
theorem dX6_fars_104 : decode cX6_fars 104 = .ok (.invokestatic 50, 3) := dk_184 0 50 (dk_at dksX6_fars_4 9 rfl rfl)
theorem dX6_fars_107 : decode cX6_fars 107 = .ok (.iload 4, 2) := dk_21 4 (dk_at dksX6_fars_4 12 rfl rfl)
theorem dX6_fars_109 : decode cX6_fars 109 = .ok (.iconst 1, 1) := dk_4 (dk_at dksX6_fars_4 14 rfl rfl)
theorem dX6_fars_110 : decode cX6_fars 110 = .ok (.iadd, 1) := dk_96 (dk_at dksX6_fars_4 15 rfl rfl)
theorem dX6_fars_111 : decode cX6_fars 111 = .ok (.iastore, 1) := dk_79 (dk_at dksX6_fars_4 16 rfl rfl)
theorem dX6_fars_112 : decode cX6_fars 112 = .ok (.iinc 6 1, 3) := dk_132 6 1 (dk_at dksX6_fars_4 17 rfl rfl)
theorem dX6_fars_115 : decode cX6_fars 115 = .ok (.goto (-56), 3) := dk_167 255 200 (dk_at dksX6_fars_4 20 rfl rfl)
theorem dX6_fars_118 : decode cX6_fars 118 = .ok (.iinc 5 1, 3) := dk_132 5 1 (dk_at dksX6_fars_5 0 rfl rfl)
theorem dX6_fars_121 : decode cX6_fars 121 = .ok (.goto (-72), 3) := dk_167 255 184 (dk_at dksX6_fars_5 3 rfl rfl)
theorem dX6_fars_124 : decode cX6_fars 124 = .ok (.iinc 4 1, 3) := dk_132 4 1 (dk_at dksX6_fars_5 6 rfl rfl)
theorem dX6_fars_127 : decode cX6_fars 127 = .ok (.goto (-88), 3) := dk_167 255 168 (dk_at dksX6_fars_5 9 rfl rfl)
theorem dX6_fars_130 : decode cX6_fars 130 = .ok (.aload_n 3, 1) := dk_45 (dk_at dksX6_fars_5 12 rfl rfl)
theorem dX6_fars_131 : decode cX6_fars 131 = .ok (.areturn, 1) := dk_176 (dk_at dksX6_fars_5 13 rfl rfl)
abbrev cX6_known : ByteArray := prog_13_method_15_code
def yX6_known : MethodName := ⟨RX6, "known", "(LBumpwardModel$Walker;II)I"⟩
def dkwX6_known_1 : List UInt8 := [184, 0, 64, 46, 172]
abbrev dktX6_known_1 : List UInt8 := dkwX6_known_1 ++ []
def dkwX6_known_0 : List UInt8 := [27, 28, 184, 0, 50, 2, 160, 0, 7, 5, 167, 0, 18, 42, 180, 0, 71, 27, 28, 184, 0, 61, 50, 28]
abbrev dktX6_known_0 : List UInt8 := dkwX6_known_0 ++ dktX6_known_1
theorem dksX6_known_0 : cX6_known.data.toList.drop 0 = dktX6_known_0 := by decide +kernel
theorem dksX6_known_1 : cX6_known.data.toList.drop 24 = dktX6_known_1 := dk_seg dksX6_known_0 24 rfl rfl
theorem dX6_known_0 : decode cX6_known 0 = .ok (.iload_n 1, 1) := dk_27 (dk_at dksX6_known_0 0 rfl rfl)
theorem dX6_known_1 : decode cX6_known 1 = .ok (.iload_n 2, 1) := dk_28 (dk_at dksX6_known_0 1 rfl rfl)
theorem dX6_known_2 : decode cX6_known 2 = .ok (.invokestatic 50, 3) := dk_184 0 50 (dk_at dksX6_known_0 2 rfl rfl)
theorem dX6_known_5 : decode cX6_known 5 = .ok (.iconst (-1), 1) := dk_2 (dk_at dksX6_known_0 5 rfl rfl)
theorem dX6_known_6 : decode cX6_known 6 = .ok (.if_icmp .ne 7, 3) := dk_160 0 7 (dk_at dksX6_known_0 6 rfl rfl)
theorem dX6_known_9 : decode cX6_known 9 = .ok (.iconst 2, 1) := dk_5 (dk_at dksX6_known_0 9 rfl rfl)
theorem dX6_known_10 : decode cX6_known 10 = .ok (.goto 18, 3) := dk_167 0 18 (dk_at dksX6_known_0 10 rfl rfl)
theorem dX6_known_13 : decode cX6_known 13 = .ok (.aload_n 0, 1) := dk_42 (dk_at dksX6_known_0 13 rfl rfl)
theorem dX6_known_14 : decode cX6_known 14 = .ok (.getfield 71, 3) := dk_180 0 71 (dk_at dksX6_known_0 14 rfl rfl)
theorem dX6_known_17 : decode cX6_known 17 = .ok (.iload_n 1, 1) := dk_27 (dk_at dksX6_known_0 17 rfl rfl)
theorem dX6_known_18 : decode cX6_known 18 = .ok (.iload_n 2, 1) := dk_28 (dk_at dksX6_known_0 18 rfl rfl)
theorem dX6_known_19 : decode cX6_known 19 = .ok (.invokestatic 61, 3) := dk_184 0 61 (dk_at dksX6_known_0 19 rfl rfl)
theorem dX6_known_22 : decode cX6_known 22 = .ok (.aaload, 1) := dk_50 (dk_at dksX6_known_0 22 rfl rfl)
theorem dX6_known_23 : decode cX6_known 23 = .ok (.iload_n 2, 1) := dk_28 (dk_at dksX6_known_0 23 rfl rfl)
theorem dX6_known_24 : decode cX6_known 24 = .ok (.invokestatic 64, 3) := dk_184 0 64 (dk_at dksX6_known_1 0 rfl rfl)
theorem dX6_known_27 : decode cX6_known 27 = .ok (.iaload, 1) := dk_46 (dk_at dksX6_known_1 3 rfl rfl)
theorem dX6_known_28 : decode cX6_known 28 = .ok (.ireturn, 1) := dk_172 (dk_at dksX6_known_1 4 rfl rfl)
abbrev cX6_isWallNow : ByteArray := prog_13_method_14_code
def yX6_isWallNow : MethodName := ⟨RX6, "isWallNow", "(II)Z"⟩
def dkwX6_isWallNow_1 : List UInt8 := [153, 0, 7, 4, 167, 0, 4, 3, 172]
abbrev dktX6_isWallNow_1 : List UInt8 := dkwX6_isWallNow_1 ++ []
def dkwX6_isWallNow_0 : List UInt8 := [27, 28, 184, 0, 50, 2, 159, 0, 19, 42, 27, 28, 184, 0, 61, 28, 184, 0, 64, 182, 0, 68]
abbrev dktX6_isWallNow_0 : List UInt8 := dkwX6_isWallNow_0 ++ dktX6_isWallNow_1
theorem dksX6_isWallNow_0 : cX6_isWallNow.data.toList.drop 0 = dktX6_isWallNow_0 := by decide +kernel
theorem dksX6_isWallNow_1 : cX6_isWallNow.data.toList.drop 22 = dktX6_isWallNow_1 := dk_seg dksX6_isWallNow_0 22 rfl rfl
theorem dX6_isWallNow_0 : decode cX6_isWallNow 0 = .ok (.iload_n 1, 1) := dk_27 (dk_at dksX6_isWallNow_0 0 rfl rfl)
theorem dX6_isWallNow_1 : decode cX6_isWallNow 1 = .ok (.iload_n 2, 1) := dk_28 (dk_at dksX6_isWallNow_0 1 rfl rfl)
theorem dX6_isWallNow_2 : decode cX6_isWallNow 2 = .ok (.invokestatic 50, 3) := dk_184 0 50 (dk_at dksX6_isWallNow_0 2 rfl rfl)
theorem dX6_isWallNow_5 : decode cX6_isWallNow 5 = .ok (.iconst (-1), 1) := dk_2 (dk_at dksX6_isWallNow_0 5 rfl rfl)
theorem dX6_isWallNow_6 : decode cX6_isWallNow 6 = .ok (.if_icmp .eq 19, 3) := dk_159 0 19 (dk_at dksX6_isWallNow_0 6 rfl rfl)
theorem dX6_isWallNow_9 : decode cX6_isWallNow 9 = .ok (.aload_n 0, 1) := dk_42 (dk_at dksX6_isWallNow_0 9 rfl rfl)
theorem dX6_isWallNow_10 : decode cX6_isWallNow 10 = .ok (.iload_n 1, 1) := dk_27 (dk_at dksX6_isWallNow_0 10 rfl rfl)
theorem dX6_isWallNow_11 : decode cX6_isWallNow 11 = .ok (.iload_n 2, 1) := dk_28 (dk_at dksX6_isWallNow_0 11 rfl rfl)
theorem dX6_isWallNow_12 : decode cX6_isWallNow 12 = .ok (.invokestatic 61, 3) := dk_184 0 61 (dk_at dksX6_isWallNow_0 12 rfl rfl)
theorem dX6_isWallNow_15 : decode cX6_isWallNow 15 = .ok (.iload_n 2, 1) := dk_28 (dk_at dksX6_isWallNow_0 15 rfl rfl)
theorem dX6_isWallNow_16 : decode cX6_isWallNow 16 = .ok (.invokestatic 64, 3) := dk_184 0 64 (dk_at dksX6_isWallNow_0 16 rfl rfl)
theorem dX6_isWallNow_19 : decode cX6_isWallNow 19 = .ok (.invokevirtual 68, 3) := dk_182 0 68 (dk_at dksX6_isWallNow_0 19 rfl rfl)
theorem dX6_isWallNow_22 : decode cX6_isWallNow 22 = .ok (.ifCond .eq 7, 3) := dk_153 0 7 (dk_at dksX6_isWallNow_1 0 rfl rfl)
theorem dX6_isWallNow_25 : decode cX6_isWallNow 25 = .ok (.iconst 1, 1) := dk_4 (dk_at dksX6_isWallNow_1 3 rfl rfl)
theorem dX6_isWallNow_26 : decode cX6_isWallNow 26 = .ok (.goto 4, 3) := dk_167 0 4 (dk_at dksX6_isWallNow_1 4 rfl rfl)
theorem dX6_isWallNow_29 : decode cX6_isWallNow 29 = .ok (.iconst 0, 1) := dk_3 (dk_at dksX6_isWallNow_1 7 rfl rfl)
theorem dX6_isWallNow_30 : decode cX6_isWallNow 30 = .ok (.ireturn, 1) := dk_172 (dk_at dksX6_isWallNow_1 8 rfl rfl)
abbrev cX6_isWallBy : ByteArray := prog_13_method_13_code
def yX6_isWallBy : MethodName := ⟨RX6, "isWallBy", "(II)Z"⟩
def dkwX6_isWallBy_1 : List UInt8 := [42, 27, 28, 182, 0, 57, 154, 0, 7, 4, 167, 0, 4, 3, 172]
abbrev dktX6_isWallBy_1 : List UInt8 := dkwX6_isWallBy_1 ++ []
def dkwX6_isWallBy_0 : List UInt8 := [42, 180, 0, 15, 27, 50, 28, 46, 4, 159, 0, 24, 42, 180, 0, 15, 27, 50, 28, 46, 5, 160, 0, 16]
abbrev dktX6_isWallBy_0 : List UInt8 := dkwX6_isWallBy_0 ++ dktX6_isWallBy_1
theorem dksX6_isWallBy_0 : cX6_isWallBy.data.toList.drop 0 = dktX6_isWallBy_0 := by decide +kernel
theorem dksX6_isWallBy_1 : cX6_isWallBy.data.toList.drop 24 = dktX6_isWallBy_1 := dk_seg dksX6_isWallBy_0 24 rfl rfl
theorem dX6_isWallBy_0 : decode cX6_isWallBy 0 = .ok (.aload_n 0, 1) := dk_42 (dk_at dksX6_isWallBy_0 0 rfl rfl)
theorem dX6_isWallBy_1 : decode cX6_isWallBy 1 = .ok (.getfield 15, 3) := dk_180 0 15 (dk_at dksX6_isWallBy_0 1 rfl rfl)
theorem dX6_isWallBy_4 : decode cX6_isWallBy 4 = .ok (.iload_n 1, 1) := dk_27 (dk_at dksX6_isWallBy_0 4 rfl rfl)
theorem dX6_isWallBy_5 : decode cX6_isWallBy 5 = .ok (.aaload, 1) := dk_50 (dk_at dksX6_isWallBy_0 5 rfl rfl)
theorem dX6_isWallBy_6 : decode cX6_isWallBy 6 = .ok (.iload_n 2, 1) := dk_28 (dk_at dksX6_isWallBy_0 6 rfl rfl)
theorem dX6_isWallBy_7 : decode cX6_isWallBy 7 = .ok (.iaload, 1) := dk_46 (dk_at dksX6_isWallBy_0 7 rfl rfl)
theorem dX6_isWallBy_8 : decode cX6_isWallBy 8 = .ok (.iconst 1, 1) := dk_4 (dk_at dksX6_isWallBy_0 8 rfl rfl)
theorem dX6_isWallBy_9 : decode cX6_isWallBy 9 = .ok (.if_icmp .eq 24, 3) := dk_159 0 24 (dk_at dksX6_isWallBy_0 9 rfl rfl)
theorem dX6_isWallBy_12 : decode cX6_isWallBy 12 = .ok (.aload_n 0, 1) := dk_42 (dk_at dksX6_isWallBy_0 12 rfl rfl)
theorem dX6_isWallBy_13 : decode cX6_isWallBy 13 = .ok (.getfield 15, 3) := dk_180 0 15 (dk_at dksX6_isWallBy_0 13 rfl rfl)
theorem dX6_isWallBy_16 : decode cX6_isWallBy 16 = .ok (.iload_n 1, 1) := dk_27 (dk_at dksX6_isWallBy_0 16 rfl rfl)
theorem dX6_isWallBy_17 : decode cX6_isWallBy 17 = .ok (.aaload, 1) := dk_50 (dk_at dksX6_isWallBy_0 17 rfl rfl)
theorem dX6_isWallBy_18 : decode cX6_isWallBy 18 = .ok (.iload_n 2, 1) := dk_28 (dk_at dksX6_isWallBy_0 18 rfl rfl)
theorem dX6_isWallBy_19 : decode cX6_isWallBy 19 = .ok (.iaload, 1) := dk_46 (dk_at dksX6_isWallBy_0 19 rfl rfl)
theorem dX6_isWallBy_20 : decode cX6_isWallBy 20 = .ok (.iconst 2, 1) := dk_5 (dk_at dksX6_isWallBy_0 20 rfl rfl)
theorem dX6_isWallBy_21 : decode cX6_isWallBy 21 = .ok (.if_icmp .ne 16, 3) := dk_160 0 16 (dk_at dksX6_isWallBy_0 21 rfl rfl)
theorem dX6_isWallBy_24 : decode cX6_isWallBy 24 = .ok (.aload_n 0, 1) := dk_42 (dk_at dksX6_isWallBy_1 0 rfl rfl)
theorem dX6_isWallBy_25 : decode cX6_isWallBy 25 = .ok (.iload_n 1, 1) := dk_27 (dk_at dksX6_isWallBy_1 1 rfl rfl)
theorem dX6_isWallBy_26 : decode cX6_isWallBy 26 = .ok (.iload_n 2, 1) := dk_28 (dk_at dksX6_isWallBy_1 2 rfl rfl)
theorem dX6_isWallBy_27 : decode cX6_isWallBy 27 = .ok (.invokevirtual 57, 3) := dk_182 0 57 (dk_at dksX6_isWallBy_1 3 rfl rfl)
theorem dX6_isWallBy_30 : decode cX6_isWallBy 30 = .ok (.ifCond .ne 7, 3) := dk_154 0 7 (dk_at dksX6_isWallBy_1 6 rfl rfl)
theorem dX6_isWallBy_33 : decode cX6_isWallBy 33 = .ok (.iconst 1, 1) := dk_4 (dk_at dksX6_isWallBy_1 9 rfl rfl)
theorem dX6_isWallBy_34 : decode cX6_isWallBy 34 = .ok (.goto 4, 3) := dk_167 0 4 (dk_at dksX6_isWallBy_1 10 rfl rfl)
theorem dX6_isWallBy_37 : decode cX6_isWallBy 37 = .ok (.iconst 0, 1) := dk_3 (dk_at dksX6_isWallBy_1 13 rfl rfl)
theorem dX6_isWallBy_38 : decode cX6_isWallBy 38 = .ok (.ireturn, 1) := dk_172 (dk_at dksX6_isWallBy_1 14 rfl rfl)
abbrev cX6_isOpen : ByteArray := prog_13_method_12_code
def yX6_isOpen : MethodName := ⟨RX6, "isOpen", "(II)Z"⟩
def dkwX6_isOpen_1 : List UInt8 := [160, 0, 7, 4, 167, 0, 4, 3, 172]
abbrev dktX6_isOpen_1 : List UInt8 := dkwX6_isOpen_1 ++ []
def dkwX6_isOpen_0 : List UInt8 := [42, 180, 0, 18, 27, 50, 28, 46, 42, 180, 0, 54, 16, 60, 108, 16, 24, 112, 122, 4, 126, 4]
abbrev dktX6_isOpen_0 : List UInt8 := dkwX6_isOpen_0 ++ dktX6_isOpen_1
theorem dksX6_isOpen_0 : cX6_isOpen.data.toList.drop 0 = dktX6_isOpen_0 := by decide +kernel
theorem dksX6_isOpen_1 : cX6_isOpen.data.toList.drop 22 = dktX6_isOpen_1 := dk_seg dksX6_isOpen_0 22 rfl rfl
theorem dX6_isOpen_0 : decode cX6_isOpen 0 = .ok (.aload_n 0, 1) := dk_42 (dk_at dksX6_isOpen_0 0 rfl rfl)
theorem dX6_isOpen_1 : decode cX6_isOpen 1 = .ok (.getfield 18, 3) := dk_180 0 18 (dk_at dksX6_isOpen_0 1 rfl rfl)
theorem dX6_isOpen_4 : decode cX6_isOpen 4 = .ok (.iload_n 1, 1) := dk_27 (dk_at dksX6_isOpen_0 4 rfl rfl)
theorem dX6_isOpen_5 : decode cX6_isOpen 5 = .ok (.aaload, 1) := dk_50 (dk_at dksX6_isOpen_0 5 rfl rfl)
theorem dX6_isOpen_6 : decode cX6_isOpen 6 = .ok (.iload_n 2, 1) := dk_28 (dk_at dksX6_isOpen_0 6 rfl rfl)
theorem dX6_isOpen_7 : decode cX6_isOpen 7 = .ok (.iaload, 1) := dk_46 (dk_at dksX6_isOpen_0 7 rfl rfl)
theorem dX6_isOpen_8 : decode cX6_isOpen 8 = .ok (.aload_n 0, 1) := dk_42 (dk_at dksX6_isOpen_0 8 rfl rfl)
theorem dX6_isOpen_9 : decode cX6_isOpen 9 = .ok (.getfield 54, 3) := dk_180 0 54 (dk_at dksX6_isOpen_0 9 rfl rfl)
theorem dX6_isOpen_12 : decode cX6_isOpen 12 = .ok (.bipush 60, 2) := dk_16 60 (dk_at dksX6_isOpen_0 12 rfl rfl)
theorem dX6_isOpen_14 : decode cX6_isOpen 14 = .ok (.idiv, 1) := dk_108 (dk_at dksX6_isOpen_0 14 rfl rfl)
theorem dX6_isOpen_15 : decode cX6_isOpen 15 = .ok (.bipush 24, 2) := dk_16 24 (dk_at dksX6_isOpen_0 15 rfl rfl)
theorem dX6_isOpen_17 : decode cX6_isOpen 17 = .ok (.irem, 1) := dk_112 (dk_at dksX6_isOpen_0 17 rfl rfl)
theorem dX6_isOpen_18 : decode cX6_isOpen 18 = .ok (.ishr, 1) := dk_122 (dk_at dksX6_isOpen_0 18 rfl rfl)
theorem dX6_isOpen_19 : decode cX6_isOpen 19 = .ok (.iconst 1, 1) := dk_4 (dk_at dksX6_isOpen_0 19 rfl rfl)
theorem dX6_isOpen_20 : decode cX6_isOpen 20 = .ok (.iand, 1) := dk_126 (dk_at dksX6_isOpen_0 20 rfl rfl)
theorem dX6_isOpen_21 : decode cX6_isOpen 21 = .ok (.iconst 1, 1) := dk_4 (dk_at dksX6_isOpen_0 21 rfl rfl)
theorem dX6_isOpen_22 : decode cX6_isOpen 22 = .ok (.if_icmp .ne 7, 3) := dk_160 0 7 (dk_at dksX6_isOpen_1 0 rfl rfl)
theorem dX6_isOpen_25 : decode cX6_isOpen 25 = .ok (.iconst 1, 1) := dk_4 (dk_at dksX6_isOpen_1 3 rfl rfl)
theorem dX6_isOpen_26 : decode cX6_isOpen 26 = .ok (.goto 4, 3) := dk_167 0 4 (dk_at dksX6_isOpen_1 4 rfl rfl)
theorem dX6_isOpen_29 : decode cX6_isOpen 29 = .ok (.iconst 0, 1) := dk_3 (dk_at dksX6_isOpen_1 7 rfl rfl)
theorem dX6_isOpen_30 : decode cX6_isOpen 30 = .ok (.ireturn, 1) := dk_172 (dk_at dksX6_isOpen_1 8 rfl rfl)
abbrev cX6_learn : ByteArray := prog_13_method_16_code
def yX6_learn : MethodName := ⟨RX6, "learn", "(LBumpwardModel$Walker;IIZ)V"⟩
def dkwX6_learn_1 : List UInt8 := [153, 0, 7, 5, 167, 0, 4, 4, 79, 177]
abbrev dktX6_learn_1 : List UInt8 := dkwX6_learn_1 ++ []
def dkwX6_learn_0 : List UInt8 := [27, 28, 184, 0, 50, 2, 159, 0, 27, 42, 180, 0, 71, 27, 28, 184, 0, 61, 50, 28, 184, 0, 64, 29]
abbrev dktX6_learn_0 : List UInt8 := dkwX6_learn_0 ++ dktX6_learn_1
theorem dksX6_learn_0 : cX6_learn.data.toList.drop 0 = dktX6_learn_0 := by decide +kernel
theorem dksX6_learn_1 : cX6_learn.data.toList.drop 24 = dktX6_learn_1 := dk_seg dksX6_learn_0 24 rfl rfl
theorem dX6_learn_0 : decode cX6_learn 0 = .ok (.iload_n 1, 1) := dk_27 (dk_at dksX6_learn_0 0 rfl rfl)
theorem dX6_learn_1 : decode cX6_learn 1 = .ok (.iload_n 2, 1) := dk_28 (dk_at dksX6_learn_0 1 rfl rfl)
theorem dX6_learn_2 : decode cX6_learn 2 = .ok (.invokestatic 50, 3) := dk_184 0 50 (dk_at dksX6_learn_0 2 rfl rfl)
theorem dX6_learn_5 : decode cX6_learn 5 = .ok (.iconst (-1), 1) := dk_2 (dk_at dksX6_learn_0 5 rfl rfl)
theorem dX6_learn_6 : decode cX6_learn 6 = .ok (.if_icmp .eq 27, 3) := dk_159 0 27 (dk_at dksX6_learn_0 6 rfl rfl)
theorem dX6_learn_9 : decode cX6_learn 9 = .ok (.aload_n 0, 1) := dk_42 (dk_at dksX6_learn_0 9 rfl rfl)
theorem dX6_learn_10 : decode cX6_learn 10 = .ok (.getfield 71, 3) := dk_180 0 71 (dk_at dksX6_learn_0 10 rfl rfl)
theorem dX6_learn_13 : decode cX6_learn 13 = .ok (.iload_n 1, 1) := dk_27 (dk_at dksX6_learn_0 13 rfl rfl)
theorem dX6_learn_14 : decode cX6_learn 14 = .ok (.iload_n 2, 1) := dk_28 (dk_at dksX6_learn_0 14 rfl rfl)
theorem dX6_learn_15 : decode cX6_learn 15 = .ok (.invokestatic 61, 3) := dk_184 0 61 (dk_at dksX6_learn_0 15 rfl rfl)
theorem dX6_learn_18 : decode cX6_learn 18 = .ok (.aaload, 1) := dk_50 (dk_at dksX6_learn_0 18 rfl rfl)
theorem dX6_learn_19 : decode cX6_learn 19 = .ok (.iload_n 2, 1) := dk_28 (dk_at dksX6_learn_0 19 rfl rfl)
theorem dX6_learn_20 : decode cX6_learn 20 = .ok (.invokestatic 64, 3) := dk_184 0 64 (dk_at dksX6_learn_0 20 rfl rfl)
theorem dX6_learn_23 : decode cX6_learn 23 = .ok (.iload_n 3, 1) := dk_29 (dk_at dksX6_learn_0 23 rfl rfl)
theorem dX6_learn_24 : decode cX6_learn 24 = .ok (.ifCond .eq 7, 3) := dk_153 0 7 (dk_at dksX6_learn_1 0 rfl rfl)
theorem dX6_learn_27 : decode cX6_learn 27 = .ok (.iconst 2, 1) := dk_5 (dk_at dksX6_learn_1 3 rfl rfl)
theorem dX6_learn_28 : decode cX6_learn 28 = .ok (.goto 4, 3) := dk_167 0 4 (dk_at dksX6_learn_1 4 rfl rfl)
theorem dX6_learn_31 : decode cX6_learn 31 = .ok (.iconst 1, 1) := dk_4 (dk_at dksX6_learn_1 7 rfl rfl)
theorem dX6_learn_32 : decode cX6_learn 32 = .ok (.iastore, 1) := dk_79 (dk_at dksX6_learn_1 8 rfl rfl)
theorem dX6_learn_33 : decode cX6_learn 33 = .ok (.return_, 1) := dk_177 (dk_at dksX6_learn_1 9 rfl rfl)
abbrev cX6_stepped : ByteArray := prog_13_method_33_code
def yX6_stepped : MethodName := ⟨RX6, "stepped", "(LBumpwardModel$Walker;Z)[Z"⟩
def dkwX6_stepped_4 : List UInt8 := [167, 255, 170, 44, 176]
abbrev dktX6_stepped_4 : List UInt8 := dkwX6_stepped_4 ++ []
def dkwX6_stepped_3 : List UInt8 := [4, 84, 44, 7, 29, 7, 108, 29, 7, 112, 184, 0, 50, 104, 29, 7, 112, 96, 4, 84, 132, 3, 1]
abbrev dktX6_stepped_3 : List UInt8 := dkwX6_stepped_3 ++ dktX6_stepped_4
def dkwX6_stepped_2 : List UInt8 := [21, 4, 4, 159, 0, 7, 4, 167, 0, 4, 3, 128, 84, 167, 0, 31, 21, 4, 5, 159, 0, 25, 44, 29]
abbrev dktX6_stepped_2 : List UInt8 := dkwX6_stepped_2 ++ dktX6_stepped_3
def dkwX6_stepped_1 : List UInt8 := [167, 0, 67, 42, 29, 7, 108, 29, 7, 112, 184, 0, 118, 54, 4, 27, 153, 0, 23, 44, 29, 92, 51]
abbrev dktX6_stepped_1 : List UInt8 := dkwX6_stepped_1 ++ dktX6_stepped_2
def dkwX6_stepped_0 : List UInt8 := [17, 0, 144, 188, 4, 77, 3, 62, 29, 17, 0, 144, 162, 0, 85, 42, 180, 0, 97, 29, 51, 154, 0, 6]
abbrev dktX6_stepped_0 : List UInt8 := dkwX6_stepped_0 ++ dktX6_stepped_1
theorem dksX6_stepped_0 : cX6_stepped.data.toList.drop 0 = dktX6_stepped_0 := by decide +kernel
theorem dksX6_stepped_1 : cX6_stepped.data.toList.drop 24 = dktX6_stepped_1 := dk_seg dksX6_stepped_0 24 rfl rfl
theorem dksX6_stepped_2 : cX6_stepped.data.toList.drop 47 = dktX6_stepped_2 := dk_seg dksX6_stepped_1 23 rfl rfl
theorem dksX6_stepped_3 : cX6_stepped.data.toList.drop 71 = dktX6_stepped_3 := dk_seg dksX6_stepped_2 24 rfl rfl
theorem dksX6_stepped_4 : cX6_stepped.data.toList.drop 94 = dktX6_stepped_4 := dk_seg dksX6_stepped_3 23 rfl rfl
theorem dX6_stepped_0 : decode cX6_stepped 0 = .ok (.sipush 144, 3) := dk_17 0 144 (dk_at dksX6_stepped_0 0 rfl rfl)
theorem dX6_stepped_3 : decode cX6_stepped 3 = .ok (.newarray .boolean, 2) := dk_188_4 (dk_at dksX6_stepped_0 3 rfl rfl)
theorem dX6_stepped_5 : decode cX6_stepped 5 = .ok (.astore_n 2, 1) := dk_77 (dk_at dksX6_stepped_0 5 rfl rfl)
theorem dX6_stepped_6 : decode cX6_stepped 6 = .ok (.iconst 0, 1) := dk_3 (dk_at dksX6_stepped_0 6 rfl rfl)
theorem dX6_stepped_7 : decode cX6_stepped 7 = .ok (.istore_n 3, 1) := dk_62 (dk_at dksX6_stepped_0 7 rfl rfl)
theorem dX6_stepped_8 : decode cX6_stepped 8 = .ok (.iload_n 3, 1) := dk_29 (dk_at dksX6_stepped_0 8 rfl rfl)
theorem dX6_stepped_9 : decode cX6_stepped 9 = .ok (.sipush 144, 3) := dk_17 0 144 (dk_at dksX6_stepped_0 9 rfl rfl)
theorem dX6_stepped_12 : decode cX6_stepped 12 = .ok (.if_icmp .ge 85, 3) := dk_162 0 85 (dk_at dksX6_stepped_0 12 rfl rfl)
theorem dX6_stepped_15 : decode cX6_stepped 15 = .ok (.aload_n 0, 1) := dk_42 (dk_at dksX6_stepped_0 15 rfl rfl)
theorem dX6_stepped_16 : decode cX6_stepped 16 = .ok (.getfield 97, 3) := dk_180 0 97 (dk_at dksX6_stepped_0 16 rfl rfl)
theorem dX6_stepped_19 : decode cX6_stepped 19 = .ok (.iload_n 3, 1) := dk_29 (dk_at dksX6_stepped_0 19 rfl rfl)
theorem dX6_stepped_20 : decode cX6_stepped 20 = .ok (.baload, 1) := dk_51 (dk_at dksX6_stepped_0 20 rfl rfl)
theorem dX6_stepped_21 : decode cX6_stepped 21 = .ok (.ifCond .ne 6, 3) := dk_154 0 6 (dk_at dksX6_stepped_0 21 rfl rfl)
theorem dX6_stepped_24 : decode cX6_stepped 24 = .ok (.goto 67, 3) := dk_167 0 67 (dk_at dksX6_stepped_1 0 rfl rfl)
theorem dX6_stepped_27 : decode cX6_stepped 27 = .ok (.aload_n 0, 1) := dk_42 (dk_at dksX6_stepped_1 3 rfl rfl)
theorem dX6_stepped_28 : decode cX6_stepped 28 = .ok (.iload_n 3, 1) := dk_29 (dk_at dksX6_stepped_1 4 rfl rfl)
theorem dX6_stepped_29 : decode cX6_stepped 29 = .ok (.iconst 4, 1) := dk_7 (dk_at dksX6_stepped_1 5 rfl rfl)
theorem dX6_stepped_30 : decode cX6_stepped 30 = .ok (.idiv, 1) := dk_108 (dk_at dksX6_stepped_1 6 rfl rfl)
theorem dX6_stepped_31 : decode cX6_stepped 31 = .ok (.iload_n 3, 1) := dk_29 (dk_at dksX6_stepped_1 7 rfl rfl)
theorem dX6_stepped_32 : decode cX6_stepped 32 = .ok (.iconst 4, 1) := dk_7 (dk_at dksX6_stepped_1 8 rfl rfl)
theorem dX6_stepped_33 : decode cX6_stepped 33 = .ok (.irem, 1) := dk_112 (dk_at dksX6_stepped_1 9 rfl rfl)
theorem dX6_stepped_34 : decode cX6_stepped 34 = .ok (.invokestatic 118, 3) := dk_184 0 118 (dk_at dksX6_stepped_1 10 rfl rfl)
theorem dX6_stepped_37 : decode cX6_stepped 37 = .ok (.istore 4, 2) := dk_54 4 (dk_at dksX6_stepped_1 13 rfl rfl)
theorem dX6_stepped_39 : decode cX6_stepped 39 = .ok (.iload_n 1, 1) := dk_27 (dk_at dksX6_stepped_1 15 rfl rfl)
theorem dX6_stepped_40 : decode cX6_stepped 40 = .ok (.ifCond .eq 23, 3) := dk_153 0 23 (dk_at dksX6_stepped_1 16 rfl rfl)
theorem dX6_stepped_43 : decode cX6_stepped 43 = .ok (.aload_n 2, 1) := dk_44 (dk_at dksX6_stepped_1 19 rfl rfl)
theorem dX6_stepped_44 : decode cX6_stepped 44 = .ok (.iload_n 3, 1) := dk_29 (dk_at dksX6_stepped_1 20 rfl rfl)
theorem dX6_stepped_45 : decode cX6_stepped 45 = .ok (.dup2, 1) := dk_92 (dk_at dksX6_stepped_1 21 rfl rfl)
theorem dX6_stepped_46 : decode cX6_stepped 46 = .ok (.baload, 1) := dk_51 (dk_at dksX6_stepped_1 22 rfl rfl)
theorem dX6_stepped_47 : decode cX6_stepped 47 = .ok (.iload 4, 2) := dk_21 4 (dk_at dksX6_stepped_2 0 rfl rfl)
theorem dX6_stepped_49 : decode cX6_stepped 49 = .ok (.iconst 1, 1) := dk_4 (dk_at dksX6_stepped_2 2 rfl rfl)
theorem dX6_stepped_50 : decode cX6_stepped 50 = .ok (.if_icmp .eq 7, 3) := dk_159 0 7 (dk_at dksX6_stepped_2 3 rfl rfl)
theorem dX6_stepped_53 : decode cX6_stepped 53 = .ok (.iconst 1, 1) := dk_4 (dk_at dksX6_stepped_2 6 rfl rfl)
theorem dX6_stepped_54 : decode cX6_stepped 54 = .ok (.goto 4, 3) := dk_167 0 4 (dk_at dksX6_stepped_2 7 rfl rfl)
theorem dX6_stepped_57 : decode cX6_stepped 57 = .ok (.iconst 0, 1) := dk_3 (dk_at dksX6_stepped_2 10 rfl rfl)
theorem dX6_stepped_58 : decode cX6_stepped 58 = .ok (.ior, 1) := dk_128 (dk_at dksX6_stepped_2 11 rfl rfl)
theorem dX6_stepped_59 : decode cX6_stepped 59 = .ok (.bastore, 1) := dk_84 (dk_at dksX6_stepped_2 12 rfl rfl)
theorem dX6_stepped_60 : decode cX6_stepped 60 = .ok (.goto 31, 3) := dk_167 0 31 (dk_at dksX6_stepped_2 13 rfl rfl)
theorem dX6_stepped_63 : decode cX6_stepped 63 = .ok (.iload 4, 2) := dk_21 4 (dk_at dksX6_stepped_2 16 rfl rfl)
theorem dX6_stepped_65 : decode cX6_stepped 65 = .ok (.iconst 2, 1) := dk_5 (dk_at dksX6_stepped_2 18 rfl rfl)
theorem dX6_stepped_66 : decode cX6_stepped 66 = .ok (.if_icmp .eq 25, 3) := dk_159 0 25 (dk_at dksX6_stepped_2 19 rfl rfl)
theorem dX6_stepped_69 : decode cX6_stepped 69 = .ok (.aload_n 2, 1) := dk_44 (dk_at dksX6_stepped_2 22 rfl rfl)
theorem dX6_stepped_70 : decode cX6_stepped 70 = .ok (.iload_n 3, 1) := dk_29 (dk_at dksX6_stepped_2 23 rfl rfl)
theorem dX6_stepped_71 : decode cX6_stepped 71 = .ok (.iconst 1, 1) := dk_4 (dk_at dksX6_stepped_3 0 rfl rfl)
theorem dX6_stepped_72 : decode cX6_stepped 72 = .ok (.bastore, 1) := dk_84 (dk_at dksX6_stepped_3 1 rfl rfl)
theorem dX6_stepped_73 : decode cX6_stepped 73 = .ok (.aload_n 2, 1) := dk_44 (dk_at dksX6_stepped_3 2 rfl rfl)
theorem dX6_stepped_74 : decode cX6_stepped 74 = .ok (.iconst 4, 1) := dk_7 (dk_at dksX6_stepped_3 3 rfl rfl)
theorem dX6_stepped_75 : decode cX6_stepped 75 = .ok (.iload_n 3, 1) := dk_29 (dk_at dksX6_stepped_3 4 rfl rfl)
theorem dX6_stepped_76 : decode cX6_stepped 76 = .ok (.iconst 4, 1) := dk_7 (dk_at dksX6_stepped_3 5 rfl rfl)
theorem dX6_stepped_77 : decode cX6_stepped 77 = .ok (.idiv, 1) := dk_108 (dk_at dksX6_stepped_3 6 rfl rfl)
theorem dX6_stepped_78 : decode cX6_stepped 78 = .ok (.iload_n 3, 1) := dk_29 (dk_at dksX6_stepped_3 7 rfl rfl)
theorem dX6_stepped_79 : decode cX6_stepped 79 = .ok (.iconst 4, 1) := dk_7 (dk_at dksX6_stepped_3 8 rfl rfl)
theorem dX6_stepped_80 : decode cX6_stepped 80 = .ok (.irem, 1) := dk_112 (dk_at dksX6_stepped_3 9 rfl rfl)
theorem dX6_stepped_81 : decode cX6_stepped 81 = .ok (.invokestatic 50, 3) := dk_184 0 50 (dk_at dksX6_stepped_3 10 rfl rfl)
theorem dX6_stepped_84 : decode cX6_stepped 84 = .ok (.imul, 1) := dk_104 (dk_at dksX6_stepped_3 13 rfl rfl)
theorem dX6_stepped_85 : decode cX6_stepped 85 = .ok (.iload_n 3, 1) := dk_29 (dk_at dksX6_stepped_3 14 rfl rfl)
theorem dX6_stepped_86 : decode cX6_stepped 86 = .ok (.iconst 4, 1) := dk_7 (dk_at dksX6_stepped_3 15 rfl rfl)
theorem dX6_stepped_87 : decode cX6_stepped 87 = .ok (.irem, 1) := dk_112 (dk_at dksX6_stepped_3 16 rfl rfl)
theorem dX6_stepped_88 : decode cX6_stepped 88 = .ok (.iadd, 1) := dk_96 (dk_at dksX6_stepped_3 17 rfl rfl)
theorem dX6_stepped_89 : decode cX6_stepped 89 = .ok (.iconst 1, 1) := dk_4 (dk_at dksX6_stepped_3 18 rfl rfl)
theorem dX6_stepped_90 : decode cX6_stepped 90 = .ok (.bastore, 1) := dk_84 (dk_at dksX6_stepped_3 19 rfl rfl)
theorem dX6_stepped_91 : decode cX6_stepped 91 = .ok (.iinc 3 1, 3) := dk_132 3 1 (dk_at dksX6_stepped_3 20 rfl rfl)
theorem dX6_stepped_94 : decode cX6_stepped 94 = .ok (.goto (-86), 3) := dk_167 255 170 (dk_at dksX6_stepped_4 0 rfl rfl)
theorem dX6_stepped_97 : decode cX6_stepped 97 = .ok (.aload_n 2, 1) := dk_44 (dk_at dksX6_stepped_4 3 rfl rfl)
theorem dX6_stepped_98 : decode cX6_stepped 98 = .ok (.areturn, 1) := dk_176 (dk_at dksX6_stepped_4 4 rfl rfl)
abbrev cX6_take : ByteArray := prog_13_method_32_code
def yX6_take : MethodName := ⟨RX6, "take", "(LBumpwardModel$Walker;[Z)V"⟩
def dkwX6_take_1 : List UInt8 := [181, 0, 146, 177]
abbrev dktX6_take_1 : List UInt8 := dkwX6_take_1 ++ []
def dkwX6_take_0 : List UInt8 := [42, 43, 181, 0, 97, 42, 182, 0, 143, 158, 0, 4, 177, 42, 184, 0, 110, 42, 89, 180, 0, 146, 4, 96]
abbrev dktX6_take_0 : List UInt8 := dkwX6_take_0 ++ dktX6_take_1
theorem dksX6_take_0 : cX6_take.data.toList.drop 0 = dktX6_take_0 := by decide +kernel
theorem dksX6_take_1 : cX6_take.data.toList.drop 24 = dktX6_take_1 := dk_seg dksX6_take_0 24 rfl rfl
theorem dX6_take_0 : decode cX6_take 0 = .ok (.aload_n 0, 1) := dk_42 (dk_at dksX6_take_0 0 rfl rfl)
theorem dX6_take_1 : decode cX6_take 1 = .ok (.aload_n 1, 1) := dk_43 (dk_at dksX6_take_0 1 rfl rfl)
theorem dX6_take_2 : decode cX6_take 2 = .ok (.putfield 97, 3) := dk_181 0 97 (dk_at dksX6_take_0 2 rfl rfl)
theorem dX6_take_5 : decode cX6_take 5 = .ok (.aload_n 0, 1) := dk_42 (dk_at dksX6_take_0 5 rfl rfl)
theorem dX6_take_6 : decode cX6_take 6 = .ok (.invokevirtual 143, 3) := dk_182 0 143 (dk_at dksX6_take_0 6 rfl rfl)
theorem dX6_take_9 : decode cX6_take 9 = .ok (.ifCond .le 4, 3) := dk_158 0 4 (dk_at dksX6_take_0 9 rfl rfl)
theorem dX6_take_12 : decode cX6_take 12 = .ok (.return_, 1) := dk_177 (dk_at dksX6_take_0 12 rfl rfl)
theorem dX6_take_13 : decode cX6_take 13 = .ok (.aload_n 0, 1) := dk_42 (dk_at dksX6_take_0 13 rfl rfl)
theorem dX6_take_14 : decode cX6_take 14 = .ok (.invokestatic 110, 3) := dk_184 0 110 (dk_at dksX6_take_0 14 rfl rfl)
theorem dX6_take_17 : decode cX6_take 17 = .ok (.aload_n 0, 1) := dk_42 (dk_at dksX6_take_0 17 rfl rfl)
theorem dX6_take_18 : decode cX6_take 18 = .ok (.dup, 1) := dk_89 (dk_at dksX6_take_0 18 rfl rfl)
theorem dX6_take_19 : decode cX6_take 19 = .ok (.getfield 146, 3) := dk_180 0 146 (dk_at dksX6_take_0 19 rfl rfl)
theorem dX6_take_22 : decode cX6_take 22 = .ok (.iconst 1, 1) := dk_4 (dk_at dksX6_take_0 22 rfl rfl)
theorem dX6_take_23 : decode cX6_take 23 = .ok (.iadd, 1) := dk_96 (dk_at dksX6_take_0 23 rfl rfl)
theorem dX6_take_24 : decode cX6_take 24 = .ok (.putfield 146, 3) := dk_181 0 146 (dk_at dksX6_take_1 0 rfl rfl)
theorem dX6_take_27 : decode cX6_take 27 = .ok (.return_, 1) := dk_177 (dk_at dksX6_take_1 3 rfl rfl)
abbrev cX6_act : ByteArray := prog_13_method_31_code
def yX6_act : MethodName := ⟨RX6, "act", "(LBumpwardModel$Walker;)V"⟩
def dkwX6_act_1 : List UInt8 := [180, 0, 54, 4, 96, 181, 0, 54, 177]
abbrev dktX6_act_1 : List UInt8 := dkwX6_act_1 ++ []
def dkwX6_act_0 : List UInt8 := [43, 89, 180, 0, 140, 4, 96, 181, 0, 140, 43, 89, 180, 0, 107, 4, 100, 181, 0, 107, 42, 89]
abbrev dktX6_act_0 : List UInt8 := dkwX6_act_0 ++ dktX6_act_1
theorem dksX6_act_0 : cX6_act.data.toList.drop 0 = dktX6_act_0 := by decide +kernel
theorem dksX6_act_1 : cX6_act.data.toList.drop 22 = dktX6_act_1 := dk_seg dksX6_act_0 22 rfl rfl
theorem dX6_act_0 : decode cX6_act 0 = .ok (.aload_n 1, 1) := dk_43 (dk_at dksX6_act_0 0 rfl rfl)
theorem dX6_act_1 : decode cX6_act 1 = .ok (.dup, 1) := dk_89 (dk_at dksX6_act_0 1 rfl rfl)
theorem dX6_act_2 : decode cX6_act 2 = .ok (.getfield 140, 3) := dk_180 0 140 (dk_at dksX6_act_0 2 rfl rfl)
theorem dX6_act_5 : decode cX6_act 5 = .ok (.iconst 1, 1) := dk_4 (dk_at dksX6_act_0 5 rfl rfl)
theorem dX6_act_6 : decode cX6_act 6 = .ok (.iadd, 1) := dk_96 (dk_at dksX6_act_0 6 rfl rfl)
theorem dX6_act_7 : decode cX6_act 7 = .ok (.putfield 140, 3) := dk_181 0 140 (dk_at dksX6_act_0 7 rfl rfl)
theorem dX6_act_10 : decode cX6_act 10 = .ok (.aload_n 1, 1) := dk_43 (dk_at dksX6_act_0 10 rfl rfl)
theorem dX6_act_11 : decode cX6_act 11 = .ok (.dup, 1) := dk_89 (dk_at dksX6_act_0 11 rfl rfl)
theorem dX6_act_12 : decode cX6_act 12 = .ok (.getfield 107, 3) := dk_180 0 107 (dk_at dksX6_act_0 12 rfl rfl)
theorem dX6_act_15 : decode cX6_act 15 = .ok (.iconst 1, 1) := dk_4 (dk_at dksX6_act_0 15 rfl rfl)
theorem dX6_act_16 : decode cX6_act 16 = .ok (.isub, 1) := dk_100 (dk_at dksX6_act_0 16 rfl rfl)
theorem dX6_act_17 : decode cX6_act 17 = .ok (.putfield 107, 3) := dk_181 0 107 (dk_at dksX6_act_0 17 rfl rfl)
theorem dX6_act_20 : decode cX6_act 20 = .ok (.aload_n 0, 1) := dk_42 (dk_at dksX6_act_0 20 rfl rfl)
theorem dX6_act_21 : decode cX6_act 21 = .ok (.dup, 1) := dk_89 (dk_at dksX6_act_0 21 rfl rfl)
theorem dX6_act_22 : decode cX6_act 22 = .ok (.getfield 54, 3) := dk_180 0 54 (dk_at dksX6_act_1 0 rfl rfl)
theorem dX6_act_25 : decode cX6_act 25 = .ok (.iconst 1, 1) := dk_4 (dk_at dksX6_act_1 3 rfl rfl)
theorem dX6_act_26 : decode cX6_act 26 = .ok (.iadd, 1) := dk_96 (dk_at dksX6_act_1 4 rfl rfl)
theorem dX6_act_27 : decode cX6_act 27 = .ok (.putfield 54, 3) := dk_181 0 54 (dk_at dksX6_act_1 5 rfl rfl)
theorem dX6_act_30 : decode cX6_act 30 = .ok (.return_, 1) := dk_177 (dk_at dksX6_act_1 8 rfl rfl)
abbrev cX6_turn : ByteArray := prog_13_method_35_code
def yX6_turn : MethodName := ⟨RX6, "turn", "(IZZ)I"⟩
def dkwX6_turn_5 : List UInt8 := [167, 255, 227, 25, 4, 25, 6, 184, 0, 183, 42, 25, 4, 182, 0, 187, 25, 4, 182, 0, 143, 172]
abbrev dktX6_turn_5 : List UInt8 := dkwX6_turn_5 ++ []
def dkwX6_turn_4 : List UInt8 := [162, 0, 27, 25, 6, 21, 7, 21, 5, 184, 0, 190, 25, 4, 180, 0, 97, 21, 7, 51, 84, 132, 7, 1]
abbrev dktX6_turn_4 : List UInt8 := dkwX6_turn_4 ++ dktX6_turn_5
def dkwX6_turn_3 : List UInt8 := [21, 5, 184, 0, 190, 181, 0, 101, 17, 0, 144, 188, 4, 58, 6, 3, 54, 7, 21, 7, 17, 0, 144]
abbrev dktX6_turn_3 : List UInt8 := dkwX6_turn_3 ++ dktX6_turn_4
def dkwX6_turn_2 : List UInt8 := [192, 0, 72, 58, 4, 28, 153, 0, 7, 4, 167, 0, 4, 6, 54, 5, 25, 4, 25, 4, 180, 0, 101]
abbrev dktX6_turn_2 : List UInt8 := dkwX6_turn_2 ++ dktX6_turn_3
def dkwX6_turn_1 : List UInt8 := [192, 0, 72, 29, 182, 0, 156, 5, 182, 0, 38, 153, 0, 5, 3, 172, 42, 180, 0, 31, 27, 182, 0, 152]
abbrev dktX6_turn_1 : List UInt8 := dkwX6_turn_1 ++ dktX6_turn_2
def dkwX6_turn_0 : List UInt8 := [42, 42, 27, 182, 0, 149, 4, 182, 0, 83, 154, 0, 27, 42, 42, 42, 180, 0, 31, 27, 182, 0, 152]
abbrev dktX6_turn_0 : List UInt8 := dkwX6_turn_0 ++ dktX6_turn_1
theorem dksX6_turn_0 : cX6_turn.data.toList.drop 0 = dktX6_turn_0 := by decide +kernel
theorem dksX6_turn_1 : cX6_turn.data.toList.drop 23 = dktX6_turn_1 := dk_seg dksX6_turn_0 23 rfl rfl
theorem dksX6_turn_2 : cX6_turn.data.toList.drop 47 = dktX6_turn_2 := dk_seg dksX6_turn_1 24 rfl rfl
theorem dksX6_turn_3 : cX6_turn.data.toList.drop 70 = dktX6_turn_3 := dk_seg dksX6_turn_2 23 rfl rfl
theorem dksX6_turn_4 : cX6_turn.data.toList.drop 93 = dktX6_turn_4 := dk_seg dksX6_turn_3 23 rfl rfl
theorem dksX6_turn_5 : cX6_turn.data.toList.drop 117 = dktX6_turn_5 := dk_seg dksX6_turn_4 24 rfl rfl
theorem dX6_turn_0 : decode cX6_turn 0 = .ok (.aload_n 0, 1) := dk_42 (dk_at dksX6_turn_0 0 rfl rfl)
theorem dX6_turn_1 : decode cX6_turn 1 = .ok (.aload_n 0, 1) := dk_42 (dk_at dksX6_turn_0 1 rfl rfl)
theorem dX6_turn_2 : decode cX6_turn 2 = .ok (.iload_n 1, 1) := dk_27 (dk_at dksX6_turn_0 2 rfl rfl)
theorem dX6_turn_3 : decode cX6_turn 3 = .ok (.invokevirtual 149, 3) := dk_182 0 149 (dk_at dksX6_turn_0 3 rfl rfl)
theorem dX6_turn_6 : decode cX6_turn 6 = .ok (.iconst 1, 1) := dk_4 (dk_at dksX6_turn_0 6 rfl rfl)
theorem dX6_turn_7 : decode cX6_turn 7 = .ok (.invokevirtual 83, 3) := dk_182 0 83 (dk_at dksX6_turn_0 7 rfl rfl)
theorem dX6_turn_10 : decode cX6_turn 10 = .ok (.ifCond .ne 27, 3) := dk_154 0 27 (dk_at dksX6_turn_0 10 rfl rfl)
theorem dX6_turn_13 : decode cX6_turn 13 = .ok (.aload_n 0, 1) := dk_42 (dk_at dksX6_turn_0 13 rfl rfl)
theorem dX6_turn_14 : decode cX6_turn 14 = .ok (.aload_n 0, 1) := dk_42 (dk_at dksX6_turn_0 14 rfl rfl)
theorem dX6_turn_15 : decode cX6_turn 15 = .ok (.aload_n 0, 1) := dk_42 (dk_at dksX6_turn_0 15 rfl rfl)
theorem dX6_turn_16 : decode cX6_turn 16 = .ok (.getfield 31, 3) := dk_180 0 31 (dk_at dksX6_turn_0 16 rfl rfl)
theorem dX6_turn_19 : decode cX6_turn 19 = .ok (.iload_n 1, 1) := dk_27 (dk_at dksX6_turn_0 19 rfl rfl)
theorem dX6_turn_20 : decode cX6_turn 20 = .ok (.invokevirtual 152, 3) := dk_182 0 152 (dk_at dksX6_turn_0 20 rfl rfl)
theorem dX6_turn_23 : decode cX6_turn 23 = .ok (.checkcast 72, 3) := dk_192 0 72 (dk_at dksX6_turn_1 0 rfl rfl)
theorem dX6_turn_26 : decode cX6_turn 26 = .ok (.iload_n 3, 1) := dk_29 (dk_at dksX6_turn_1 3 rfl rfl)
theorem dX6_turn_27 : decode cX6_turn 27 = .ok (.invokevirtual 156, 3) := dk_182 0 156 (dk_at dksX6_turn_1 4 rfl rfl)
theorem dX6_turn_30 : decode cX6_turn 30 = .ok (.iconst 2, 1) := dk_5 (dk_at dksX6_turn_1 7 rfl rfl)
theorem dX6_turn_31 : decode cX6_turn 31 = .ok (.invokevirtual 38, 3) := dk_182 0 38 (dk_at dksX6_turn_1 8 rfl rfl)
theorem dX6_turn_34 : decode cX6_turn 34 = .ok (.ifCond .eq 5, 3) := dk_153 0 5 (dk_at dksX6_turn_1 11 rfl rfl)
theorem dX6_turn_37 : decode cX6_turn 37 = .ok (.iconst 0, 1) := dk_3 (dk_at dksX6_turn_1 14 rfl rfl)
theorem dX6_turn_38 : decode cX6_turn 38 = .ok (.ireturn, 1) := dk_172 (dk_at dksX6_turn_1 15 rfl rfl)
theorem dX6_turn_39 : decode cX6_turn 39 = .ok (.aload_n 0, 1) := dk_42 (dk_at dksX6_turn_1 16 rfl rfl)
theorem dX6_turn_40 : decode cX6_turn 40 = .ok (.getfield 31, 3) := dk_180 0 31 (dk_at dksX6_turn_1 17 rfl rfl)
theorem dX6_turn_43 : decode cX6_turn 43 = .ok (.iload_n 1, 1) := dk_27 (dk_at dksX6_turn_1 20 rfl rfl)
theorem dX6_turn_44 : decode cX6_turn 44 = .ok (.invokevirtual 152, 3) := dk_182 0 152 (dk_at dksX6_turn_1 21 rfl rfl)
theorem dX6_turn_47 : decode cX6_turn 47 = .ok (.checkcast 72, 3) := dk_192 0 72 (dk_at dksX6_turn_2 0 rfl rfl)
theorem dX6_turn_50 : decode cX6_turn 50 = .ok (.astore 4, 2) := dk_58 4 (dk_at dksX6_turn_2 3 rfl rfl)
theorem dX6_turn_52 : decode cX6_turn 52 = .ok (.iload_n 2, 1) := dk_28 (dk_at dksX6_turn_2 5 rfl rfl)
theorem dX6_turn_53 : decode cX6_turn 53 = .ok (.ifCond .eq 7, 3) := dk_153 0 7 (dk_at dksX6_turn_2 6 rfl rfl)
theorem dX6_turn_56 : decode cX6_turn 56 = .ok (.iconst 1, 1) := dk_4 (dk_at dksX6_turn_2 9 rfl rfl)
theorem dX6_turn_57 : decode cX6_turn 57 = .ok (.goto 4, 3) := dk_167 0 4 (dk_at dksX6_turn_2 10 rfl rfl)
theorem dX6_turn_60 : decode cX6_turn 60 = .ok (.iconst 3, 1) := dk_6 (dk_at dksX6_turn_2 13 rfl rfl)
theorem dX6_turn_61 : decode cX6_turn 61 = .ok (.istore 5, 2) := dk_54 5 (dk_at dksX6_turn_2 14 rfl rfl)
theorem dX6_turn_63 : decode cX6_turn 63 = .ok (.aload 4, 2) := dk_25 4 (dk_at dksX6_turn_2 16 rfl rfl)
theorem dX6_turn_65 : decode cX6_turn 65 = .ok (.aload 4, 2) := dk_25 4 (dk_at dksX6_turn_2 18 rfl rfl)
theorem dX6_turn_67 : decode cX6_turn 67 = .ok (.getfield 101, 3) := dk_180 0 101 (dk_at dksX6_turn_2 20 rfl rfl)
theorem dX6_turn_70 : decode cX6_turn 70 = .ok (.iload 5, 2) := dk_21 5 (dk_at dksX6_turn_3 0 rfl rfl)
theorem dX6_turn_72 : decode cX6_turn 72 = .ok (.invokestatic 190, 3) := dk_184 0 190 (dk_at dksX6_turn_3 2 rfl rfl)
theorem dX6_turn_75 : decode cX6_turn 75 = .ok (.putfield 101, 3) := dk_181 0 101 (dk_at dksX6_turn_3 5 rfl rfl)
theorem dX6_turn_78 : decode cX6_turn 78 = .ok (.sipush 144, 3) := dk_17 0 144 (dk_at dksX6_turn_3 8 rfl rfl)
theorem dX6_turn_81 : decode cX6_turn 81 = .ok (.newarray .boolean, 2) := dk_188_4 (dk_at dksX6_turn_3 11 rfl rfl)
theorem dX6_turn_83 : decode cX6_turn 83 = .ok (.astore 6, 2) := dk_58 6 (dk_at dksX6_turn_3 13 rfl rfl)
theorem dX6_turn_85 : decode cX6_turn 85 = .ok (.iconst 0, 1) := dk_3 (dk_at dksX6_turn_3 15 rfl rfl)
theorem dX6_turn_86 : decode cX6_turn 86 = .ok (.istore 7, 2) := dk_54 7 (dk_at dksX6_turn_3 16 rfl rfl)
theorem dX6_turn_88 : decode cX6_turn 88 = .ok (.iload 7, 2) := dk_21 7 (dk_at dksX6_turn_3 18 rfl rfl)
theorem dX6_turn_90 : decode cX6_turn 90 = .ok (.sipush 144, 3) := dk_17 0 144 (dk_at dksX6_turn_3 20 rfl rfl)
theorem dX6_turn_93 : decode cX6_turn 93 = .ok (.if_icmp .ge 27, 3) := dk_162 0 27 (dk_at dksX6_turn_4 0 rfl rfl)
theorem dX6_turn_96 : decode cX6_turn 96 = .ok (.aload 6, 2) := dk_25 6 (dk_at dksX6_turn_4 3 rfl rfl)
theorem dX6_turn_98 : decode cX6_turn 98 = .ok (.iload 7, 2) := dk_21 7 (dk_at dksX6_turn_4 5 rfl rfl)
theorem dX6_turn_100 : decode cX6_turn 100 = .ok (.iload 5, 2) := dk_21 5 (dk_at dksX6_turn_4 7 rfl rfl)
theorem dX6_turn_102 : decode cX6_turn 102 = .ok (.invokestatic 190, 3) := dk_184 0 190 (dk_at dksX6_turn_4 9 rfl rfl)
theorem dX6_turn_105 : decode cX6_turn 105 = .ok (.aload 4, 2) := dk_25 4 (dk_at dksX6_turn_4 12 rfl rfl)
theorem dX6_turn_107 : decode cX6_turn 107 = .ok (.getfield 97, 3) := dk_180 0 97 (dk_at dksX6_turn_4 14 rfl rfl)
theorem dX6_turn_110 : decode cX6_turn 110 = .ok (.iload 7, 2) := dk_21 7 (dk_at dksX6_turn_4 17 rfl rfl)
theorem dX6_turn_112 : decode cX6_turn 112 = .ok (.baload, 1) := dk_51 (dk_at dksX6_turn_4 19 rfl rfl)
theorem dX6_turn_113 : decode cX6_turn 113 = .ok (.bastore, 1) := dk_84 (dk_at dksX6_turn_4 20 rfl rfl)
theorem dX6_turn_114 : decode cX6_turn 114 = .ok (.iinc 7 1, 3) := dk_132 7 1 (dk_at dksX6_turn_4 21 rfl rfl)
theorem dX6_turn_117 : decode cX6_turn 117 = .ok (.goto (-29), 3) := dk_167 255 227 (dk_at dksX6_turn_5 0 rfl rfl)
theorem dX6_turn_120 : decode cX6_turn 120 = .ok (.aload 4, 2) := dk_25 4 (dk_at dksX6_turn_5 3 rfl rfl)
theorem dX6_turn_122 : decode cX6_turn 122 = .ok (.aload 6, 2) := dk_25 6 (dk_at dksX6_turn_5 5 rfl rfl)
theorem dX6_turn_124 : decode cX6_turn 124 = .ok (.invokestatic 183, 3) := dk_184 0 183 (dk_at dksX6_turn_5 7 rfl rfl)
theorem dX6_turn_127 : decode cX6_turn 127 = .ok (.aload_n 0, 1) := dk_42 (dk_at dksX6_turn_5 10 rfl rfl)
theorem dX6_turn_128 : decode cX6_turn 128 = .ok (.aload 4, 2) := dk_25 4 (dk_at dksX6_turn_5 11 rfl rfl)
theorem dX6_turn_130 : decode cX6_turn 130 = .ok (.invokevirtual 187, 3) := dk_182 0 187 (dk_at dksX6_turn_5 13 rfl rfl)
theorem dX6_turn_133 : decode cX6_turn 133 = .ok (.aload 4, 2) := dk_25 4 (dk_at dksX6_turn_5 16 rfl rfl)
theorem dX6_turn_135 : decode cX6_turn 135 = .ok (.invokevirtual 143, 3) := dk_182 0 143 (dk_at dksX6_turn_5 18 rfl rfl)
theorem dX6_turn_138 : decode cX6_turn 138 = .ok (.ireturn, 1) := dk_172 (dk_at dksX6_turn_5 21 rfl rfl)
abbrev cX6_turned : ByteArray := prog_13_method_18_code
def yX6_turned : MethodName := ⟨RX6, "turned", "(II)I"⟩
def dkwX6_turned_0 : List UInt8 := [26, 7, 108, 7, 104, 26, 27, 96, 7, 112, 96, 172]
abbrev dktX6_turned_0 : List UInt8 := dkwX6_turned_0 ++ []
theorem dksX6_turned_0 : cX6_turned.data.toList.drop 0 = dktX6_turned_0 := by decide +kernel
theorem dX6_turned_0 : decode cX6_turned 0 = .ok (.iload_n 0, 1) := dk_26 (dk_at dksX6_turned_0 0 rfl rfl)
theorem dX6_turned_1 : decode cX6_turned 1 = .ok (.iconst 4, 1) := dk_7 (dk_at dksX6_turned_0 1 rfl rfl)
theorem dX6_turned_2 : decode cX6_turned 2 = .ok (.idiv, 1) := dk_108 (dk_at dksX6_turned_0 2 rfl rfl)
theorem dX6_turned_3 : decode cX6_turned 3 = .ok (.iconst 4, 1) := dk_7 (dk_at dksX6_turned_0 3 rfl rfl)
theorem dX6_turned_4 : decode cX6_turned 4 = .ok (.imul, 1) := dk_104 (dk_at dksX6_turned_0 4 rfl rfl)
theorem dX6_turned_5 : decode cX6_turned 5 = .ok (.iload_n 0, 1) := dk_26 (dk_at dksX6_turned_0 5 rfl rfl)
theorem dX6_turned_6 : decode cX6_turned 6 = .ok (.iload_n 1, 1) := dk_27 (dk_at dksX6_turned_0 6 rfl rfl)
theorem dX6_turned_7 : decode cX6_turned 7 = .ok (.iadd, 1) := dk_96 (dk_at dksX6_turned_0 7 rfl rfl)
theorem dX6_turned_8 : decode cX6_turned 8 = .ok (.iconst 4, 1) := dk_7 (dk_at dksX6_turned_0 8 rfl rfl)
theorem dX6_turned_9 : decode cX6_turned 9 = .ok (.irem, 1) := dk_112 (dk_at dksX6_turned_0 9 rfl rfl)
theorem dX6_turned_10 : decode cX6_turned 10 = .ok (.iadd, 1) := dk_96 (dk_at dksX6_turned_0 10 rfl rfl)
theorem dX6_turned_11 : decode cX6_turned 11 = .ok (.ireturn, 1) := dk_172 (dk_at dksX6_turned_0 11 rfl rfl)
abbrev cX6_feel : ByteArray := prog_13_method_38_code
def yX6_feel : MethodName := ⟨RX6, "feel", "(IZ)I"⟩
def dkwX6_feel_6 : List UInt8 := [21, 4, 172]
abbrev dktX6_feel_6 : List UInt8 := dkwX6_feel_6 ++ []
def dkwX6_feel_5 : List UInt8 := [184, 0, 175, 132, 6, 1, 167, 255, 208, 45, 45, 21, 4, 184, 0, 196, 184, 0, 183, 42, 45, 182, 0, 187]
abbrev dktX6_feel_5 : List UInt8 := dkwX6_feel_5 ++ dktX6_feel_6
def dkwX6_feel_4 : List UInt8 := [6, 96, 21, 6, 96, 7, 112, 21, 4, 21, 6, 122, 4, 126, 4, 160, 0, 7, 4, 167, 0, 4, 3]
abbrev dktX6_feel_4 : List UInt8 := dkwX6_feel_4 ++ dktX6_feel_5
def dkwX6_feel_3 : List UInt8 := [54, 5, 3, 54, 6, 21, 6, 6, 162, 0, 48, 21, 5, 2, 159, 0, 42, 45, 21, 5, 7, 108, 21, 5]
abbrev dktX6_feel_3 : List UInt8 := dkwX6_feel_3 ++ dktX6_feel_4
def dkwX6_feel_2 : List UInt8 := [192, 0, 72, 78, 42, 45, 182, 0, 160, 45, 180, 0, 101, 7, 112, 182, 0, 193, 54, 4, 45, 182, 0, 122]
abbrev dktX6_feel_2 : List UInt8 := dkwX6_feel_2 ++ dktX6_feel_3
def dkwX6_feel_1 : List UInt8 := [192, 0, 72, 28, 182, 0, 156, 5, 182, 0, 38, 153, 0, 5, 3, 172, 42, 180, 0, 31, 27, 182, 0, 152]
abbrev dktX6_feel_1 : List UInt8 := dkwX6_feel_1 ++ dktX6_feel_2
def dkwX6_feel_0 : List UInt8 := [42, 42, 27, 182, 0, 149, 4, 182, 0, 83, 154, 0, 27, 42, 42, 42, 180, 0, 31, 27, 182, 0, 152]
abbrev dktX6_feel_0 : List UInt8 := dkwX6_feel_0 ++ dktX6_feel_1
theorem dksX6_feel_0 : cX6_feel.data.toList.drop 0 = dktX6_feel_0 := by decide +kernel
theorem dksX6_feel_1 : cX6_feel.data.toList.drop 23 = dktX6_feel_1 := dk_seg dksX6_feel_0 23 rfl rfl
theorem dksX6_feel_2 : cX6_feel.data.toList.drop 47 = dktX6_feel_2 := dk_seg dksX6_feel_1 24 rfl rfl
theorem dksX6_feel_3 : cX6_feel.data.toList.drop 71 = dktX6_feel_3 := dk_seg dksX6_feel_2 24 rfl rfl
theorem dksX6_feel_4 : cX6_feel.data.toList.drop 95 = dktX6_feel_4 := dk_seg dksX6_feel_3 24 rfl rfl
theorem dksX6_feel_5 : cX6_feel.data.toList.drop 118 = dktX6_feel_5 := dk_seg dksX6_feel_4 23 rfl rfl
theorem dksX6_feel_6 : cX6_feel.data.toList.drop 142 = dktX6_feel_6 := dk_seg dksX6_feel_5 24 rfl rfl
theorem dX6_feel_0 : decode cX6_feel 0 = .ok (.aload_n 0, 1) := dk_42 (dk_at dksX6_feel_0 0 rfl rfl)
theorem dX6_feel_1 : decode cX6_feel 1 = .ok (.aload_n 0, 1) := dk_42 (dk_at dksX6_feel_0 1 rfl rfl)
theorem dX6_feel_2 : decode cX6_feel 2 = .ok (.iload_n 1, 1) := dk_27 (dk_at dksX6_feel_0 2 rfl rfl)
theorem dX6_feel_3 : decode cX6_feel 3 = .ok (.invokevirtual 149, 3) := dk_182 0 149 (dk_at dksX6_feel_0 3 rfl rfl)
theorem dX6_feel_6 : decode cX6_feel 6 = .ok (.iconst 1, 1) := dk_4 (dk_at dksX6_feel_0 6 rfl rfl)
theorem dX6_feel_7 : decode cX6_feel 7 = .ok (.invokevirtual 83, 3) := dk_182 0 83 (dk_at dksX6_feel_0 7 rfl rfl)
theorem dX6_feel_10 : decode cX6_feel 10 = .ok (.ifCond .ne 27, 3) := dk_154 0 27 (dk_at dksX6_feel_0 10 rfl rfl)
theorem dX6_feel_13 : decode cX6_feel 13 = .ok (.aload_n 0, 1) := dk_42 (dk_at dksX6_feel_0 13 rfl rfl)
theorem dX6_feel_14 : decode cX6_feel 14 = .ok (.aload_n 0, 1) := dk_42 (dk_at dksX6_feel_0 14 rfl rfl)
theorem dX6_feel_15 : decode cX6_feel 15 = .ok (.aload_n 0, 1) := dk_42 (dk_at dksX6_feel_0 15 rfl rfl)
theorem dX6_feel_16 : decode cX6_feel 16 = .ok (.getfield 31, 3) := dk_180 0 31 (dk_at dksX6_feel_0 16 rfl rfl)
theorem dX6_feel_19 : decode cX6_feel 19 = .ok (.iload_n 1, 1) := dk_27 (dk_at dksX6_feel_0 19 rfl rfl)
theorem dX6_feel_20 : decode cX6_feel 20 = .ok (.invokevirtual 152, 3) := dk_182 0 152 (dk_at dksX6_feel_0 20 rfl rfl)
theorem dX6_feel_23 : decode cX6_feel 23 = .ok (.checkcast 72, 3) := dk_192 0 72 (dk_at dksX6_feel_1 0 rfl rfl)
theorem dX6_feel_26 : decode cX6_feel 26 = .ok (.iload_n 2, 1) := dk_28 (dk_at dksX6_feel_1 3 rfl rfl)
theorem dX6_feel_27 : decode cX6_feel 27 = .ok (.invokevirtual 156, 3) := dk_182 0 156 (dk_at dksX6_feel_1 4 rfl rfl)
theorem dX6_feel_30 : decode cX6_feel 30 = .ok (.iconst 2, 1) := dk_5 (dk_at dksX6_feel_1 7 rfl rfl)
theorem dX6_feel_31 : decode cX6_feel 31 = .ok (.invokevirtual 38, 3) := dk_182 0 38 (dk_at dksX6_feel_1 8 rfl rfl)
theorem dX6_feel_34 : decode cX6_feel 34 = .ok (.ifCond .eq 5, 3) := dk_153 0 5 (dk_at dksX6_feel_1 11 rfl rfl)
theorem dX6_feel_37 : decode cX6_feel 37 = .ok (.iconst 0, 1) := dk_3 (dk_at dksX6_feel_1 14 rfl rfl)
theorem dX6_feel_38 : decode cX6_feel 38 = .ok (.ireturn, 1) := dk_172 (dk_at dksX6_feel_1 15 rfl rfl)
theorem dX6_feel_39 : decode cX6_feel 39 = .ok (.aload_n 0, 1) := dk_42 (dk_at dksX6_feel_1 16 rfl rfl)
theorem dX6_feel_40 : decode cX6_feel 40 = .ok (.getfield 31, 3) := dk_180 0 31 (dk_at dksX6_feel_1 17 rfl rfl)
theorem dX6_feel_43 : decode cX6_feel 43 = .ok (.iload_n 1, 1) := dk_27 (dk_at dksX6_feel_1 20 rfl rfl)
theorem dX6_feel_44 : decode cX6_feel 44 = .ok (.invokevirtual 152, 3) := dk_182 0 152 (dk_at dksX6_feel_1 21 rfl rfl)
theorem dX6_feel_47 : decode cX6_feel 47 = .ok (.checkcast 72, 3) := dk_192 0 72 (dk_at dksX6_feel_2 0 rfl rfl)
theorem dX6_feel_50 : decode cX6_feel 50 = .ok (.astore_n 3, 1) := dk_78 (dk_at dksX6_feel_2 3 rfl rfl)
theorem dX6_feel_51 : decode cX6_feel 51 = .ok (.aload_n 0, 1) := dk_42 (dk_at dksX6_feel_2 4 rfl rfl)
theorem dX6_feel_52 : decode cX6_feel 52 = .ok (.aload_n 3, 1) := dk_45 (dk_at dksX6_feel_2 5 rfl rfl)
theorem dX6_feel_53 : decode cX6_feel 53 = .ok (.invokevirtual 160, 3) := dk_182 0 160 (dk_at dksX6_feel_2 6 rfl rfl)
theorem dX6_feel_56 : decode cX6_feel 56 = .ok (.aload_n 3, 1) := dk_45 (dk_at dksX6_feel_2 9 rfl rfl)
theorem dX6_feel_57 : decode cX6_feel 57 = .ok (.getfield 101, 3) := dk_180 0 101 (dk_at dksX6_feel_2 10 rfl rfl)
theorem dX6_feel_60 : decode cX6_feel 60 = .ok (.iconst 4, 1) := dk_7 (dk_at dksX6_feel_2 13 rfl rfl)
theorem dX6_feel_61 : decode cX6_feel 61 = .ok (.irem, 1) := dk_112 (dk_at dksX6_feel_2 14 rfl rfl)
theorem dX6_feel_62 : decode cX6_feel 62 = .ok (.invokevirtual 193, 3) := dk_182 0 193 (dk_at dksX6_feel_2 15 rfl rfl)
theorem dX6_feel_65 : decode cX6_feel 65 = .ok (.istore 4, 2) := dk_54 4 (dk_at dksX6_feel_2 18 rfl rfl)
theorem dX6_feel_67 : decode cX6_feel 67 = .ok (.aload_n 3, 1) := dk_45 (dk_at dksX6_feel_2 20 rfl rfl)
theorem dX6_feel_68 : decode cX6_feel 68 = .ok (.invokevirtual 122, 3) := dk_182 0 122 (dk_at dksX6_feel_2 21 rfl rfl)
theorem dX6_feel_71 : decode cX6_feel 71 = .ok (.istore 5, 2) := dk_54 5 (dk_at dksX6_feel_3 0 rfl rfl)
theorem dX6_feel_73 : decode cX6_feel 73 = .ok (.iconst 0, 1) := dk_3 (dk_at dksX6_feel_3 2 rfl rfl)
theorem dX6_feel_74 : decode cX6_feel 74 = .ok (.istore 6, 2) := dk_54 6 (dk_at dksX6_feel_3 3 rfl rfl)
theorem dX6_feel_76 : decode cX6_feel 76 = .ok (.iload 6, 2) := dk_21 6 (dk_at dksX6_feel_3 5 rfl rfl)
theorem dX6_feel_78 : decode cX6_feel 78 = .ok (.iconst 3, 1) := dk_6 (dk_at dksX6_feel_3 7 rfl rfl)
theorem dX6_feel_79 : decode cX6_feel 79 = .ok (.if_icmp .ge 48, 3) := dk_162 0 48 (dk_at dksX6_feel_3 8 rfl rfl)
theorem dX6_feel_82 : decode cX6_feel 82 = .ok (.iload 5, 2) := dk_21 5 (dk_at dksX6_feel_3 11 rfl rfl)
theorem dX6_feel_84 : decode cX6_feel 84 = .ok (.iconst (-1), 1) := dk_2 (dk_at dksX6_feel_3 13 rfl rfl)
theorem dX6_feel_85 : decode cX6_feel 85 = .ok (.if_icmp .eq 42, 3) := dk_159 0 42 (dk_at dksX6_feel_3 14 rfl rfl)
theorem dX6_feel_88 : decode cX6_feel 88 = .ok (.aload_n 3, 1) := dk_45 (dk_at dksX6_feel_3 17 rfl rfl)
theorem dX6_feel_89 : decode cX6_feel 89 = .ok (.iload 5, 2) := dk_21 5 (dk_at dksX6_feel_3 18 rfl rfl)
theorem dX6_feel_91 : decode cX6_feel 91 = .ok (.iconst 4, 1) := dk_7 (dk_at dksX6_feel_3 20 rfl rfl)
theorem dX6_feel_92 : decode cX6_feel 92 = .ok (.idiv, 1) := dk_108 (dk_at dksX6_feel_3 21 rfl rfl)
theorem dX6_feel_93 : decode cX6_feel 93 = .ok (.iload 5, 2) := dk_21 5 (dk_at dksX6_feel_3 22 rfl rfl)
theorem dX6_feel_95 : decode cX6_feel 95 = .ok (.iconst 3, 1) := dk_6 (dk_at dksX6_feel_4 0 rfl rfl)
theorem dX6_feel_96 : decode cX6_feel 96 = .ok (.iadd, 1) := dk_96 (dk_at dksX6_feel_4 1 rfl rfl)
theorem dX6_feel_97 : decode cX6_feel 97 = .ok (.iload 6, 2) := dk_21 6 (dk_at dksX6_feel_4 2 rfl rfl)
theorem dX6_feel_99 : decode cX6_feel 99 = .ok (.iadd, 1) := dk_96 (dk_at dksX6_feel_4 4 rfl rfl)
theorem dX6_feel_100 : decode cX6_feel 100 = .ok (.iconst 4, 1) := dk_7 (dk_at dksX6_feel_4 5 rfl rfl)
theorem dX6_feel_101 : decode cX6_feel 101 = .ok (.irem, 1) := dk_112 (dk_at dksX6_feel_4 6 rfl rfl)
theorem dX6_feel_102 : decode cX6_feel 102 = .ok (.iload 4, 2) := dk_21 4 (dk_at dksX6_feel_4 7 rfl rfl)
theorem dX6_feel_104 : decode cX6_feel 104 = .ok (.iload 6, 2) := dk_21 6 (dk_at dksX6_feel_4 9 rfl rfl)
theorem dX6_feel_106 : decode cX6_feel 106 = .ok (.ishr, 1) := dk_122 (dk_at dksX6_feel_4 11 rfl rfl)
theorem dX6_feel_107 : decode cX6_feel 107 = .ok (.iconst 1, 1) := dk_4 (dk_at dksX6_feel_4 12 rfl rfl)
theorem dX6_feel_108 : decode cX6_feel 108 = .ok (.iand, 1) := dk_126 (dk_at dksX6_feel_4 13 rfl rfl)
theorem dX6_feel_109 : decode cX6_feel 109 = .ok (.iconst 1, 1) := dk_4 (dk_at dksX6_feel_4 14 rfl rfl)
theorem dX6_feel_110 : decode cX6_feel 110 = .ok (.if_icmp .ne 7, 3) := dk_160 0 7 (dk_at dksX6_feel_4 15 rfl rfl)
theorem dX6_feel_113 : decode cX6_feel 113 = .ok (.iconst 1, 1) := dk_4 (dk_at dksX6_feel_4 18 rfl rfl)
theorem dX6_feel_114 : decode cX6_feel 114 = .ok (.goto 4, 3) := dk_167 0 4 (dk_at dksX6_feel_4 19 rfl rfl)
theorem dX6_feel_117 : decode cX6_feel 117 = .ok (.iconst 0, 1) := dk_3 (dk_at dksX6_feel_4 22 rfl rfl)
theorem dX6_feel_118 : decode cX6_feel 118 = .ok (.invokestatic 175, 3) := dk_184 0 175 (dk_at dksX6_feel_5 0 rfl rfl)
theorem dX6_feel_121 : decode cX6_feel 121 = .ok (.iinc 6 1, 3) := dk_132 6 1 (dk_at dksX6_feel_5 3 rfl rfl)
theorem dX6_feel_124 : decode cX6_feel 124 = .ok (.goto (-48), 3) := dk_167 255 208 (dk_at dksX6_feel_5 6 rfl rfl)
theorem dX6_feel_127 : decode cX6_feel 127 = .ok (.aload_n 3, 1) := dk_45 (dk_at dksX6_feel_5 9 rfl rfl)
theorem dX6_feel_128 : decode cX6_feel 128 = .ok (.aload_n 3, 1) := dk_45 (dk_at dksX6_feel_5 10 rfl rfl)
theorem dX6_feel_129 : decode cX6_feel 129 = .ok (.iload 4, 2) := dk_21 4 (dk_at dksX6_feel_5 11 rfl rfl)
theorem dX6_feel_131 : decode cX6_feel 131 = .ok (.invokestatic 196, 3) := dk_184 0 196 (dk_at dksX6_feel_5 13 rfl rfl)
theorem dX6_feel_134 : decode cX6_feel 134 = .ok (.invokestatic 183, 3) := dk_184 0 183 (dk_at dksX6_feel_5 16 rfl rfl)
theorem dX6_feel_137 : decode cX6_feel 137 = .ok (.aload_n 0, 1) := dk_42 (dk_at dksX6_feel_5 19 rfl rfl)
theorem dX6_feel_138 : decode cX6_feel 138 = .ok (.aload_n 3, 1) := dk_45 (dk_at dksX6_feel_5 20 rfl rfl)
theorem dX6_feel_139 : decode cX6_feel 139 = .ok (.invokevirtual 187, 3) := dk_182 0 187 (dk_at dksX6_feel_5 21 rfl rfl)
theorem dX6_feel_142 : decode cX6_feel 142 = .ok (.iload 4, 2) := dk_21 4 (dk_at dksX6_feel_6 0 rfl rfl)
theorem dX6_feel_144 : decode cX6_feel 144 = .ok (.ireturn, 1) := dk_172 (dk_at dksX6_feel_6 2 rfl rfl)
abbrev cX6_felt : ByteArray := prog_13_method_36_code
def yX6_felt : MethodName := ⟨RX6, "felt", "(II)I"⟩
def dkwX6_felt_1 : List UInt8 := [182, 0, 163, 153, 0, 10, 4, 21, 4, 120, 167, 0, 4, 3, 128, 62, 132, 4, 1, 167, 255, 220, 29, 172]
abbrev dktX6_felt_1 : List UInt8 := dkwX6_felt_1 ++ []
def dkwX6_felt_0 : List UInt8 := [3, 62, 3, 54, 4, 21, 4, 6, 162, 0, 36, 29, 42, 27, 28, 6, 96, 21, 4, 96, 7, 112]
abbrev dktX6_felt_0 : List UInt8 := dkwX6_felt_0 ++ dktX6_felt_1
theorem dksX6_felt_0 : cX6_felt.data.toList.drop 0 = dktX6_felt_0 := by decide +kernel
theorem dksX6_felt_1 : cX6_felt.data.toList.drop 22 = dktX6_felt_1 := dk_seg dksX6_felt_0 22 rfl rfl
theorem dX6_felt_0 : decode cX6_felt 0 = .ok (.iconst 0, 1) := dk_3 (dk_at dksX6_felt_0 0 rfl rfl)
theorem dX6_felt_1 : decode cX6_felt 1 = .ok (.istore_n 3, 1) := dk_62 (dk_at dksX6_felt_0 1 rfl rfl)
theorem dX6_felt_2 : decode cX6_felt 2 = .ok (.iconst 0, 1) := dk_3 (dk_at dksX6_felt_0 2 rfl rfl)
theorem dX6_felt_3 : decode cX6_felt 3 = .ok (.istore 4, 2) := dk_54 4 (dk_at dksX6_felt_0 3 rfl rfl)
theorem dX6_felt_5 : decode cX6_felt 5 = .ok (.iload 4, 2) := dk_21 4 (dk_at dksX6_felt_0 5 rfl rfl)
theorem dX6_felt_7 : decode cX6_felt 7 = .ok (.iconst 3, 1) := dk_6 (dk_at dksX6_felt_0 7 rfl rfl)
theorem dX6_felt_8 : decode cX6_felt 8 = .ok (.if_icmp .ge 36, 3) := dk_162 0 36 (dk_at dksX6_felt_0 8 rfl rfl)
theorem dX6_felt_11 : decode cX6_felt 11 = .ok (.iload_n 3, 1) := dk_29 (dk_at dksX6_felt_0 11 rfl rfl)
theorem dX6_felt_12 : decode cX6_felt 12 = .ok (.aload_n 0, 1) := dk_42 (dk_at dksX6_felt_0 12 rfl rfl)
theorem dX6_felt_13 : decode cX6_felt 13 = .ok (.iload_n 1, 1) := dk_27 (dk_at dksX6_felt_0 13 rfl rfl)
theorem dX6_felt_14 : decode cX6_felt 14 = .ok (.iload_n 2, 1) := dk_28 (dk_at dksX6_felt_0 14 rfl rfl)
theorem dX6_felt_15 : decode cX6_felt 15 = .ok (.iconst 3, 1) := dk_6 (dk_at dksX6_felt_0 15 rfl rfl)
theorem dX6_felt_16 : decode cX6_felt 16 = .ok (.iadd, 1) := dk_96 (dk_at dksX6_felt_0 16 rfl rfl)
theorem dX6_felt_17 : decode cX6_felt 17 = .ok (.iload 4, 2) := dk_21 4 (dk_at dksX6_felt_0 17 rfl rfl)
theorem dX6_felt_19 : decode cX6_felt 19 = .ok (.iadd, 1) := dk_96 (dk_at dksX6_felt_0 19 rfl rfl)
theorem dX6_felt_20 : decode cX6_felt 20 = .ok (.iconst 4, 1) := dk_7 (dk_at dksX6_felt_0 20 rfl rfl)
theorem dX6_felt_21 : decode cX6_felt 21 = .ok (.irem, 1) := dk_112 (dk_at dksX6_felt_0 21 rfl rfl)
theorem dX6_felt_22 : decode cX6_felt 22 = .ok (.invokevirtual 163, 3) := dk_182 0 163 (dk_at dksX6_felt_1 0 rfl rfl)
theorem dX6_felt_25 : decode cX6_felt 25 = .ok (.ifCond .eq 10, 3) := dk_153 0 10 (dk_at dksX6_felt_1 3 rfl rfl)
theorem dX6_felt_28 : decode cX6_felt 28 = .ok (.iconst 1, 1) := dk_4 (dk_at dksX6_felt_1 6 rfl rfl)
theorem dX6_felt_29 : decode cX6_felt 29 = .ok (.iload 4, 2) := dk_21 4 (dk_at dksX6_felt_1 7 rfl rfl)
theorem dX6_felt_31 : decode cX6_felt 31 = .ok (.ishl, 1) := dk_120 (dk_at dksX6_felt_1 9 rfl rfl)
theorem dX6_felt_32 : decode cX6_felt 32 = .ok (.goto 4, 3) := dk_167 0 4 (dk_at dksX6_felt_1 10 rfl rfl)
theorem dX6_felt_35 : decode cX6_felt 35 = .ok (.iconst 0, 1) := dk_3 (dk_at dksX6_felt_1 13 rfl rfl)
theorem dX6_felt_36 : decode cX6_felt 36 = .ok (.ior, 1) := dk_128 (dk_at dksX6_felt_1 14 rfl rfl)
theorem dX6_felt_37 : decode cX6_felt 37 = .ok (.istore_n 3, 1) := dk_62 (dk_at dksX6_felt_1 15 rfl rfl)
theorem dX6_felt_38 : decode cX6_felt 38 = .ok (.iinc 4 1, 3) := dk_132 4 1 (dk_at dksX6_felt_1 16 rfl rfl)
theorem dX6_felt_41 : decode cX6_felt 41 = .ok (.goto (-36), 3) := dk_167 255 220 (dk_at dksX6_felt_1 19 rfl rfl)
theorem dX6_felt_44 : decode cX6_felt 44 = .ok (.iload_n 3, 1) := dk_29 (dk_at dksX6_felt_1 22 rfl rfl)
theorem dX6_felt_45 : decode cX6_felt 45 = .ok (.ireturn, 1) := dk_172 (dk_at dksX6_felt_1 23 rfl rfl)
abbrev cX6_feeling : ByteArray := prog_13_method_37_code
def yX6_feeling : MethodName := ⟨RX6, "feeling", "(LBumpwardModel$Walker;I)[Z"⟩
def dkwX6_feeling_4 : List UInt8 := [132, 4, 1, 167, 255, 185, 132, 3, 1, 167, 255, 160, 44, 176]
abbrev dktX6_feeling_4 : List UInt8 := dkwX6_feeling_4 ++ []
def dkwX6_feeling_3 : List UInt8 := [21, 4, 122, 4, 126, 4, 160, 0, 7, 4, 167, 0, 4, 3, 160, 0, 7, 4, 167, 0, 4, 3, 126, 84]
abbrev dktX6_feeling_3 : List UInt8 := dkwX6_feeling_3 ++ dktX6_feeling_4
def dkwX6_feeling_2 : List UInt8 := [54, 5, 44, 29, 92, 51, 21, 5, 153, 0, 32, 21, 5, 5, 160, 0, 7, 4, 167, 0, 4, 3, 27]
abbrev dktX6_feeling_2 : List UInt8 := dkwX6_feeling_2 ++ dktX6_feeling_3
def dkwX6_feeling_1 : List UInt8 := [3, 54, 4, 21, 4, 6, 162, 0, 71, 42, 29, 7, 108, 29, 6, 96, 21, 4, 96, 7, 112, 184, 0, 118]
abbrev dktX6_feeling_1 : List UInt8 := dkwX6_feeling_1 ++ dktX6_feeling_2
def dkwX6_feeling_0 : List UInt8 := [17, 0, 144, 188, 4, 77, 3, 62, 29, 17, 0, 144, 162, 0, 95, 44, 29, 42, 180, 0, 97, 29, 51, 84]
abbrev dktX6_feeling_0 : List UInt8 := dkwX6_feeling_0 ++ dktX6_feeling_1
theorem dksX6_feeling_0 : cX6_feeling.data.toList.drop 0 = dktX6_feeling_0 := by decide +kernel
theorem dksX6_feeling_1 : cX6_feeling.data.toList.drop 24 = dktX6_feeling_1 := dk_seg dksX6_feeling_0 24 rfl rfl
theorem dksX6_feeling_2 : cX6_feeling.data.toList.drop 48 = dktX6_feeling_2 := dk_seg dksX6_feeling_1 24 rfl rfl
theorem dksX6_feeling_3 : cX6_feeling.data.toList.drop 71 = dktX6_feeling_3 := dk_seg dksX6_feeling_2 23 rfl rfl
theorem dksX6_feeling_4 : cX6_feeling.data.toList.drop 95 = dktX6_feeling_4 := dk_seg dksX6_feeling_3 24 rfl rfl
theorem dX6_feeling_0 : decode cX6_feeling 0 = .ok (.sipush 144, 3) := dk_17 0 144 (dk_at dksX6_feeling_0 0 rfl rfl)
theorem dX6_feeling_3 : decode cX6_feeling 3 = .ok (.newarray .boolean, 2) := dk_188_4 (dk_at dksX6_feeling_0 3 rfl rfl)
theorem dX6_feeling_5 : decode cX6_feeling 5 = .ok (.astore_n 2, 1) := dk_77 (dk_at dksX6_feeling_0 5 rfl rfl)
theorem dX6_feeling_6 : decode cX6_feeling 6 = .ok (.iconst 0, 1) := dk_3 (dk_at dksX6_feeling_0 6 rfl rfl)
theorem dX6_feeling_7 : decode cX6_feeling 7 = .ok (.istore_n 3, 1) := dk_62 (dk_at dksX6_feeling_0 7 rfl rfl)
theorem dX6_feeling_8 : decode cX6_feeling 8 = .ok (.iload_n 3, 1) := dk_29 (dk_at dksX6_feeling_0 8 rfl rfl)
theorem dX6_feeling_9 : decode cX6_feeling 9 = .ok (.sipush 144, 3) := dk_17 0 144 (dk_at dksX6_feeling_0 9 rfl rfl)
theorem dX6_feeling_12 : decode cX6_feeling 12 = .ok (.if_icmp .ge 95, 3) := dk_162 0 95 (dk_at dksX6_feeling_0 12 rfl rfl)
theorem dX6_feeling_15 : decode cX6_feeling 15 = .ok (.aload_n 2, 1) := dk_44 (dk_at dksX6_feeling_0 15 rfl rfl)
theorem dX6_feeling_16 : decode cX6_feeling 16 = .ok (.iload_n 3, 1) := dk_29 (dk_at dksX6_feeling_0 16 rfl rfl)
theorem dX6_feeling_17 : decode cX6_feeling 17 = .ok (.aload_n 0, 1) := dk_42 (dk_at dksX6_feeling_0 17 rfl rfl)
theorem dX6_feeling_18 : decode cX6_feeling 18 = .ok (.getfield 97, 3) := dk_180 0 97 (dk_at dksX6_feeling_0 18 rfl rfl)
theorem dX6_feeling_21 : decode cX6_feeling 21 = .ok (.iload_n 3, 1) := dk_29 (dk_at dksX6_feeling_0 21 rfl rfl)
theorem dX6_feeling_22 : decode cX6_feeling 22 = .ok (.baload, 1) := dk_51 (dk_at dksX6_feeling_0 22 rfl rfl)
theorem dX6_feeling_23 : decode cX6_feeling 23 = .ok (.bastore, 1) := dk_84 (dk_at dksX6_feeling_0 23 rfl rfl)
theorem dX6_feeling_24 : decode cX6_feeling 24 = .ok (.iconst 0, 1) := dk_3 (dk_at dksX6_feeling_1 0 rfl rfl)
theorem dX6_feeling_25 : decode cX6_feeling 25 = .ok (.istore 4, 2) := dk_54 4 (dk_at dksX6_feeling_1 1 rfl rfl)
theorem dX6_feeling_27 : decode cX6_feeling 27 = .ok (.iload 4, 2) := dk_21 4 (dk_at dksX6_feeling_1 3 rfl rfl)
theorem dX6_feeling_29 : decode cX6_feeling 29 = .ok (.iconst 3, 1) := dk_6 (dk_at dksX6_feeling_1 5 rfl rfl)
theorem dX6_feeling_30 : decode cX6_feeling 30 = .ok (.if_icmp .ge 71, 3) := dk_162 0 71 (dk_at dksX6_feeling_1 6 rfl rfl)
theorem dX6_feeling_33 : decode cX6_feeling 33 = .ok (.aload_n 0, 1) := dk_42 (dk_at dksX6_feeling_1 9 rfl rfl)
theorem dX6_feeling_34 : decode cX6_feeling 34 = .ok (.iload_n 3, 1) := dk_29 (dk_at dksX6_feeling_1 10 rfl rfl)
theorem dX6_feeling_35 : decode cX6_feeling 35 = .ok (.iconst 4, 1) := dk_7 (dk_at dksX6_feeling_1 11 rfl rfl)
theorem dX6_feeling_36 : decode cX6_feeling 36 = .ok (.idiv, 1) := dk_108 (dk_at dksX6_feeling_1 12 rfl rfl)
theorem dX6_feeling_37 : decode cX6_feeling 37 = .ok (.iload_n 3, 1) := dk_29 (dk_at dksX6_feeling_1 13 rfl rfl)
theorem dX6_feeling_38 : decode cX6_feeling 38 = .ok (.iconst 3, 1) := dk_6 (dk_at dksX6_feeling_1 14 rfl rfl)
theorem dX6_feeling_39 : decode cX6_feeling 39 = .ok (.iadd, 1) := dk_96 (dk_at dksX6_feeling_1 15 rfl rfl)
theorem dX6_feeling_40 : decode cX6_feeling 40 = .ok (.iload 4, 2) := dk_21 4 (dk_at dksX6_feeling_1 16 rfl rfl)
theorem dX6_feeling_42 : decode cX6_feeling 42 = .ok (.iadd, 1) := dk_96 (dk_at dksX6_feeling_1 18 rfl rfl)
theorem dX6_feeling_43 : decode cX6_feeling 43 = .ok (.iconst 4, 1) := dk_7 (dk_at dksX6_feeling_1 19 rfl rfl)
theorem dX6_feeling_44 : decode cX6_feeling 44 = .ok (.irem, 1) := dk_112 (dk_at dksX6_feeling_1 20 rfl rfl)
theorem dX6_feeling_45 : decode cX6_feeling 45 = .ok (.invokestatic 118, 3) := dk_184 0 118 (dk_at dksX6_feeling_1 21 rfl rfl)
theorem dX6_feeling_48 : decode cX6_feeling 48 = .ok (.istore 5, 2) := dk_54 5 (dk_at dksX6_feeling_2 0 rfl rfl)
theorem dX6_feeling_50 : decode cX6_feeling 50 = .ok (.aload_n 2, 1) := dk_44 (dk_at dksX6_feeling_2 2 rfl rfl)
theorem dX6_feeling_51 : decode cX6_feeling 51 = .ok (.iload_n 3, 1) := dk_29 (dk_at dksX6_feeling_2 3 rfl rfl)
theorem dX6_feeling_52 : decode cX6_feeling 52 = .ok (.dup2, 1) := dk_92 (dk_at dksX6_feeling_2 4 rfl rfl)
theorem dX6_feeling_53 : decode cX6_feeling 53 = .ok (.baload, 1) := dk_51 (dk_at dksX6_feeling_2 5 rfl rfl)
theorem dX6_feeling_54 : decode cX6_feeling 54 = .ok (.iload 5, 2) := dk_21 5 (dk_at dksX6_feeling_2 6 rfl rfl)
theorem dX6_feeling_56 : decode cX6_feeling 56 = .ok (.ifCond .eq 32, 3) := dk_153 0 32 (dk_at dksX6_feeling_2 8 rfl rfl)
theorem dX6_feeling_59 : decode cX6_feeling 59 = .ok (.iload 5, 2) := dk_21 5 (dk_at dksX6_feeling_2 11 rfl rfl)
theorem dX6_feeling_61 : decode cX6_feeling 61 = .ok (.iconst 2, 1) := dk_5 (dk_at dksX6_feeling_2 13 rfl rfl)
theorem dX6_feeling_62 : decode cX6_feeling 62 = .ok (.if_icmp .ne 7, 3) := dk_160 0 7 (dk_at dksX6_feeling_2 14 rfl rfl)
theorem dX6_feeling_65 : decode cX6_feeling 65 = .ok (.iconst 1, 1) := dk_4 (dk_at dksX6_feeling_2 17 rfl rfl)
theorem dX6_feeling_66 : decode cX6_feeling 66 = .ok (.goto 4, 3) := dk_167 0 4 (dk_at dksX6_feeling_2 18 rfl rfl)
theorem dX6_feeling_69 : decode cX6_feeling 69 = .ok (.iconst 0, 1) := dk_3 (dk_at dksX6_feeling_2 21 rfl rfl)
theorem dX6_feeling_70 : decode cX6_feeling 70 = .ok (.iload_n 1, 1) := dk_27 (dk_at dksX6_feeling_2 22 rfl rfl)
theorem dX6_feeling_71 : decode cX6_feeling 71 = .ok (.iload 4, 2) := dk_21 4 (dk_at dksX6_feeling_3 0 rfl rfl)
theorem dX6_feeling_73 : decode cX6_feeling 73 = .ok (.ishr, 1) := dk_122 (dk_at dksX6_feeling_3 2 rfl rfl)
theorem dX6_feeling_74 : decode cX6_feeling 74 = .ok (.iconst 1, 1) := dk_4 (dk_at dksX6_feeling_3 3 rfl rfl)
theorem dX6_feeling_75 : decode cX6_feeling 75 = .ok (.iand, 1) := dk_126 (dk_at dksX6_feeling_3 4 rfl rfl)
theorem dX6_feeling_76 : decode cX6_feeling 76 = .ok (.iconst 1, 1) := dk_4 (dk_at dksX6_feeling_3 5 rfl rfl)
theorem dX6_feeling_77 : decode cX6_feeling 77 = .ok (.if_icmp .ne 7, 3) := dk_160 0 7 (dk_at dksX6_feeling_3 6 rfl rfl)
theorem dX6_feeling_80 : decode cX6_feeling 80 = .ok (.iconst 1, 1) := dk_4 (dk_at dksX6_feeling_3 9 rfl rfl)
theorem dX6_feeling_81 : decode cX6_feeling 81 = .ok (.goto 4, 3) := dk_167 0 4 (dk_at dksX6_feeling_3 10 rfl rfl)
theorem dX6_feeling_84 : decode cX6_feeling 84 = .ok (.iconst 0, 1) := dk_3 (dk_at dksX6_feeling_3 13 rfl rfl)
theorem dX6_feeling_85 : decode cX6_feeling 85 = .ok (.if_icmp .ne 7, 3) := dk_160 0 7 (dk_at dksX6_feeling_3 14 rfl rfl)
theorem dX6_feeling_88 : decode cX6_feeling 88 = .ok (.iconst 1, 1) := dk_4 (dk_at dksX6_feeling_3 17 rfl rfl)
theorem dX6_feeling_89 : decode cX6_feeling 89 = .ok (.goto 4, 3) := dk_167 0 4 (dk_at dksX6_feeling_3 18 rfl rfl)
theorem dX6_feeling_92 : decode cX6_feeling 92 = .ok (.iconst 0, 1) := dk_3 (dk_at dksX6_feeling_3 21 rfl rfl)
theorem dX6_feeling_93 : decode cX6_feeling 93 = .ok (.iand, 1) := dk_126 (dk_at dksX6_feeling_3 22 rfl rfl)
theorem dX6_feeling_94 : decode cX6_feeling 94 = .ok (.bastore, 1) := dk_84 (dk_at dksX6_feeling_3 23 rfl rfl)
theorem dX6_feeling_95 : decode cX6_feeling 95 = .ok (.iinc 4 1, 3) := dk_132 4 1 (dk_at dksX6_feeling_4 0 rfl rfl)
theorem dX6_feeling_98 : decode cX6_feeling 98 = .ok (.goto (-71), 3) := dk_167 255 185 (dk_at dksX6_feeling_4 3 rfl rfl)
theorem dX6_feeling_101 : decode cX6_feeling 101 = .ok (.iinc 3 1, 3) := dk_132 3 1 (dk_at dksX6_feeling_4 6 rfl rfl)
theorem dX6_feeling_104 : decode cX6_feeling 104 = .ok (.goto (-96), 3) := dk_167 255 160 (dk_at dksX6_feeling_4 9 rfl rfl)
theorem dX6_feeling_107 : decode cX6_feeling 107 = .ok (.aload_n 2, 1) := dk_44 (dk_at dksX6_feeling_4 12 rfl rfl)
theorem dX6_feeling_108 : decode cX6_feeling 108 = .ok (.areturn, 1) := dk_176 (dk_at dksX6_feeling_4 13 rfl rfl)
abbrev cX6_listen : ByteArray := prog_13_method_39_code
def yX6_listen : MethodName := ⟨RX6, "listen", "(IZ)I"⟩
def dkwX6_listen_6 : List UInt8 := [96, 54, 4, 167, 255, 175, 42, 45, 182, 0, 187, 21, 4, 172]
abbrev dktX6_listen_6 : List UInt8 := dkwX6_listen_6 ++ []
def dkwX6_listen_5 : List UInt8 := [16, 6, 112, 45, 182, 0, 160, 16, 6, 112, 100, 184, 0, 214, 96, 5, 163, 0, 7, 4, 167, 0, 4, 3]
abbrev dktX6_listen_5 : List UInt8 := dkwX6_listen_5 ++ dktX6_listen_6
def dkwX6_listen_4 : List UInt8 := [25, 6, 182, 0, 160, 16, 6, 108, 45, 182, 0, 160, 16, 6, 108, 100, 184, 0, 214, 25, 6, 182, 0, 160]
abbrev dktX6_listen_4 : List UInt8 := dkwX6_listen_4 ++ dktX6_listen_5
def dkwX6_listen_3 : List UInt8 := [153, 0, 77, 25, 5, 185, 0, 210, 1, 0, 192, 0, 72, 58, 6, 21, 4, 25, 6, 45, 165, 0, 50]
abbrev dktX6_listen_3 : List UInt8 := dkwX6_listen_3 ++ dktX6_listen_4
def dkwX6_listen_2 : List UInt8 := [192, 0, 72, 78, 3, 54, 4, 42, 180, 0, 31, 182, 0, 200, 58, 5, 25, 5, 185, 0, 204, 1, 0]
abbrev dktX6_listen_2 : List UInt8 := dkwX6_listen_2 ++ dktX6_listen_3
def dkwX6_listen_1 : List UInt8 := [192, 0, 72, 28, 182, 0, 156, 5, 182, 0, 38, 153, 0, 5, 3, 172, 42, 180, 0, 31, 27, 182, 0, 152]
abbrev dktX6_listen_1 : List UInt8 := dkwX6_listen_1 ++ dktX6_listen_2
def dkwX6_listen_0 : List UInt8 := [42, 42, 27, 182, 0, 149, 4, 182, 0, 83, 154, 0, 27, 42, 42, 42, 180, 0, 31, 27, 182, 0, 152]
abbrev dktX6_listen_0 : List UInt8 := dkwX6_listen_0 ++ dktX6_listen_1
theorem dksX6_listen_0 : cX6_listen.data.toList.drop 0 = dktX6_listen_0 := by decide +kernel
theorem dksX6_listen_1 : cX6_listen.data.toList.drop 23 = dktX6_listen_1 := dk_seg dksX6_listen_0 23 rfl rfl
theorem dksX6_listen_2 : cX6_listen.data.toList.drop 47 = dktX6_listen_2 := dk_seg dksX6_listen_1 24 rfl rfl
theorem dksX6_listen_3 : cX6_listen.data.toList.drop 70 = dktX6_listen_3 := dk_seg dksX6_listen_2 23 rfl rfl
theorem dksX6_listen_4 : cX6_listen.data.toList.drop 93 = dktX6_listen_4 := dk_seg dksX6_listen_3 23 rfl rfl
theorem dksX6_listen_5 : cX6_listen.data.toList.drop 117 = dktX6_listen_5 := dk_seg dksX6_listen_4 24 rfl rfl
theorem dksX6_listen_6 : cX6_listen.data.toList.drop 141 = dktX6_listen_6 := dk_seg dksX6_listen_5 24 rfl rfl
theorem dX6_listen_0 : decode cX6_listen 0 = .ok (.aload_n 0, 1) := dk_42 (dk_at dksX6_listen_0 0 rfl rfl)
theorem dX6_listen_1 : decode cX6_listen 1 = .ok (.aload_n 0, 1) := dk_42 (dk_at dksX6_listen_0 1 rfl rfl)
theorem dX6_listen_2 : decode cX6_listen 2 = .ok (.iload_n 1, 1) := dk_27 (dk_at dksX6_listen_0 2 rfl rfl)
theorem dX6_listen_3 : decode cX6_listen 3 = .ok (.invokevirtual 149, 3) := dk_182 0 149 (dk_at dksX6_listen_0 3 rfl rfl)
theorem dX6_listen_6 : decode cX6_listen 6 = .ok (.iconst 1, 1) := dk_4 (dk_at dksX6_listen_0 6 rfl rfl)
theorem dX6_listen_7 : decode cX6_listen 7 = .ok (.invokevirtual 83, 3) := dk_182 0 83 (dk_at dksX6_listen_0 7 rfl rfl)
theorem dX6_listen_10 : decode cX6_listen 10 = .ok (.ifCond .ne 27, 3) := dk_154 0 27 (dk_at dksX6_listen_0 10 rfl rfl)
theorem dX6_listen_13 : decode cX6_listen 13 = .ok (.aload_n 0, 1) := dk_42 (dk_at dksX6_listen_0 13 rfl rfl)
theorem dX6_listen_14 : decode cX6_listen 14 = .ok (.aload_n 0, 1) := dk_42 (dk_at dksX6_listen_0 14 rfl rfl)
theorem dX6_listen_15 : decode cX6_listen 15 = .ok (.aload_n 0, 1) := dk_42 (dk_at dksX6_listen_0 15 rfl rfl)
theorem dX6_listen_16 : decode cX6_listen 16 = .ok (.getfield 31, 3) := dk_180 0 31 (dk_at dksX6_listen_0 16 rfl rfl)
theorem dX6_listen_19 : decode cX6_listen 19 = .ok (.iload_n 1, 1) := dk_27 (dk_at dksX6_listen_0 19 rfl rfl)
theorem dX6_listen_20 : decode cX6_listen 20 = .ok (.invokevirtual 152, 3) := dk_182 0 152 (dk_at dksX6_listen_0 20 rfl rfl)
theorem dX6_listen_23 : decode cX6_listen 23 = .ok (.checkcast 72, 3) := dk_192 0 72 (dk_at dksX6_listen_1 0 rfl rfl)
theorem dX6_listen_26 : decode cX6_listen 26 = .ok (.iload_n 2, 1) := dk_28 (dk_at dksX6_listen_1 3 rfl rfl)
theorem dX6_listen_27 : decode cX6_listen 27 = .ok (.invokevirtual 156, 3) := dk_182 0 156 (dk_at dksX6_listen_1 4 rfl rfl)
theorem dX6_listen_30 : decode cX6_listen 30 = .ok (.iconst 2, 1) := dk_5 (dk_at dksX6_listen_1 7 rfl rfl)
theorem dX6_listen_31 : decode cX6_listen 31 = .ok (.invokevirtual 38, 3) := dk_182 0 38 (dk_at dksX6_listen_1 8 rfl rfl)
theorem dX6_listen_34 : decode cX6_listen 34 = .ok (.ifCond .eq 5, 3) := dk_153 0 5 (dk_at dksX6_listen_1 11 rfl rfl)
theorem dX6_listen_37 : decode cX6_listen 37 = .ok (.iconst 0, 1) := dk_3 (dk_at dksX6_listen_1 14 rfl rfl)
theorem dX6_listen_38 : decode cX6_listen 38 = .ok (.ireturn, 1) := dk_172 (dk_at dksX6_listen_1 15 rfl rfl)
theorem dX6_listen_39 : decode cX6_listen 39 = .ok (.aload_n 0, 1) := dk_42 (dk_at dksX6_listen_1 16 rfl rfl)
theorem dX6_listen_40 : decode cX6_listen 40 = .ok (.getfield 31, 3) := dk_180 0 31 (dk_at dksX6_listen_1 17 rfl rfl)
theorem dX6_listen_43 : decode cX6_listen 43 = .ok (.iload_n 1, 1) := dk_27 (dk_at dksX6_listen_1 20 rfl rfl)
theorem dX6_listen_44 : decode cX6_listen 44 = .ok (.invokevirtual 152, 3) := dk_182 0 152 (dk_at dksX6_listen_1 21 rfl rfl)
theorem dX6_listen_47 : decode cX6_listen 47 = .ok (.checkcast 72, 3) := dk_192 0 72 (dk_at dksX6_listen_2 0 rfl rfl)
theorem dX6_listen_50 : decode cX6_listen 50 = .ok (.astore_n 3, 1) := dk_78 (dk_at dksX6_listen_2 3 rfl rfl)
theorem dX6_listen_51 : decode cX6_listen 51 = .ok (.iconst 0, 1) := dk_3 (dk_at dksX6_listen_2 4 rfl rfl)
theorem dX6_listen_52 : decode cX6_listen 52 = .ok (.istore 4, 2) := dk_54 4 (dk_at dksX6_listen_2 5 rfl rfl)
theorem dX6_listen_54 : decode cX6_listen 54 = .ok (.aload_n 0, 1) := dk_42 (dk_at dksX6_listen_2 7 rfl rfl)
theorem dX6_listen_55 : decode cX6_listen 55 = .ok (.getfield 31, 3) := dk_180 0 31 (dk_at dksX6_listen_2 8 rfl rfl)
theorem dX6_listen_58 : decode cX6_listen 58 = .ok (.invokevirtual 200, 3) := dk_182 0 200 (dk_at dksX6_listen_2 11 rfl rfl)
theorem dX6_listen_61 : decode cX6_listen 61 = .ok (.astore 5, 2) := dk_58 5 (dk_at dksX6_listen_2 14 rfl rfl)
theorem dX6_listen_63 : decode cX6_listen 63 = .ok (.aload 5, 2) := dk_25 5 (dk_at dksX6_listen_2 16 rfl rfl)
theorem dX6_listen_65 : decode cX6_listen 65 = .ok (.invokeinterface 204 1, 5) := by decide +kernel
theorem dX6_listen_70 : decode cX6_listen 70 = .ok (.ifCond .eq 77, 3) := dk_153 0 77 (dk_at dksX6_listen_3 0 rfl rfl)
theorem dX6_listen_73 : decode cX6_listen 73 = .ok (.aload 5, 2) := dk_25 5 (dk_at dksX6_listen_3 3 rfl rfl)
theorem dX6_listen_75 : decode cX6_listen 75 = .ok (.invokeinterface 210 1, 5) := by decide +kernel
theorem dX6_listen_80 : decode cX6_listen 80 = .ok (.checkcast 72, 3) := dk_192 0 72 (dk_at dksX6_listen_3 10 rfl rfl)
theorem dX6_listen_83 : decode cX6_listen 83 = .ok (.astore 6, 2) := dk_58 6 (dk_at dksX6_listen_3 13 rfl rfl)
theorem dX6_listen_85 : decode cX6_listen 85 = .ok (.iload 4, 2) := dk_21 4 (dk_at dksX6_listen_3 15 rfl rfl)
theorem dX6_listen_87 : decode cX6_listen 87 = .ok (.aload 6, 2) := dk_25 6 (dk_at dksX6_listen_3 17 rfl rfl)
theorem dX6_listen_89 : decode cX6_listen 89 = .ok (.aload_n 3, 1) := dk_45 (dk_at dksX6_listen_3 19 rfl rfl)
theorem dX6_listen_90 : decode cX6_listen 90 = .ok (.if_acmp .eq 50, 3) := dk_165 0 50 (dk_at dksX6_listen_3 20 rfl rfl)
theorem dX6_listen_93 : decode cX6_listen 93 = .ok (.aload 6, 2) := dk_25 6 (dk_at dksX6_listen_4 0 rfl rfl)
theorem dX6_listen_95 : decode cX6_listen 95 = .ok (.invokevirtual 160, 3) := dk_182 0 160 (dk_at dksX6_listen_4 2 rfl rfl)
theorem dX6_listen_98 : decode cX6_listen 98 = .ok (.bipush 6, 2) := dk_16 6 (dk_at dksX6_listen_4 5 rfl rfl)
theorem dX6_listen_100 : decode cX6_listen 100 = .ok (.idiv, 1) := dk_108 (dk_at dksX6_listen_4 7 rfl rfl)
theorem dX6_listen_101 : decode cX6_listen 101 = .ok (.aload_n 3, 1) := dk_45 (dk_at dksX6_listen_4 8 rfl rfl)
theorem dX6_listen_102 : decode cX6_listen 102 = .ok (.invokevirtual 160, 3) := dk_182 0 160 (dk_at dksX6_listen_4 9 rfl rfl)
theorem dX6_listen_105 : decode cX6_listen 105 = .ok (.bipush 6, 2) := dk_16 6 (dk_at dksX6_listen_4 12 rfl rfl)
theorem dX6_listen_107 : decode cX6_listen 107 = .ok (.idiv, 1) := dk_108 (dk_at dksX6_listen_4 14 rfl rfl)
theorem dX6_listen_108 : decode cX6_listen 108 = .ok (.isub, 1) := dk_100 (dk_at dksX6_listen_4 15 rfl rfl)
theorem dX6_listen_109 : decode cX6_listen 109 = .ok (.invokestatic 214, 3) := dk_184 0 214 (dk_at dksX6_listen_4 16 rfl rfl)
theorem dX6_listen_112 : decode cX6_listen 112 = .ok (.aload 6, 2) := dk_25 6 (dk_at dksX6_listen_4 19 rfl rfl)
theorem dX6_listen_114 : decode cX6_listen 114 = .ok (.invokevirtual 160, 3) := dk_182 0 160 (dk_at dksX6_listen_4 21 rfl rfl)
theorem dX6_listen_117 : decode cX6_listen 117 = .ok (.bipush 6, 2) := dk_16 6 (dk_at dksX6_listen_5 0 rfl rfl)
theorem dX6_listen_119 : decode cX6_listen 119 = .ok (.irem, 1) := dk_112 (dk_at dksX6_listen_5 2 rfl rfl)
theorem dX6_listen_120 : decode cX6_listen 120 = .ok (.aload_n 3, 1) := dk_45 (dk_at dksX6_listen_5 3 rfl rfl)
theorem dX6_listen_121 : decode cX6_listen 121 = .ok (.invokevirtual 160, 3) := dk_182 0 160 (dk_at dksX6_listen_5 4 rfl rfl)
theorem dX6_listen_124 : decode cX6_listen 124 = .ok (.bipush 6, 2) := dk_16 6 (dk_at dksX6_listen_5 7 rfl rfl)
theorem dX6_listen_126 : decode cX6_listen 126 = .ok (.irem, 1) := dk_112 (dk_at dksX6_listen_5 9 rfl rfl)
theorem dX6_listen_127 : decode cX6_listen 127 = .ok (.isub, 1) := dk_100 (dk_at dksX6_listen_5 10 rfl rfl)
theorem dX6_listen_128 : decode cX6_listen 128 = .ok (.invokestatic 214, 3) := dk_184 0 214 (dk_at dksX6_listen_5 11 rfl rfl)
theorem dX6_listen_131 : decode cX6_listen 131 = .ok (.iadd, 1) := dk_96 (dk_at dksX6_listen_5 14 rfl rfl)
theorem dX6_listen_132 : decode cX6_listen 132 = .ok (.iconst 2, 1) := dk_5 (dk_at dksX6_listen_5 15 rfl rfl)
theorem dX6_listen_133 : decode cX6_listen 133 = .ok (.if_icmp .gt 7, 3) := dk_163 0 7 (dk_at dksX6_listen_5 16 rfl rfl)
theorem dX6_listen_136 : decode cX6_listen 136 = .ok (.iconst 1, 1) := dk_4 (dk_at dksX6_listen_5 19 rfl rfl)
theorem dX6_listen_137 : decode cX6_listen 137 = .ok (.goto 4, 3) := dk_167 0 4 (dk_at dksX6_listen_5 20 rfl rfl)
theorem dX6_listen_140 : decode cX6_listen 140 = .ok (.iconst 0, 1) := dk_3 (dk_at dksX6_listen_5 23 rfl rfl)
theorem dX6_listen_141 : decode cX6_listen 141 = .ok (.iadd, 1) := dk_96 (dk_at dksX6_listen_6 0 rfl rfl)
theorem dX6_listen_142 : decode cX6_listen 142 = .ok (.istore 4, 2) := dk_54 4 (dk_at dksX6_listen_6 1 rfl rfl)
theorem dX6_listen_144 : decode cX6_listen 144 = .ok (.goto (-81), 3) := dk_167 255 175 (dk_at dksX6_listen_6 3 rfl rfl)
theorem dX6_listen_147 : decode cX6_listen 147 = .ok (.aload_n 0, 1) := dk_42 (dk_at dksX6_listen_6 6 rfl rfl)
theorem dX6_listen_148 : decode cX6_listen 148 = .ok (.aload_n 3, 1) := dk_45 (dk_at dksX6_listen_6 7 rfl rfl)
theorem dX6_listen_149 : decode cX6_listen 149 = .ok (.invokevirtual 187, 3) := dk_182 0 187 (dk_at dksX6_listen_6 8 rfl rfl)
theorem dX6_listen_152 : decode cX6_listen 152 = .ok (.iload 4, 2) := dk_21 4 (dk_at dksX6_listen_6 11 rfl rfl)
theorem dX6_listen_154 : decode cX6_listen 154 = .ok (.ireturn, 1) := dk_172 (dk_at dksX6_listen_6 13 rfl rfl)
abbrev cX6_charge : ByteArray := prog_13_method_40_code
def yX6_charge : MethodName := ⟨RX6, "charge", "(II)I"⟩
def dkwX6_charge_4 : List UInt8 := [180, 0, 107, 62, 42, 180, 0, 31, 27, 182, 0, 152, 192, 0, 72, 28, 181, 0, 107, 29, 172]
abbrev dktX6_charge_4 : List UInt8 := dkwX6_charge_4 ++ []
def dkwX6_charge_3 : List UInt8 := [167, 0, 4, 3, 6, 182, 0, 38, 153, 0, 5, 3, 172, 42, 180, 0, 31, 27, 182, 0, 152, 192, 0, 72]
abbrev dktX6_charge_3 : List UInt8 := dkwX6_charge_3 ++ dktX6_charge_4
def dkwX6_charge_2 : List UInt8 := [192, 0, 72, 182, 0, 160, 42, 180, 0, 31, 27, 182, 0, 152, 192, 0, 72, 180, 0, 104, 159, 0, 7, 4]
abbrev dktX6_charge_2 : List UInt8 := dkwX6_charge_2 ++ dktX6_charge_3
def dkwX6_charge_1 : List UInt8 := [154, 0, 7, 4, 167, 0, 4, 3, 5, 182, 0, 38, 154, 0, 47, 42, 42, 180, 0, 31, 27, 182, 0, 152]
abbrev dktX6_charge_1 : List UInt8 := dkwX6_charge_1 ++ dktX6_charge_2
def dkwX6_charge_0 : List UInt8 := [42, 42, 27, 182, 0, 149, 4, 182, 0, 83, 154, 0, 71, 42, 28, 4, 17, 1, 244, 184, 0, 42]
abbrev dktX6_charge_0 : List UInt8 := dkwX6_charge_0 ++ dktX6_charge_1
theorem dksX6_charge_0 : cX6_charge.data.toList.drop 0 = dktX6_charge_0 := by decide +kernel
theorem dksX6_charge_1 : cX6_charge.data.toList.drop 22 = dktX6_charge_1 := dk_seg dksX6_charge_0 22 rfl rfl
theorem dksX6_charge_2 : cX6_charge.data.toList.drop 46 = dktX6_charge_2 := dk_seg dksX6_charge_1 24 rfl rfl
theorem dksX6_charge_3 : cX6_charge.data.toList.drop 70 = dktX6_charge_3 := dk_seg dksX6_charge_2 24 rfl rfl
theorem dksX6_charge_4 : cX6_charge.data.toList.drop 94 = dktX6_charge_4 := dk_seg dksX6_charge_3 24 rfl rfl
theorem dX6_charge_0 : decode cX6_charge 0 = .ok (.aload_n 0, 1) := dk_42 (dk_at dksX6_charge_0 0 rfl rfl)
theorem dX6_charge_1 : decode cX6_charge 1 = .ok (.aload_n 0, 1) := dk_42 (dk_at dksX6_charge_0 1 rfl rfl)
theorem dX6_charge_2 : decode cX6_charge 2 = .ok (.iload_n 1, 1) := dk_27 (dk_at dksX6_charge_0 2 rfl rfl)
theorem dX6_charge_3 : decode cX6_charge 3 = .ok (.invokevirtual 149, 3) := dk_182 0 149 (dk_at dksX6_charge_0 3 rfl rfl)
theorem dX6_charge_6 : decode cX6_charge 6 = .ok (.iconst 1, 1) := dk_4 (dk_at dksX6_charge_0 6 rfl rfl)
theorem dX6_charge_7 : decode cX6_charge 7 = .ok (.invokevirtual 83, 3) := dk_182 0 83 (dk_at dksX6_charge_0 7 rfl rfl)
theorem dX6_charge_10 : decode cX6_charge 10 = .ok (.ifCond .ne 71, 3) := dk_154 0 71 (dk_at dksX6_charge_0 10 rfl rfl)
theorem dX6_charge_13 : decode cX6_charge 13 = .ok (.aload_n 0, 1) := dk_42 (dk_at dksX6_charge_0 13 rfl rfl)
theorem dX6_charge_14 : decode cX6_charge 14 = .ok (.iload_n 2, 1) := dk_28 (dk_at dksX6_charge_0 14 rfl rfl)
theorem dX6_charge_15 : decode cX6_charge 15 = .ok (.iconst 1, 1) := dk_4 (dk_at dksX6_charge_0 15 rfl rfl)
theorem dX6_charge_16 : decode cX6_charge 16 = .ok (.sipush 500, 3) := dk_17 1 244 (dk_at dksX6_charge_0 16 rfl rfl)
theorem dX6_charge_19 : decode cX6_charge 19 = .ok (.invokestatic 42, 3) := dk_184 0 42 (dk_at dksX6_charge_0 19 rfl rfl)
theorem dX6_charge_22 : decode cX6_charge 22 = .ok (.ifCond .ne 7, 3) := dk_154 0 7 (dk_at dksX6_charge_1 0 rfl rfl)
theorem dX6_charge_25 : decode cX6_charge 25 = .ok (.iconst 1, 1) := dk_4 (dk_at dksX6_charge_1 3 rfl rfl)
theorem dX6_charge_26 : decode cX6_charge 26 = .ok (.goto 4, 3) := dk_167 0 4 (dk_at dksX6_charge_1 4 rfl rfl)
theorem dX6_charge_29 : decode cX6_charge 29 = .ok (.iconst 0, 1) := dk_3 (dk_at dksX6_charge_1 7 rfl rfl)
theorem dX6_charge_30 : decode cX6_charge 30 = .ok (.iconst 2, 1) := dk_5 (dk_at dksX6_charge_1 8 rfl rfl)
theorem dX6_charge_31 : decode cX6_charge 31 = .ok (.invokevirtual 38, 3) := dk_182 0 38 (dk_at dksX6_charge_1 9 rfl rfl)
theorem dX6_charge_34 : decode cX6_charge 34 = .ok (.ifCond .ne 47, 3) := dk_154 0 47 (dk_at dksX6_charge_1 12 rfl rfl)
theorem dX6_charge_37 : decode cX6_charge 37 = .ok (.aload_n 0, 1) := dk_42 (dk_at dksX6_charge_1 15 rfl rfl)
theorem dX6_charge_38 : decode cX6_charge 38 = .ok (.aload_n 0, 1) := dk_42 (dk_at dksX6_charge_1 16 rfl rfl)
theorem dX6_charge_39 : decode cX6_charge 39 = .ok (.getfield 31, 3) := dk_180 0 31 (dk_at dksX6_charge_1 17 rfl rfl)
theorem dX6_charge_42 : decode cX6_charge 42 = .ok (.iload_n 1, 1) := dk_27 (dk_at dksX6_charge_1 20 rfl rfl)
theorem dX6_charge_43 : decode cX6_charge 43 = .ok (.invokevirtual 152, 3) := dk_182 0 152 (dk_at dksX6_charge_1 21 rfl rfl)
theorem dX6_charge_46 : decode cX6_charge 46 = .ok (.checkcast 72, 3) := dk_192 0 72 (dk_at dksX6_charge_2 0 rfl rfl)
theorem dX6_charge_49 : decode cX6_charge 49 = .ok (.invokevirtual 160, 3) := dk_182 0 160 (dk_at dksX6_charge_2 3 rfl rfl)
theorem dX6_charge_52 : decode cX6_charge 52 = .ok (.aload_n 0, 1) := dk_42 (dk_at dksX6_charge_2 6 rfl rfl)
theorem dX6_charge_53 : decode cX6_charge 53 = .ok (.getfield 31, 3) := dk_180 0 31 (dk_at dksX6_charge_2 7 rfl rfl)
theorem dX6_charge_56 : decode cX6_charge 56 = .ok (.iload_n 1, 1) := dk_27 (dk_at dksX6_charge_2 10 rfl rfl)
theorem dX6_charge_57 : decode cX6_charge 57 = .ok (.invokevirtual 152, 3) := dk_182 0 152 (dk_at dksX6_charge_2 11 rfl rfl)
theorem dX6_charge_60 : decode cX6_charge 60 = .ok (.checkcast 72, 3) := dk_192 0 72 (dk_at dksX6_charge_2 14 rfl rfl)
theorem dX6_charge_63 : decode cX6_charge 63 = .ok (.getfield 104, 3) := dk_180 0 104 (dk_at dksX6_charge_2 17 rfl rfl)
theorem dX6_charge_66 : decode cX6_charge 66 = .ok (.if_icmp .eq 7, 3) := dk_159 0 7 (dk_at dksX6_charge_2 20 rfl rfl)
theorem dX6_charge_69 : decode cX6_charge 69 = .ok (.iconst 1, 1) := dk_4 (dk_at dksX6_charge_2 23 rfl rfl)
theorem dX6_charge_70 : decode cX6_charge 70 = .ok (.goto 4, 3) := dk_167 0 4 (dk_at dksX6_charge_3 0 rfl rfl)
theorem dX6_charge_73 : decode cX6_charge 73 = .ok (.iconst 0, 1) := dk_3 (dk_at dksX6_charge_3 3 rfl rfl)
theorem dX6_charge_74 : decode cX6_charge 74 = .ok (.iconst 3, 1) := dk_6 (dk_at dksX6_charge_3 4 rfl rfl)
theorem dX6_charge_75 : decode cX6_charge 75 = .ok (.invokevirtual 38, 3) := dk_182 0 38 (dk_at dksX6_charge_3 5 rfl rfl)
theorem dX6_charge_78 : decode cX6_charge 78 = .ok (.ifCond .eq 5, 3) := dk_153 0 5 (dk_at dksX6_charge_3 8 rfl rfl)
theorem dX6_charge_81 : decode cX6_charge 81 = .ok (.iconst 0, 1) := dk_3 (dk_at dksX6_charge_3 11 rfl rfl)
theorem dX6_charge_82 : decode cX6_charge 82 = .ok (.ireturn, 1) := dk_172 (dk_at dksX6_charge_3 12 rfl rfl)
theorem dX6_charge_83 : decode cX6_charge 83 = .ok (.aload_n 0, 1) := dk_42 (dk_at dksX6_charge_3 13 rfl rfl)
theorem dX6_charge_84 : decode cX6_charge 84 = .ok (.getfield 31, 3) := dk_180 0 31 (dk_at dksX6_charge_3 14 rfl rfl)
theorem dX6_charge_87 : decode cX6_charge 87 = .ok (.iload_n 1, 1) := dk_27 (dk_at dksX6_charge_3 17 rfl rfl)
theorem dX6_charge_88 : decode cX6_charge 88 = .ok (.invokevirtual 152, 3) := dk_182 0 152 (dk_at dksX6_charge_3 18 rfl rfl)
theorem dX6_charge_91 : decode cX6_charge 91 = .ok (.checkcast 72, 3) := dk_192 0 72 (dk_at dksX6_charge_3 21 rfl rfl)
theorem dX6_charge_94 : decode cX6_charge 94 = .ok (.getfield 107, 3) := dk_180 0 107 (dk_at dksX6_charge_4 0 rfl rfl)
theorem dX6_charge_97 : decode cX6_charge 97 = .ok (.istore_n 3, 1) := dk_62 (dk_at dksX6_charge_4 3 rfl rfl)
theorem dX6_charge_98 : decode cX6_charge 98 = .ok (.aload_n 0, 1) := dk_42 (dk_at dksX6_charge_4 4 rfl rfl)
theorem dX6_charge_99 : decode cX6_charge 99 = .ok (.getfield 31, 3) := dk_180 0 31 (dk_at dksX6_charge_4 5 rfl rfl)
theorem dX6_charge_102 : decode cX6_charge 102 = .ok (.iload_n 1, 1) := dk_27 (dk_at dksX6_charge_4 8 rfl rfl)
theorem dX6_charge_103 : decode cX6_charge 103 = .ok (.invokevirtual 152, 3) := dk_182 0 152 (dk_at dksX6_charge_4 9 rfl rfl)
theorem dX6_charge_106 : decode cX6_charge 106 = .ok (.checkcast 72, 3) := dk_192 0 72 (dk_at dksX6_charge_4 12 rfl rfl)
theorem dX6_charge_109 : decode cX6_charge 109 = .ok (.iload_n 2, 1) := dk_28 (dk_at dksX6_charge_4 15 rfl rfl)
theorem dX6_charge_110 : decode cX6_charge 110 = .ok (.putfield 107, 3) := dk_181 0 107 (dk_at dksX6_charge_4 16 rfl rfl)
theorem dX6_charge_113 : decode cX6_charge 113 = .ok (.iload_n 3, 1) := dk_29 (dk_at dksX6_charge_4 19 rfl rfl)
theorem dX6_charge_114 : decode cX6_charge 114 = .ok (.ireturn, 1) := dk_172 (dk_at dksX6_charge_4 20 rfl rfl)
abbrev cX6_tellPose : ByteArray := prog_13_method_41_code
def yX6_tellPose : MethodName := ⟨RX6, "tellPose", "(I)I"⟩
def dkwX6_tellPose_2 : List UInt8 := [180, 0, 101, 4, 84, 29, 172]
abbrev dktX6_tellPose_2 : List UInt8 := dkwX6_tellPose_2 ++ []
def dkwX6_tellPose_1 : List UInt8 := [192, 0, 72, 77, 44, 182, 0, 143, 62, 44, 17, 0, 144, 188, 4, 181, 0, 97, 44, 180, 0, 97, 44]
abbrev dktX6_tellPose_1 : List UInt8 := dkwX6_tellPose_1 ++ dktX6_tellPose_2
def dkwX6_tellPose_0 : List UInt8 := [42, 42, 27, 182, 0, 149, 4, 182, 0, 83, 153, 0, 5, 3, 172, 42, 180, 0, 31, 27, 182, 0, 152]
abbrev dktX6_tellPose_0 : List UInt8 := dkwX6_tellPose_0 ++ dktX6_tellPose_1
theorem dksX6_tellPose_0 : cX6_tellPose.data.toList.drop 0 = dktX6_tellPose_0 := by decide +kernel
theorem dksX6_tellPose_1 : cX6_tellPose.data.toList.drop 23 = dktX6_tellPose_1 := dk_seg dksX6_tellPose_0 23 rfl rfl
theorem dksX6_tellPose_2 : cX6_tellPose.data.toList.drop 46 = dktX6_tellPose_2 := dk_seg dksX6_tellPose_1 23 rfl rfl
theorem dX6_tellPose_0 : decode cX6_tellPose 0 = .ok (.aload_n 0, 1) := dk_42 (dk_at dksX6_tellPose_0 0 rfl rfl)
theorem dX6_tellPose_1 : decode cX6_tellPose 1 = .ok (.aload_n 0, 1) := dk_42 (dk_at dksX6_tellPose_0 1 rfl rfl)
theorem dX6_tellPose_2 : decode cX6_tellPose 2 = .ok (.iload_n 1, 1) := dk_27 (dk_at dksX6_tellPose_0 2 rfl rfl)
theorem dX6_tellPose_3 : decode cX6_tellPose 3 = .ok (.invokevirtual 149, 3) := dk_182 0 149 (dk_at dksX6_tellPose_0 3 rfl rfl)
theorem dX6_tellPose_6 : decode cX6_tellPose 6 = .ok (.iconst 1, 1) := dk_4 (dk_at dksX6_tellPose_0 6 rfl rfl)
theorem dX6_tellPose_7 : decode cX6_tellPose 7 = .ok (.invokevirtual 83, 3) := dk_182 0 83 (dk_at dksX6_tellPose_0 7 rfl rfl)
theorem dX6_tellPose_10 : decode cX6_tellPose 10 = .ok (.ifCond .eq 5, 3) := dk_153 0 5 (dk_at dksX6_tellPose_0 10 rfl rfl)
theorem dX6_tellPose_13 : decode cX6_tellPose 13 = .ok (.iconst 0, 1) := dk_3 (dk_at dksX6_tellPose_0 13 rfl rfl)
theorem dX6_tellPose_14 : decode cX6_tellPose 14 = .ok (.ireturn, 1) := dk_172 (dk_at dksX6_tellPose_0 14 rfl rfl)
theorem dX6_tellPose_15 : decode cX6_tellPose 15 = .ok (.aload_n 0, 1) := dk_42 (dk_at dksX6_tellPose_0 15 rfl rfl)
theorem dX6_tellPose_16 : decode cX6_tellPose 16 = .ok (.getfield 31, 3) := dk_180 0 31 (dk_at dksX6_tellPose_0 16 rfl rfl)
theorem dX6_tellPose_19 : decode cX6_tellPose 19 = .ok (.iload_n 1, 1) := dk_27 (dk_at dksX6_tellPose_0 19 rfl rfl)
theorem dX6_tellPose_20 : decode cX6_tellPose 20 = .ok (.invokevirtual 152, 3) := dk_182 0 152 (dk_at dksX6_tellPose_0 20 rfl rfl)
theorem dX6_tellPose_23 : decode cX6_tellPose 23 = .ok (.checkcast 72, 3) := dk_192 0 72 (dk_at dksX6_tellPose_1 0 rfl rfl)
theorem dX6_tellPose_26 : decode cX6_tellPose 26 = .ok (.astore_n 2, 1) := dk_77 (dk_at dksX6_tellPose_1 3 rfl rfl)
theorem dX6_tellPose_27 : decode cX6_tellPose 27 = .ok (.aload_n 2, 1) := dk_44 (dk_at dksX6_tellPose_1 4 rfl rfl)
theorem dX6_tellPose_28 : decode cX6_tellPose 28 = .ok (.invokevirtual 143, 3) := dk_182 0 143 (dk_at dksX6_tellPose_1 5 rfl rfl)
theorem dX6_tellPose_31 : decode cX6_tellPose 31 = .ok (.istore_n 3, 1) := dk_62 (dk_at dksX6_tellPose_1 8 rfl rfl)
theorem dX6_tellPose_32 : decode cX6_tellPose 32 = .ok (.aload_n 2, 1) := dk_44 (dk_at dksX6_tellPose_1 9 rfl rfl)
theorem dX6_tellPose_33 : decode cX6_tellPose 33 = .ok (.sipush 144, 3) := dk_17 0 144 (dk_at dksX6_tellPose_1 10 rfl rfl)
theorem dX6_tellPose_36 : decode cX6_tellPose 36 = .ok (.newarray .boolean, 2) := dk_188_4 (dk_at dksX6_tellPose_1 13 rfl rfl)
theorem dX6_tellPose_38 : decode cX6_tellPose 38 = .ok (.putfield 97, 3) := dk_181 0 97 (dk_at dksX6_tellPose_1 15 rfl rfl)
theorem dX6_tellPose_41 : decode cX6_tellPose 41 = .ok (.aload_n 2, 1) := dk_44 (dk_at dksX6_tellPose_1 18 rfl rfl)
theorem dX6_tellPose_42 : decode cX6_tellPose 42 = .ok (.getfield 97, 3) := dk_180 0 97 (dk_at dksX6_tellPose_1 19 rfl rfl)
theorem dX6_tellPose_45 : decode cX6_tellPose 45 = .ok (.aload_n 2, 1) := dk_44 (dk_at dksX6_tellPose_1 22 rfl rfl)
theorem dX6_tellPose_46 : decode cX6_tellPose 46 = .ok (.getfield 101, 3) := dk_180 0 101 (dk_at dksX6_tellPose_2 0 rfl rfl)
theorem dX6_tellPose_49 : decode cX6_tellPose 49 = .ok (.iconst 1, 1) := dk_4 (dk_at dksX6_tellPose_2 3 rfl rfl)
theorem dX6_tellPose_50 : decode cX6_tellPose 50 = .ok (.bastore, 1) := dk_84 (dk_at dksX6_tellPose_2 4 rfl rfl)
theorem dX6_tellPose_51 : decode cX6_tellPose 51 = .ok (.iload_n 3, 1) := dk_29 (dk_at dksX6_tellPose_2 5 rfl rfl)
theorem dX6_tellPose_52 : decode cX6_tellPose 52 = .ok (.ireturn, 1) := dk_172 (dk_at dksX6_tellPose_2 6 rfl rfl)
abbrev cX6_meet : ByteArray := prog_13_method_42_code
def yX6_meet : MethodName := ⟨RX6, "meet", "(II)I"⟩
def dkwX6_meet_10 : List UInt8 := [167, 255, 155, 132, 6, 1, 167, 255, 139, 42, 89, 180, 0, 222, 4, 96, 181, 0, 222, 21, 5, 172]
abbrev dktX6_meet_10 : List UInt8 := dkwX6_meet_10 ++ []
def dkwX6_meet_9 : List UInt8 := [96, 79, 25, 4, 180, 0, 71, 21, 6, 50, 21, 7, 21, 8, 21, 9, 96, 79, 132, 5, 1, 132, 7, 1]
abbrev dktX6_meet_9 : List UInt8 := dkwX6_meet_9 ++ dktX6_meet_10
def dkwX6_meet_8 : List UInt8 := [180, 0, 219, 4, 96, 181, 0, 219, 167, 0, 37, 45, 180, 0, 71, 21, 6, 50, 21, 7, 21, 8, 21, 9]
abbrev dktX6_meet_8 : List UInt8 := dkwX6_meet_8 ++ dktX6_meet_9
def dkwX6_meet_7 : List UInt8 := [21, 8, 21, 9, 160, 0, 6, 167, 0, 60, 21, 8, 153, 0, 21, 21, 9, 153, 0, 16, 42, 89]
abbrev dktX6_meet_7 : List UInt8 := dkwX6_meet_7 ++ dktX6_meet_8
def dkwX6_meet_6 : List UInt8 := [180, 0, 71, 21, 6, 50, 21, 7, 46, 54, 8, 25, 4, 180, 0, 71, 21, 6, 50, 21, 7, 46, 54, 9]
abbrev dktX6_meet_6 : List UInt8 := dkwX6_meet_6 ++ dktX6_meet_7
def dkwX6_meet_5 : List UInt8 := [172, 3, 54, 5, 3, 54, 6, 21, 6, 16, 36, 162, 0, 116, 3, 54, 7, 21, 7, 5, 162, 0, 101, 45]
abbrev dktX6_meet_5 : List UInt8 := dkwX6_meet_5 ++ dktX6_meet_6
def dkwX6_meet_4 : List UInt8 := [182, 0, 160, 25, 4, 182, 0, 160, 159, 0, 7, 4, 167, 0, 4, 3, 6, 182, 0, 38, 153, 0, 5, 3]
abbrev dktX6_meet_4 : List UInt8 := dkwX6_meet_4 ++ dktX6_meet_5
def dkwX6_meet_3 : List UInt8 := [192, 0, 72, 58, 4, 42, 45, 182, 0, 122, 2, 159, 0, 24, 25, 4, 182, 0, 122, 2, 159, 0, 15, 45]
abbrev dktX6_meet_3 : List UInt8 := dkwX6_meet_3 ++ dktX6_meet_4
def dkwX6_meet_2 : List UInt8 := [3, 172, 42, 180, 0, 31, 27, 182, 0, 152, 192, 0, 72, 78, 42, 180, 0, 31, 28, 182, 0, 152]
abbrev dktX6_meet_2 : List UInt8 := dkwX6_meet_2 ++ dktX6_meet_3
def dkwX6_meet_1 : List UInt8 := [182, 0, 83, 154, 0, 21, 42, 27, 28, 160, 0, 7, 4, 167, 0, 4, 3, 5, 182, 0, 38, 153, 0, 5]
abbrev dktX6_meet_1 : List UInt8 := dkwX6_meet_1 ++ dktX6_meet_2
def dkwX6_meet_0 : List UInt8 := [42, 42, 27, 182, 0, 149, 154, 0, 11, 42, 28, 182, 0, 149, 153, 0, 7, 4, 167, 0, 4, 3, 4]
abbrev dktX6_meet_0 : List UInt8 := dkwX6_meet_0 ++ dktX6_meet_1
theorem dksX6_meet_0 : cX6_meet.data.toList.drop 0 = dktX6_meet_0 := by decide +kernel
theorem dksX6_meet_1 : cX6_meet.data.toList.drop 23 = dktX6_meet_1 := dk_seg dksX6_meet_0 23 rfl rfl
theorem dksX6_meet_2 : cX6_meet.data.toList.drop 47 = dktX6_meet_2 := dk_seg dksX6_meet_1 24 rfl rfl
theorem dksX6_meet_3 : cX6_meet.data.toList.drop 69 = dktX6_meet_3 := dk_seg dksX6_meet_2 22 rfl rfl
theorem dksX6_meet_4 : cX6_meet.data.toList.drop 93 = dktX6_meet_4 := dk_seg dksX6_meet_3 24 rfl rfl
theorem dksX6_meet_5 : cX6_meet.data.toList.drop 117 = dktX6_meet_5 := dk_seg dksX6_meet_4 24 rfl rfl
theorem dksX6_meet_6 : cX6_meet.data.toList.drop 141 = dktX6_meet_6 := dk_seg dksX6_meet_5 24 rfl rfl
theorem dksX6_meet_7 : cX6_meet.data.toList.drop 165 = dktX6_meet_7 := dk_seg dksX6_meet_6 24 rfl rfl
theorem dksX6_meet_8 : cX6_meet.data.toList.drop 187 = dktX6_meet_8 := dk_seg dksX6_meet_7 22 rfl rfl
theorem dksX6_meet_9 : cX6_meet.data.toList.drop 211 = dktX6_meet_9 := dk_seg dksX6_meet_8 24 rfl rfl
theorem dksX6_meet_10 : cX6_meet.data.toList.drop 235 = dktX6_meet_10 := dk_seg dksX6_meet_9 24 rfl rfl
theorem dX6_meet_0 : decode cX6_meet 0 = .ok (.aload_n 0, 1) := dk_42 (dk_at dksX6_meet_0 0 rfl rfl)
theorem dX6_meet_1 : decode cX6_meet 1 = .ok (.aload_n 0, 1) := dk_42 (dk_at dksX6_meet_0 1 rfl rfl)
theorem dX6_meet_2 : decode cX6_meet 2 = .ok (.iload_n 1, 1) := dk_27 (dk_at dksX6_meet_0 2 rfl rfl)
theorem dX6_meet_3 : decode cX6_meet 3 = .ok (.invokevirtual 149, 3) := dk_182 0 149 (dk_at dksX6_meet_0 3 rfl rfl)
theorem dX6_meet_6 : decode cX6_meet 6 = .ok (.ifCond .ne 11, 3) := dk_154 0 11 (dk_at dksX6_meet_0 6 rfl rfl)
theorem dX6_meet_9 : decode cX6_meet 9 = .ok (.aload_n 0, 1) := dk_42 (dk_at dksX6_meet_0 9 rfl rfl)
theorem dX6_meet_10 : decode cX6_meet 10 = .ok (.iload_n 2, 1) := dk_28 (dk_at dksX6_meet_0 10 rfl rfl)
theorem dX6_meet_11 : decode cX6_meet 11 = .ok (.invokevirtual 149, 3) := dk_182 0 149 (dk_at dksX6_meet_0 11 rfl rfl)
theorem dX6_meet_14 : decode cX6_meet 14 = .ok (.ifCond .eq 7, 3) := dk_153 0 7 (dk_at dksX6_meet_0 14 rfl rfl)
theorem dX6_meet_17 : decode cX6_meet 17 = .ok (.iconst 1, 1) := dk_4 (dk_at dksX6_meet_0 17 rfl rfl)
theorem dX6_meet_18 : decode cX6_meet 18 = .ok (.goto 4, 3) := dk_167 0 4 (dk_at dksX6_meet_0 18 rfl rfl)
theorem dX6_meet_21 : decode cX6_meet 21 = .ok (.iconst 0, 1) := dk_3 (dk_at dksX6_meet_0 21 rfl rfl)
theorem dX6_meet_22 : decode cX6_meet 22 = .ok (.iconst 1, 1) := dk_4 (dk_at dksX6_meet_0 22 rfl rfl)
theorem dX6_meet_23 : decode cX6_meet 23 = .ok (.invokevirtual 83, 3) := dk_182 0 83 (dk_at dksX6_meet_1 0 rfl rfl)
theorem dX6_meet_26 : decode cX6_meet 26 = .ok (.ifCond .ne 21, 3) := dk_154 0 21 (dk_at dksX6_meet_1 3 rfl rfl)
theorem dX6_meet_29 : decode cX6_meet 29 = .ok (.aload_n 0, 1) := dk_42 (dk_at dksX6_meet_1 6 rfl rfl)
theorem dX6_meet_30 : decode cX6_meet 30 = .ok (.iload_n 1, 1) := dk_27 (dk_at dksX6_meet_1 7 rfl rfl)
theorem dX6_meet_31 : decode cX6_meet 31 = .ok (.iload_n 2, 1) := dk_28 (dk_at dksX6_meet_1 8 rfl rfl)
theorem dX6_meet_32 : decode cX6_meet 32 = .ok (.if_icmp .ne 7, 3) := dk_160 0 7 (dk_at dksX6_meet_1 9 rfl rfl)
theorem dX6_meet_35 : decode cX6_meet 35 = .ok (.iconst 1, 1) := dk_4 (dk_at dksX6_meet_1 12 rfl rfl)
theorem dX6_meet_36 : decode cX6_meet 36 = .ok (.goto 4, 3) := dk_167 0 4 (dk_at dksX6_meet_1 13 rfl rfl)
theorem dX6_meet_39 : decode cX6_meet 39 = .ok (.iconst 0, 1) := dk_3 (dk_at dksX6_meet_1 16 rfl rfl)
theorem dX6_meet_40 : decode cX6_meet 40 = .ok (.iconst 2, 1) := dk_5 (dk_at dksX6_meet_1 17 rfl rfl)
theorem dX6_meet_41 : decode cX6_meet 41 = .ok (.invokevirtual 38, 3) := dk_182 0 38 (dk_at dksX6_meet_1 18 rfl rfl)
theorem dX6_meet_44 : decode cX6_meet 44 = .ok (.ifCond .eq 5, 3) := dk_153 0 5 (dk_at dksX6_meet_1 21 rfl rfl)
theorem dX6_meet_47 : decode cX6_meet 47 = .ok (.iconst 0, 1) := dk_3 (dk_at dksX6_meet_2 0 rfl rfl)
theorem dX6_meet_48 : decode cX6_meet 48 = .ok (.ireturn, 1) := dk_172 (dk_at dksX6_meet_2 1 rfl rfl)
theorem dX6_meet_49 : decode cX6_meet 49 = .ok (.aload_n 0, 1) := dk_42 (dk_at dksX6_meet_2 2 rfl rfl)
theorem dX6_meet_50 : decode cX6_meet 50 = .ok (.getfield 31, 3) := dk_180 0 31 (dk_at dksX6_meet_2 3 rfl rfl)
theorem dX6_meet_53 : decode cX6_meet 53 = .ok (.iload_n 1, 1) := dk_27 (dk_at dksX6_meet_2 6 rfl rfl)
theorem dX6_meet_54 : decode cX6_meet 54 = .ok (.invokevirtual 152, 3) := dk_182 0 152 (dk_at dksX6_meet_2 7 rfl rfl)
theorem dX6_meet_57 : decode cX6_meet 57 = .ok (.checkcast 72, 3) := dk_192 0 72 (dk_at dksX6_meet_2 10 rfl rfl)
theorem dX6_meet_60 : decode cX6_meet 60 = .ok (.astore_n 3, 1) := dk_78 (dk_at dksX6_meet_2 13 rfl rfl)
theorem dX6_meet_61 : decode cX6_meet 61 = .ok (.aload_n 0, 1) := dk_42 (dk_at dksX6_meet_2 14 rfl rfl)
theorem dX6_meet_62 : decode cX6_meet 62 = .ok (.getfield 31, 3) := dk_180 0 31 (dk_at dksX6_meet_2 15 rfl rfl)
theorem dX6_meet_65 : decode cX6_meet 65 = .ok (.iload_n 2, 1) := dk_28 (dk_at dksX6_meet_2 18 rfl rfl)
theorem dX6_meet_66 : decode cX6_meet 66 = .ok (.invokevirtual 152, 3) := dk_182 0 152 (dk_at dksX6_meet_2 19 rfl rfl)
theorem dX6_meet_69 : decode cX6_meet 69 = .ok (.checkcast 72, 3) := dk_192 0 72 (dk_at dksX6_meet_3 0 rfl rfl)
theorem dX6_meet_72 : decode cX6_meet 72 = .ok (.astore 4, 2) := dk_58 4 (dk_at dksX6_meet_3 3 rfl rfl)
theorem dX6_meet_74 : decode cX6_meet 74 = .ok (.aload_n 0, 1) := dk_42 (dk_at dksX6_meet_3 5 rfl rfl)
theorem dX6_meet_75 : decode cX6_meet 75 = .ok (.aload_n 3, 1) := dk_45 (dk_at dksX6_meet_3 6 rfl rfl)
theorem dX6_meet_76 : decode cX6_meet 76 = .ok (.invokevirtual 122, 3) := dk_182 0 122 (dk_at dksX6_meet_3 7 rfl rfl)
theorem dX6_meet_79 : decode cX6_meet 79 = .ok (.iconst (-1), 1) := dk_2 (dk_at dksX6_meet_3 10 rfl rfl)
theorem dX6_meet_80 : decode cX6_meet 80 = .ok (.if_icmp .eq 24, 3) := dk_159 0 24 (dk_at dksX6_meet_3 11 rfl rfl)
theorem dX6_meet_83 : decode cX6_meet 83 = .ok (.aload 4, 2) := dk_25 4 (dk_at dksX6_meet_3 14 rfl rfl)
theorem dX6_meet_85 : decode cX6_meet 85 = .ok (.invokevirtual 122, 3) := dk_182 0 122 (dk_at dksX6_meet_3 16 rfl rfl)
theorem dX6_meet_88 : decode cX6_meet 88 = .ok (.iconst (-1), 1) := dk_2 (dk_at dksX6_meet_3 19 rfl rfl)
theorem dX6_meet_89 : decode cX6_meet 89 = .ok (.if_icmp .eq 15, 3) := dk_159 0 15 (dk_at dksX6_meet_3 20 rfl rfl)
theorem dX6_meet_92 : decode cX6_meet 92 = .ok (.aload_n 3, 1) := dk_45 (dk_at dksX6_meet_3 23 rfl rfl)
theorem dX6_meet_93 : decode cX6_meet 93 = .ok (.invokevirtual 160, 3) := dk_182 0 160 (dk_at dksX6_meet_4 0 rfl rfl)
theorem dX6_meet_96 : decode cX6_meet 96 = .ok (.aload 4, 2) := dk_25 4 (dk_at dksX6_meet_4 3 rfl rfl)
theorem dX6_meet_98 : decode cX6_meet 98 = .ok (.invokevirtual 160, 3) := dk_182 0 160 (dk_at dksX6_meet_4 5 rfl rfl)
theorem dX6_meet_101 : decode cX6_meet 101 = .ok (.if_icmp .eq 7, 3) := dk_159 0 7 (dk_at dksX6_meet_4 8 rfl rfl)
theorem dX6_meet_104 : decode cX6_meet 104 = .ok (.iconst 1, 1) := dk_4 (dk_at dksX6_meet_4 11 rfl rfl)
theorem dX6_meet_105 : decode cX6_meet 105 = .ok (.goto 4, 3) := dk_167 0 4 (dk_at dksX6_meet_4 12 rfl rfl)
theorem dX6_meet_108 : decode cX6_meet 108 = .ok (.iconst 0, 1) := dk_3 (dk_at dksX6_meet_4 15 rfl rfl)
theorem dX6_meet_109 : decode cX6_meet 109 = .ok (.iconst 3, 1) := dk_6 (dk_at dksX6_meet_4 16 rfl rfl)
theorem dX6_meet_110 : decode cX6_meet 110 = .ok (.invokevirtual 38, 3) := dk_182 0 38 (dk_at dksX6_meet_4 17 rfl rfl)
theorem dX6_meet_113 : decode cX6_meet 113 = .ok (.ifCond .eq 5, 3) := dk_153 0 5 (dk_at dksX6_meet_4 20 rfl rfl)
theorem dX6_meet_116 : decode cX6_meet 116 = .ok (.iconst 0, 1) := dk_3 (dk_at dksX6_meet_4 23 rfl rfl)
theorem dX6_meet_117 : decode cX6_meet 117 = .ok (.ireturn, 1) := dk_172 (dk_at dksX6_meet_5 0 rfl rfl)
theorem dX6_meet_118 : decode cX6_meet 118 = .ok (.iconst 0, 1) := dk_3 (dk_at dksX6_meet_5 1 rfl rfl)
theorem dX6_meet_119 : decode cX6_meet 119 = .ok (.istore 5, 2) := dk_54 5 (dk_at dksX6_meet_5 2 rfl rfl)
theorem dX6_meet_121 : decode cX6_meet 121 = .ok (.iconst 0, 1) := dk_3 (dk_at dksX6_meet_5 4 rfl rfl)
theorem dX6_meet_122 : decode cX6_meet 122 = .ok (.istore 6, 2) := dk_54 6 (dk_at dksX6_meet_5 5 rfl rfl)
theorem dX6_meet_124 : decode cX6_meet 124 = .ok (.iload 6, 2) := dk_21 6 (dk_at dksX6_meet_5 7 rfl rfl)
theorem dX6_meet_126 : decode cX6_meet 126 = .ok (.bipush 36, 2) := dk_16 36 (dk_at dksX6_meet_5 9 rfl rfl)
theorem dX6_meet_128 : decode cX6_meet 128 = .ok (.if_icmp .ge 116, 3) := dk_162 0 116 (dk_at dksX6_meet_5 11 rfl rfl)
theorem dX6_meet_131 : decode cX6_meet 131 = .ok (.iconst 0, 1) := dk_3 (dk_at dksX6_meet_5 14 rfl rfl)
theorem dX6_meet_132 : decode cX6_meet 132 = .ok (.istore 7, 2) := dk_54 7 (dk_at dksX6_meet_5 15 rfl rfl)
theorem dX6_meet_134 : decode cX6_meet 134 = .ok (.iload 7, 2) := dk_21 7 (dk_at dksX6_meet_5 17 rfl rfl)
theorem dX6_meet_136 : decode cX6_meet 136 = .ok (.iconst 2, 1) := dk_5 (dk_at dksX6_meet_5 19 rfl rfl)
theorem dX6_meet_137 : decode cX6_meet 137 = .ok (.if_icmp .ge 101, 3) := dk_162 0 101 (dk_at dksX6_meet_5 20 rfl rfl)
theorem dX6_meet_140 : decode cX6_meet 140 = .ok (.aload_n 3, 1) := dk_45 (dk_at dksX6_meet_5 23 rfl rfl)
theorem dX6_meet_141 : decode cX6_meet 141 = .ok (.getfield 71, 3) := dk_180 0 71 (dk_at dksX6_meet_6 0 rfl rfl)
theorem dX6_meet_144 : decode cX6_meet 144 = .ok (.iload 6, 2) := dk_21 6 (dk_at dksX6_meet_6 3 rfl rfl)
theorem dX6_meet_146 : decode cX6_meet 146 = .ok (.aaload, 1) := dk_50 (dk_at dksX6_meet_6 5 rfl rfl)
theorem dX6_meet_147 : decode cX6_meet 147 = .ok (.iload 7, 2) := dk_21 7 (dk_at dksX6_meet_6 6 rfl rfl)
theorem dX6_meet_149 : decode cX6_meet 149 = .ok (.iaload, 1) := dk_46 (dk_at dksX6_meet_6 8 rfl rfl)
theorem dX6_meet_150 : decode cX6_meet 150 = .ok (.istore 8, 2) := dk_54 8 (dk_at dksX6_meet_6 9 rfl rfl)
theorem dX6_meet_152 : decode cX6_meet 152 = .ok (.aload 4, 2) := dk_25 4 (dk_at dksX6_meet_6 11 rfl rfl)
theorem dX6_meet_154 : decode cX6_meet 154 = .ok (.getfield 71, 3) := dk_180 0 71 (dk_at dksX6_meet_6 13 rfl rfl)
theorem dX6_meet_157 : decode cX6_meet 157 = .ok (.iload 6, 2) := dk_21 6 (dk_at dksX6_meet_6 16 rfl rfl)
theorem dX6_meet_159 : decode cX6_meet 159 = .ok (.aaload, 1) := dk_50 (dk_at dksX6_meet_6 18 rfl rfl)
theorem dX6_meet_160 : decode cX6_meet 160 = .ok (.iload 7, 2) := dk_21 7 (dk_at dksX6_meet_6 19 rfl rfl)
theorem dX6_meet_162 : decode cX6_meet 162 = .ok (.iaload, 1) := dk_46 (dk_at dksX6_meet_6 21 rfl rfl)
theorem dX6_meet_163 : decode cX6_meet 163 = .ok (.istore 9, 2) := dk_54 9 (dk_at dksX6_meet_6 22 rfl rfl)
theorem dX6_meet_165 : decode cX6_meet 165 = .ok (.iload 8, 2) := dk_21 8 (dk_at dksX6_meet_7 0 rfl rfl)
theorem dX6_meet_167 : decode cX6_meet 167 = .ok (.iload 9, 2) := dk_21 9 (dk_at dksX6_meet_7 2 rfl rfl)
theorem dX6_meet_169 : decode cX6_meet 169 = .ok (.if_icmp .ne 6, 3) := dk_160 0 6 (dk_at dksX6_meet_7 4 rfl rfl)
theorem dX6_meet_172 : decode cX6_meet 172 = .ok (.goto 60, 3) := dk_167 0 60 (dk_at dksX6_meet_7 7 rfl rfl)
theorem dX6_meet_175 : decode cX6_meet 175 = .ok (.iload 8, 2) := dk_21 8 (dk_at dksX6_meet_7 10 rfl rfl)
theorem dX6_meet_177 : decode cX6_meet 177 = .ok (.ifCond .eq 21, 3) := dk_153 0 21 (dk_at dksX6_meet_7 12 rfl rfl)
theorem dX6_meet_180 : decode cX6_meet 180 = .ok (.iload 9, 2) := dk_21 9 (dk_at dksX6_meet_7 15 rfl rfl)
theorem dX6_meet_182 : decode cX6_meet 182 = .ok (.ifCond .eq 16, 3) := dk_153 0 16 (dk_at dksX6_meet_7 17 rfl rfl)
theorem dX6_meet_185 : decode cX6_meet 185 = .ok (.aload_n 0, 1) := dk_42 (dk_at dksX6_meet_7 20 rfl rfl)
theorem dX6_meet_186 : decode cX6_meet 186 = .ok (.dup, 1) := dk_89 (dk_at dksX6_meet_7 21 rfl rfl)
theorem dX6_meet_187 : decode cX6_meet 187 = .ok (.getfield 219, 3) := dk_180 0 219 (dk_at dksX6_meet_8 0 rfl rfl)
theorem dX6_meet_190 : decode cX6_meet 190 = .ok (.iconst 1, 1) := dk_4 (dk_at dksX6_meet_8 3 rfl rfl)
theorem dX6_meet_191 : decode cX6_meet 191 = .ok (.iadd, 1) := dk_96 (dk_at dksX6_meet_8 4 rfl rfl)
theorem dX6_meet_192 : decode cX6_meet 192 = .ok (.putfield 219, 3) := dk_181 0 219 (dk_at dksX6_meet_8 5 rfl rfl)
theorem dX6_meet_195 : decode cX6_meet 195 = .ok (.goto 37, 3) := dk_167 0 37 (dk_at dksX6_meet_8 8 rfl rfl)
theorem dX6_meet_198 : decode cX6_meet 198 = .ok (.aload_n 3, 1) := dk_45 (dk_at dksX6_meet_8 11 rfl rfl)
theorem dX6_meet_199 : decode cX6_meet 199 = .ok (.getfield 71, 3) := dk_180 0 71 (dk_at dksX6_meet_8 12 rfl rfl)
theorem dX6_meet_202 : decode cX6_meet 202 = .ok (.iload 6, 2) := dk_21 6 (dk_at dksX6_meet_8 15 rfl rfl)
theorem dX6_meet_204 : decode cX6_meet 204 = .ok (.aaload, 1) := dk_50 (dk_at dksX6_meet_8 17 rfl rfl)
theorem dX6_meet_205 : decode cX6_meet 205 = .ok (.iload 7, 2) := dk_21 7 (dk_at dksX6_meet_8 18 rfl rfl)
theorem dX6_meet_207 : decode cX6_meet 207 = .ok (.iload 8, 2) := dk_21 8 (dk_at dksX6_meet_8 20 rfl rfl)
theorem dX6_meet_209 : decode cX6_meet 209 = .ok (.iload 9, 2) := dk_21 9 (dk_at dksX6_meet_8 22 rfl rfl)
theorem dX6_meet_211 : decode cX6_meet 211 = .ok (.iadd, 1) := dk_96 (dk_at dksX6_meet_9 0 rfl rfl)
theorem dX6_meet_212 : decode cX6_meet 212 = .ok (.iastore, 1) := dk_79 (dk_at dksX6_meet_9 1 rfl rfl)
theorem dX6_meet_213 : decode cX6_meet 213 = .ok (.aload 4, 2) := dk_25 4 (dk_at dksX6_meet_9 2 rfl rfl)
theorem dX6_meet_215 : decode cX6_meet 215 = .ok (.getfield 71, 3) := dk_180 0 71 (dk_at dksX6_meet_9 4 rfl rfl)
theorem dX6_meet_218 : decode cX6_meet 218 = .ok (.iload 6, 2) := dk_21 6 (dk_at dksX6_meet_9 7 rfl rfl)
theorem dX6_meet_220 : decode cX6_meet 220 = .ok (.aaload, 1) := dk_50 (dk_at dksX6_meet_9 9 rfl rfl)
theorem dX6_meet_221 : decode cX6_meet 221 = .ok (.iload 7, 2) := dk_21 7 (dk_at dksX6_meet_9 10 rfl rfl)
theorem dX6_meet_223 : decode cX6_meet 223 = .ok (.iload 8, 2) := dk_21 8 (dk_at dksX6_meet_9 12 rfl rfl)
theorem dX6_meet_225 : decode cX6_meet 225 = .ok (.iload 9, 2) := dk_21 9 (dk_at dksX6_meet_9 14 rfl rfl)
theorem dX6_meet_227 : decode cX6_meet 227 = .ok (.iadd, 1) := dk_96 (dk_at dksX6_meet_9 16 rfl rfl)
theorem dX6_meet_228 : decode cX6_meet 228 = .ok (.iastore, 1) := dk_79 (dk_at dksX6_meet_9 17 rfl rfl)
theorem dX6_meet_229 : decode cX6_meet 229 = .ok (.iinc 5 1, 3) := dk_132 5 1 (dk_at dksX6_meet_9 18 rfl rfl)
theorem dX6_meet_232 : decode cX6_meet 232 = .ok (.iinc 7 1, 3) := dk_132 7 1 (dk_at dksX6_meet_9 21 rfl rfl)
theorem dX6_meet_235 : decode cX6_meet 235 = .ok (.goto (-101), 3) := dk_167 255 155 (dk_at dksX6_meet_10 0 rfl rfl)
theorem dX6_meet_238 : decode cX6_meet 238 = .ok (.iinc 6 1, 3) := dk_132 6 1 (dk_at dksX6_meet_10 3 rfl rfl)
theorem dX6_meet_241 : decode cX6_meet 241 = .ok (.goto (-117), 3) := dk_167 255 139 (dk_at dksX6_meet_10 6 rfl rfl)
theorem dX6_meet_244 : decode cX6_meet 244 = .ok (.aload_n 0, 1) := dk_42 (dk_at dksX6_meet_10 9 rfl rfl)
theorem dX6_meet_245 : decode cX6_meet 245 = .ok (.dup, 1) := dk_89 (dk_at dksX6_meet_10 10 rfl rfl)
theorem dX6_meet_246 : decode cX6_meet 246 = .ok (.getfield 222, 3) := dk_180 0 222 (dk_at dksX6_meet_10 11 rfl rfl)
theorem dX6_meet_249 : decode cX6_meet 249 = .ok (.iconst 1, 1) := dk_4 (dk_at dksX6_meet_10 14 rfl rfl)
theorem dX6_meet_250 : decode cX6_meet 250 = .ok (.iadd, 1) := dk_96 (dk_at dksX6_meet_10 15 rfl rfl)
theorem dX6_meet_251 : decode cX6_meet 251 = .ok (.putfield 222, 3) := dk_181 0 222 (dk_at dksX6_meet_10 16 rfl rfl)
theorem dX6_meet_254 : decode cX6_meet 254 = .ok (.iload 5, 2) := dk_21 5 (dk_at dksX6_meet_10 19 rfl rfl)
theorem dX6_meet_256 : decode cX6_meet 256 = .ok (.ireturn, 1) := dk_172 (dk_at dksX6_meet_10 21 rfl rfl)
abbrev cX6_pass : ByteArray := prog_13_method_43_code
def yX6_pass : MethodName := ⟨RX6, "pass", "(I)I"⟩
def dkwX6_pass_2 : List UInt8 := [153, 0, 5, 3, 172, 42, 89, 180, 0, 54, 27, 96, 181, 0, 54, 42, 180, 0, 54, 172]
abbrev dktX6_pass_2 : List UInt8 := dkwX6_pass_2 ++ []
def dkwX6_pass_1 : List UInt8 := [42, 42, 180, 0, 54, 27, 96, 17, 11, 184, 164, 0, 7, 4, 167, 0, 4, 3, 5, 182, 0, 38]
abbrev dktX6_pass_1 : List UInt8 := dkwX6_pass_1 ++ dktX6_pass_2
def dkwX6_pass_0 : List UInt8 := [42, 27, 4, 17, 2, 88, 184, 0, 42, 154, 0, 7, 4, 167, 0, 4, 3, 4, 182, 0, 83, 154, 0, 28]
abbrev dktX6_pass_0 : List UInt8 := dkwX6_pass_0 ++ dktX6_pass_1
theorem dksX6_pass_0 : cX6_pass.data.toList.drop 0 = dktX6_pass_0 := by decide +kernel
theorem dksX6_pass_1 : cX6_pass.data.toList.drop 24 = dktX6_pass_1 := dk_seg dksX6_pass_0 24 rfl rfl
theorem dksX6_pass_2 : cX6_pass.data.toList.drop 46 = dktX6_pass_2 := dk_seg dksX6_pass_1 22 rfl rfl
theorem dX6_pass_0 : decode cX6_pass 0 = .ok (.aload_n 0, 1) := dk_42 (dk_at dksX6_pass_0 0 rfl rfl)
theorem dX6_pass_1 : decode cX6_pass 1 = .ok (.iload_n 1, 1) := dk_27 (dk_at dksX6_pass_0 1 rfl rfl)
theorem dX6_pass_2 : decode cX6_pass 2 = .ok (.iconst 1, 1) := dk_4 (dk_at dksX6_pass_0 2 rfl rfl)
theorem dX6_pass_3 : decode cX6_pass 3 = .ok (.sipush 600, 3) := dk_17 2 88 (dk_at dksX6_pass_0 3 rfl rfl)
theorem dX6_pass_6 : decode cX6_pass 6 = .ok (.invokestatic 42, 3) := dk_184 0 42 (dk_at dksX6_pass_0 6 rfl rfl)
theorem dX6_pass_9 : decode cX6_pass 9 = .ok (.ifCond .ne 7, 3) := dk_154 0 7 (dk_at dksX6_pass_0 9 rfl rfl)
theorem dX6_pass_12 : decode cX6_pass 12 = .ok (.iconst 1, 1) := dk_4 (dk_at dksX6_pass_0 12 rfl rfl)
theorem dX6_pass_13 : decode cX6_pass 13 = .ok (.goto 4, 3) := dk_167 0 4 (dk_at dksX6_pass_0 13 rfl rfl)
theorem dX6_pass_16 : decode cX6_pass 16 = .ok (.iconst 0, 1) := dk_3 (dk_at dksX6_pass_0 16 rfl rfl)
theorem dX6_pass_17 : decode cX6_pass 17 = .ok (.iconst 1, 1) := dk_4 (dk_at dksX6_pass_0 17 rfl rfl)
theorem dX6_pass_18 : decode cX6_pass 18 = .ok (.invokevirtual 83, 3) := dk_182 0 83 (dk_at dksX6_pass_0 18 rfl rfl)
theorem dX6_pass_21 : decode cX6_pass 21 = .ok (.ifCond .ne 28, 3) := dk_154 0 28 (dk_at dksX6_pass_0 21 rfl rfl)
theorem dX6_pass_24 : decode cX6_pass 24 = .ok (.aload_n 0, 1) := dk_42 (dk_at dksX6_pass_1 0 rfl rfl)
theorem dX6_pass_25 : decode cX6_pass 25 = .ok (.aload_n 0, 1) := dk_42 (dk_at dksX6_pass_1 1 rfl rfl)
theorem dX6_pass_26 : decode cX6_pass 26 = .ok (.getfield 54, 3) := dk_180 0 54 (dk_at dksX6_pass_1 2 rfl rfl)
theorem dX6_pass_29 : decode cX6_pass 29 = .ok (.iload_n 1, 1) := dk_27 (dk_at dksX6_pass_1 5 rfl rfl)
theorem dX6_pass_30 : decode cX6_pass 30 = .ok (.iadd, 1) := dk_96 (dk_at dksX6_pass_1 6 rfl rfl)
theorem dX6_pass_31 : decode cX6_pass 31 = .ok (.sipush 3000, 3) := dk_17 11 184 (dk_at dksX6_pass_1 7 rfl rfl)
theorem dX6_pass_34 : decode cX6_pass 34 = .ok (.if_icmp .le 7, 3) := dk_164 0 7 (dk_at dksX6_pass_1 10 rfl rfl)
theorem dX6_pass_37 : decode cX6_pass 37 = .ok (.iconst 1, 1) := dk_4 (dk_at dksX6_pass_1 13 rfl rfl)
theorem dX6_pass_38 : decode cX6_pass 38 = .ok (.goto 4, 3) := dk_167 0 4 (dk_at dksX6_pass_1 14 rfl rfl)
theorem dX6_pass_41 : decode cX6_pass 41 = .ok (.iconst 0, 1) := dk_3 (dk_at dksX6_pass_1 17 rfl rfl)
theorem dX6_pass_42 : decode cX6_pass 42 = .ok (.iconst 2, 1) := dk_5 (dk_at dksX6_pass_1 18 rfl rfl)
theorem dX6_pass_43 : decode cX6_pass 43 = .ok (.invokevirtual 38, 3) := dk_182 0 38 (dk_at dksX6_pass_1 19 rfl rfl)
theorem dX6_pass_46 : decode cX6_pass 46 = .ok (.ifCond .eq 5, 3) := dk_153 0 5 (dk_at dksX6_pass_2 0 rfl rfl)
theorem dX6_pass_49 : decode cX6_pass 49 = .ok (.iconst 0, 1) := dk_3 (dk_at dksX6_pass_2 3 rfl rfl)
theorem dX6_pass_50 : decode cX6_pass 50 = .ok (.ireturn, 1) := dk_172 (dk_at dksX6_pass_2 4 rfl rfl)
theorem dX6_pass_51 : decode cX6_pass 51 = .ok (.aload_n 0, 1) := dk_42 (dk_at dksX6_pass_2 5 rfl rfl)
theorem dX6_pass_52 : decode cX6_pass 52 = .ok (.dup, 1) := dk_89 (dk_at dksX6_pass_2 6 rfl rfl)
theorem dX6_pass_53 : decode cX6_pass 53 = .ok (.getfield 54, 3) := dk_180 0 54 (dk_at dksX6_pass_2 7 rfl rfl)
theorem dX6_pass_56 : decode cX6_pass 56 = .ok (.iload_n 1, 1) := dk_27 (dk_at dksX6_pass_2 10 rfl rfl)
theorem dX6_pass_57 : decode cX6_pass 57 = .ok (.iadd, 1) := dk_96 (dk_at dksX6_pass_2 11 rfl rfl)
theorem dX6_pass_58 : decode cX6_pass 58 = .ok (.putfield 54, 3) := dk_181 0 54 (dk_at dksX6_pass_2 12 rfl rfl)
theorem dX6_pass_61 : decode cX6_pass 61 = .ok (.aload_n 0, 1) := dk_42 (dk_at dksX6_pass_2 15 rfl rfl)
theorem dX6_pass_62 : decode cX6_pass 62 = .ok (.getfield 54, 3) := dk_180 0 54 (dk_at dksX6_pass_2 16 rfl rfl)
theorem dX6_pass_65 : decode cX6_pass 65 = .ok (.ireturn, 1) := dk_172 (dk_at dksX6_pass_2 19 rfl rfl)
abbrev cX6_call : ByteArray := prog_13_method_44_code
def yX6_call : MethodName := ⟨RX6, "call", "()I"⟩
def dkwX6_call_0 : List UInt8 := [42, 3, 181, 0, 35, 42, 89, 180, 0, 225, 4, 96, 90, 181, 0, 225, 172]
abbrev dktX6_call_0 : List UInt8 := dkwX6_call_0 ++ []
theorem dksX6_call_0 : cX6_call.data.toList.drop 0 = dktX6_call_0 := by decide +kernel
theorem dX6_call_0 : decode cX6_call 0 = .ok (.aload_n 0, 1) := dk_42 (dk_at dksX6_call_0 0 rfl rfl)
theorem dX6_call_1 : decode cX6_call 1 = .ok (.iconst 0, 1) := dk_3 (dk_at dksX6_call_0 1 rfl rfl)
theorem dX6_call_2 : decode cX6_call 2 = .ok (.putfield 35, 3) := dk_181 0 35 (dk_at dksX6_call_0 2 rfl rfl)
theorem dX6_call_5 : decode cX6_call 5 = .ok (.aload_n 0, 1) := dk_42 (dk_at dksX6_call_0 5 rfl rfl)
theorem dX6_call_6 : decode cX6_call 6 = .ok (.dup, 1) := dk_89 (dk_at dksX6_call_0 6 rfl rfl)
theorem dX6_call_7 : decode cX6_call 7 = .ok (.getfield 225, 3) := dk_180 0 225 (dk_at dksX6_call_0 7 rfl rfl)
theorem dX6_call_10 : decode cX6_call 10 = .ok (.iconst 1, 1) := dk_4 (dk_at dksX6_call_0 10 rfl rfl)
theorem dX6_call_11 : decode cX6_call 11 = .ok (.iadd, 1) := dk_96 (dk_at dksX6_call_0 11 rfl rfl)
theorem dX6_call_12 : decode cX6_call 12 = .ok (.dup_x1, 1) := dk_90 (dk_at dksX6_call_0 12 rfl rfl)
theorem dX6_call_13 : decode cX6_call 13 = .ok (.putfield 225, 3) := dk_181 0 225 (dk_at dksX6_call_0 13 rfl rfl)
theorem dX6_call_16 : decode cX6_call 16 = .ok (.ireturn, 1) := dk_172 (dk_at dksX6_call_0 16 rfl rfl)
abbrev cX6_ofEdge : ByteArray := prog_13_method_46_code
def yX6_ofEdge : MethodName := ⟨RX6, "ofEdge", "(III)I"⟩
def dkwX6_ofEdge_2 : List UInt8 := [153, 0, 7, 3, 167, 0, 10, 42, 27, 28, 29, 182, 0, 228, 172]
abbrev dktX6_ofEdge_2 : List UInt8 := dkwX6_ofEdge_2 ++ []
def dkwX6_ofEdge_1 : List UInt8 := [154, 0, 25, 42, 29, 3, 5, 184, 0, 42, 154, 0, 7, 4, 167, 0, 4, 3, 5, 182, 0, 38]
abbrev dktX6_ofEdge_1 : List UInt8 := dkwX6_ofEdge_1 ++ dktX6_ofEdge_2
def dkwX6_ofEdge_0 : List UInt8 := [42, 27, 184, 0, 76, 154, 0, 10, 28, 184, 0, 80, 153, 0, 7, 4, 167, 0, 4, 3, 4, 182, 0, 83]
abbrev dktX6_ofEdge_0 : List UInt8 := dkwX6_ofEdge_0 ++ dktX6_ofEdge_1
theorem dksX6_ofEdge_0 : cX6_ofEdge.data.toList.drop 0 = dktX6_ofEdge_0 := by decide +kernel
theorem dksX6_ofEdge_1 : cX6_ofEdge.data.toList.drop 24 = dktX6_ofEdge_1 := dk_seg dksX6_ofEdge_0 24 rfl rfl
theorem dksX6_ofEdge_2 : cX6_ofEdge.data.toList.drop 46 = dktX6_ofEdge_2 := dk_seg dksX6_ofEdge_1 22 rfl rfl
theorem dX6_ofEdge_0 : decode cX6_ofEdge 0 = .ok (.aload_n 0, 1) := dk_42 (dk_at dksX6_ofEdge_0 0 rfl rfl)
theorem dX6_ofEdge_1 : decode cX6_ofEdge 1 = .ok (.iload_n 1, 1) := dk_27 (dk_at dksX6_ofEdge_0 1 rfl rfl)
theorem dX6_ofEdge_2 : decode cX6_ofEdge 2 = .ok (.invokestatic 76, 3) := dk_184 0 76 (dk_at dksX6_ofEdge_0 2 rfl rfl)
theorem dX6_ofEdge_5 : decode cX6_ofEdge 5 = .ok (.ifCond .ne 10, 3) := dk_154 0 10 (dk_at dksX6_ofEdge_0 5 rfl rfl)
theorem dX6_ofEdge_8 : decode cX6_ofEdge 8 = .ok (.iload_n 2, 1) := dk_28 (dk_at dksX6_ofEdge_0 8 rfl rfl)
theorem dX6_ofEdge_9 : decode cX6_ofEdge 9 = .ok (.invokestatic 80, 3) := dk_184 0 80 (dk_at dksX6_ofEdge_0 9 rfl rfl)
theorem dX6_ofEdge_12 : decode cX6_ofEdge 12 = .ok (.ifCond .eq 7, 3) := dk_153 0 7 (dk_at dksX6_ofEdge_0 12 rfl rfl)
theorem dX6_ofEdge_15 : decode cX6_ofEdge 15 = .ok (.iconst 1, 1) := dk_4 (dk_at dksX6_ofEdge_0 15 rfl rfl)
theorem dX6_ofEdge_16 : decode cX6_ofEdge 16 = .ok (.goto 4, 3) := dk_167 0 4 (dk_at dksX6_ofEdge_0 16 rfl rfl)
theorem dX6_ofEdge_19 : decode cX6_ofEdge 19 = .ok (.iconst 0, 1) := dk_3 (dk_at dksX6_ofEdge_0 19 rfl rfl)
theorem dX6_ofEdge_20 : decode cX6_ofEdge 20 = .ok (.iconst 1, 1) := dk_4 (dk_at dksX6_ofEdge_0 20 rfl rfl)
theorem dX6_ofEdge_21 : decode cX6_ofEdge 21 = .ok (.invokevirtual 83, 3) := dk_182 0 83 (dk_at dksX6_ofEdge_0 21 rfl rfl)
theorem dX6_ofEdge_24 : decode cX6_ofEdge 24 = .ok (.ifCond .ne 25, 3) := dk_154 0 25 (dk_at dksX6_ofEdge_1 0 rfl rfl)
theorem dX6_ofEdge_27 : decode cX6_ofEdge 27 = .ok (.aload_n 0, 1) := dk_42 (dk_at dksX6_ofEdge_1 3 rfl rfl)
theorem dX6_ofEdge_28 : decode cX6_ofEdge 28 = .ok (.iload_n 3, 1) := dk_29 (dk_at dksX6_ofEdge_1 4 rfl rfl)
theorem dX6_ofEdge_29 : decode cX6_ofEdge 29 = .ok (.iconst 0, 1) := dk_3 (dk_at dksX6_ofEdge_1 5 rfl rfl)
theorem dX6_ofEdge_30 : decode cX6_ofEdge 30 = .ok (.iconst 2, 1) := dk_5 (dk_at dksX6_ofEdge_1 6 rfl rfl)
theorem dX6_ofEdge_31 : decode cX6_ofEdge 31 = .ok (.invokestatic 42, 3) := dk_184 0 42 (dk_at dksX6_ofEdge_1 7 rfl rfl)
theorem dX6_ofEdge_34 : decode cX6_ofEdge 34 = .ok (.ifCond .ne 7, 3) := dk_154 0 7 (dk_at dksX6_ofEdge_1 10 rfl rfl)
theorem dX6_ofEdge_37 : decode cX6_ofEdge 37 = .ok (.iconst 1, 1) := dk_4 (dk_at dksX6_ofEdge_1 13 rfl rfl)
theorem dX6_ofEdge_38 : decode cX6_ofEdge 38 = .ok (.goto 4, 3) := dk_167 0 4 (dk_at dksX6_ofEdge_1 14 rfl rfl)
theorem dX6_ofEdge_41 : decode cX6_ofEdge 41 = .ok (.iconst 0, 1) := dk_3 (dk_at dksX6_ofEdge_1 17 rfl rfl)
theorem dX6_ofEdge_42 : decode cX6_ofEdge 42 = .ok (.iconst 2, 1) := dk_5 (dk_at dksX6_ofEdge_1 18 rfl rfl)
theorem dX6_ofEdge_43 : decode cX6_ofEdge 43 = .ok (.invokevirtual 38, 3) := dk_182 0 38 (dk_at dksX6_ofEdge_1 19 rfl rfl)
theorem dX6_ofEdge_46 : decode cX6_ofEdge 46 = .ok (.ifCond .eq 7, 3) := dk_153 0 7 (dk_at dksX6_ofEdge_2 0 rfl rfl)
theorem dX6_ofEdge_49 : decode cX6_ofEdge 49 = .ok (.iconst 0, 1) := dk_3 (dk_at dksX6_ofEdge_2 3 rfl rfl)
theorem dX6_ofEdge_50 : decode cX6_ofEdge 50 = .ok (.goto 10, 3) := dk_167 0 10 (dk_at dksX6_ofEdge_2 4 rfl rfl)
theorem dX6_ofEdge_53 : decode cX6_ofEdge 53 = .ok (.aload_n 0, 1) := dk_42 (dk_at dksX6_ofEdge_2 7 rfl rfl)
theorem dX6_ofEdge_54 : decode cX6_ofEdge 54 = .ok (.iload_n 1, 1) := dk_27 (dk_at dksX6_ofEdge_2 8 rfl rfl)
theorem dX6_ofEdge_55 : decode cX6_ofEdge 55 = .ok (.iload_n 2, 1) := dk_28 (dk_at dksX6_ofEdge_2 9 rfl rfl)
theorem dX6_ofEdge_56 : decode cX6_ofEdge 56 = .ok (.iload_n 3, 1) := dk_29 (dk_at dksX6_ofEdge_2 10 rfl rfl)
theorem dX6_ofEdge_57 : decode cX6_ofEdge 57 = .ok (.invokevirtual 228, 3) := dk_182 0 228 (dk_at dksX6_ofEdge_2 11 rfl rfl)
theorem dX6_ofEdge_60 : decode cX6_ofEdge 60 = .ok (.ireturn, 1) := dk_172 (dk_at dksX6_ofEdge_2 14 rfl rfl)
abbrev cX6_ofEdgeNow : ByteArray := prog_13_method_45_code
def yX6_ofEdgeNow : MethodName := ⟨RX6, "ofEdgeNow", "(III)I"⟩
def dkwX6_ofEdgeNow_3 : List UInt8 := [180, 0, 18, 21, 4, 50, 28, 184, 0, 64, 46, 79, 58, 5, 25, 5, 29, 46, 172]
abbrev dktX6_ofEdgeNow_3 : List UInt8 := dkwX6_ofEdgeNow_3 ++ []
def dkwX6_ofEdgeNow_2 : List UInt8 := [4, 42, 21, 4, 28, 184, 0, 64, 182, 0, 68, 153, 0, 7, 4, 167, 0, 4, 3, 79, 89, 5, 42]
abbrev dktX6_ofEdgeNow_2 : List UInt8 := dkwX6_ofEdgeNow_2 ++ dktX6_ofEdgeNow_3
def dkwX6_ofEdgeNow_1 : List UInt8 := [184, 0, 61, 54, 4, 6, 188, 10, 89, 3, 42, 180, 0, 15, 21, 4, 50, 28, 184, 0, 64, 46, 79, 89]
abbrev dktX6_ofEdgeNow_1 : List UInt8 := dkwX6_ofEdgeNow_1 ++ dktX6_ofEdgeNow_2
def dkwX6_ofEdgeNow_0 : List UInt8 := [27, 28, 184, 0, 50, 2, 160, 0, 14, 29, 5, 162, 0, 7, 4, 167, 0, 4, 3, 172, 27, 28]
abbrev dktX6_ofEdgeNow_0 : List UInt8 := dkwX6_ofEdgeNow_0 ++ dktX6_ofEdgeNow_1
theorem dksX6_ofEdgeNow_0 : cX6_ofEdgeNow.data.toList.drop 0 = dktX6_ofEdgeNow_0 := by decide +kernel
theorem dksX6_ofEdgeNow_1 : cX6_ofEdgeNow.data.toList.drop 22 = dktX6_ofEdgeNow_1 := dk_seg dksX6_ofEdgeNow_0 22 rfl rfl
theorem dksX6_ofEdgeNow_2 : cX6_ofEdgeNow.data.toList.drop 46 = dktX6_ofEdgeNow_2 := dk_seg dksX6_ofEdgeNow_1 24 rfl rfl
theorem dksX6_ofEdgeNow_3 : cX6_ofEdgeNow.data.toList.drop 69 = dktX6_ofEdgeNow_3 := dk_seg dksX6_ofEdgeNow_2 23 rfl rfl
theorem dX6_ofEdgeNow_0 : decode cX6_ofEdgeNow 0 = .ok (.iload_n 1, 1) := dk_27 (dk_at dksX6_ofEdgeNow_0 0 rfl rfl)
theorem dX6_ofEdgeNow_1 : decode cX6_ofEdgeNow 1 = .ok (.iload_n 2, 1) := dk_28 (dk_at dksX6_ofEdgeNow_0 1 rfl rfl)
theorem dX6_ofEdgeNow_2 : decode cX6_ofEdgeNow 2 = .ok (.invokestatic 50, 3) := dk_184 0 50 (dk_at dksX6_ofEdgeNow_0 2 rfl rfl)
theorem dX6_ofEdgeNow_5 : decode cX6_ofEdgeNow 5 = .ok (.iconst (-1), 1) := dk_2 (dk_at dksX6_ofEdgeNow_0 5 rfl rfl)
theorem dX6_ofEdgeNow_6 : decode cX6_ofEdgeNow 6 = .ok (.if_icmp .ne 14, 3) := dk_160 0 14 (dk_at dksX6_ofEdgeNow_0 6 rfl rfl)
theorem dX6_ofEdgeNow_9 : decode cX6_ofEdgeNow 9 = .ok (.iload_n 3, 1) := dk_29 (dk_at dksX6_ofEdgeNow_0 9 rfl rfl)
theorem dX6_ofEdgeNow_10 : decode cX6_ofEdgeNow 10 = .ok (.iconst 2, 1) := dk_5 (dk_at dksX6_ofEdgeNow_0 10 rfl rfl)
theorem dX6_ofEdgeNow_11 : decode cX6_ofEdgeNow 11 = .ok (.if_icmp .ge 7, 3) := dk_162 0 7 (dk_at dksX6_ofEdgeNow_0 11 rfl rfl)
theorem dX6_ofEdgeNow_14 : decode cX6_ofEdgeNow 14 = .ok (.iconst 1, 1) := dk_4 (dk_at dksX6_ofEdgeNow_0 14 rfl rfl)
theorem dX6_ofEdgeNow_15 : decode cX6_ofEdgeNow 15 = .ok (.goto 4, 3) := dk_167 0 4 (dk_at dksX6_ofEdgeNow_0 15 rfl rfl)
theorem dX6_ofEdgeNow_18 : decode cX6_ofEdgeNow 18 = .ok (.iconst 0, 1) := dk_3 (dk_at dksX6_ofEdgeNow_0 18 rfl rfl)
theorem dX6_ofEdgeNow_19 : decode cX6_ofEdgeNow 19 = .ok (.ireturn, 1) := dk_172 (dk_at dksX6_ofEdgeNow_0 19 rfl rfl)
theorem dX6_ofEdgeNow_20 : decode cX6_ofEdgeNow 20 = .ok (.iload_n 1, 1) := dk_27 (dk_at dksX6_ofEdgeNow_0 20 rfl rfl)
theorem dX6_ofEdgeNow_21 : decode cX6_ofEdgeNow 21 = .ok (.iload_n 2, 1) := dk_28 (dk_at dksX6_ofEdgeNow_0 21 rfl rfl)
theorem dX6_ofEdgeNow_22 : decode cX6_ofEdgeNow 22 = .ok (.invokestatic 61, 3) := dk_184 0 61 (dk_at dksX6_ofEdgeNow_1 0 rfl rfl)
theorem dX6_ofEdgeNow_25 : decode cX6_ofEdgeNow 25 = .ok (.istore 4, 2) := dk_54 4 (dk_at dksX6_ofEdgeNow_1 3 rfl rfl)
theorem dX6_ofEdgeNow_27 : decode cX6_ofEdgeNow 27 = .ok (.iconst 3, 1) := dk_6 (dk_at dksX6_ofEdgeNow_1 5 rfl rfl)
theorem dX6_ofEdgeNow_28 : decode cX6_ofEdgeNow 28 = .ok (.newarray .int, 2) := dk_188_10 (dk_at dksX6_ofEdgeNow_1 6 rfl rfl)
theorem dX6_ofEdgeNow_30 : decode cX6_ofEdgeNow 30 = .ok (.dup, 1) := dk_89 (dk_at dksX6_ofEdgeNow_1 8 rfl rfl)
theorem dX6_ofEdgeNow_31 : decode cX6_ofEdgeNow 31 = .ok (.iconst 0, 1) := dk_3 (dk_at dksX6_ofEdgeNow_1 9 rfl rfl)
theorem dX6_ofEdgeNow_32 : decode cX6_ofEdgeNow 32 = .ok (.aload_n 0, 1) := dk_42 (dk_at dksX6_ofEdgeNow_1 10 rfl rfl)
theorem dX6_ofEdgeNow_33 : decode cX6_ofEdgeNow 33 = .ok (.getfield 15, 3) := dk_180 0 15 (dk_at dksX6_ofEdgeNow_1 11 rfl rfl)
theorem dX6_ofEdgeNow_36 : decode cX6_ofEdgeNow 36 = .ok (.iload 4, 2) := dk_21 4 (dk_at dksX6_ofEdgeNow_1 14 rfl rfl)
theorem dX6_ofEdgeNow_38 : decode cX6_ofEdgeNow 38 = .ok (.aaload, 1) := dk_50 (dk_at dksX6_ofEdgeNow_1 16 rfl rfl)
theorem dX6_ofEdgeNow_39 : decode cX6_ofEdgeNow 39 = .ok (.iload_n 2, 1) := dk_28 (dk_at dksX6_ofEdgeNow_1 17 rfl rfl)
theorem dX6_ofEdgeNow_40 : decode cX6_ofEdgeNow 40 = .ok (.invokestatic 64, 3) := dk_184 0 64 (dk_at dksX6_ofEdgeNow_1 18 rfl rfl)
theorem dX6_ofEdgeNow_43 : decode cX6_ofEdgeNow 43 = .ok (.iaload, 1) := dk_46 (dk_at dksX6_ofEdgeNow_1 21 rfl rfl)
theorem dX6_ofEdgeNow_44 : decode cX6_ofEdgeNow 44 = .ok (.iastore, 1) := dk_79 (dk_at dksX6_ofEdgeNow_1 22 rfl rfl)
theorem dX6_ofEdgeNow_45 : decode cX6_ofEdgeNow 45 = .ok (.dup, 1) := dk_89 (dk_at dksX6_ofEdgeNow_1 23 rfl rfl)
theorem dX6_ofEdgeNow_46 : decode cX6_ofEdgeNow 46 = .ok (.iconst 1, 1) := dk_4 (dk_at dksX6_ofEdgeNow_2 0 rfl rfl)
theorem dX6_ofEdgeNow_47 : decode cX6_ofEdgeNow 47 = .ok (.aload_n 0, 1) := dk_42 (dk_at dksX6_ofEdgeNow_2 1 rfl rfl)
theorem dX6_ofEdgeNow_48 : decode cX6_ofEdgeNow 48 = .ok (.iload 4, 2) := dk_21 4 (dk_at dksX6_ofEdgeNow_2 2 rfl rfl)
theorem dX6_ofEdgeNow_50 : decode cX6_ofEdgeNow 50 = .ok (.iload_n 2, 1) := dk_28 (dk_at dksX6_ofEdgeNow_2 4 rfl rfl)
theorem dX6_ofEdgeNow_51 : decode cX6_ofEdgeNow 51 = .ok (.invokestatic 64, 3) := dk_184 0 64 (dk_at dksX6_ofEdgeNow_2 5 rfl rfl)
theorem dX6_ofEdgeNow_54 : decode cX6_ofEdgeNow 54 = .ok (.invokevirtual 68, 3) := dk_182 0 68 (dk_at dksX6_ofEdgeNow_2 8 rfl rfl)
theorem dX6_ofEdgeNow_57 : decode cX6_ofEdgeNow 57 = .ok (.ifCond .eq 7, 3) := dk_153 0 7 (dk_at dksX6_ofEdgeNow_2 11 rfl rfl)
theorem dX6_ofEdgeNow_60 : decode cX6_ofEdgeNow 60 = .ok (.iconst 1, 1) := dk_4 (dk_at dksX6_ofEdgeNow_2 14 rfl rfl)
theorem dX6_ofEdgeNow_61 : decode cX6_ofEdgeNow 61 = .ok (.goto 4, 3) := dk_167 0 4 (dk_at dksX6_ofEdgeNow_2 15 rfl rfl)
theorem dX6_ofEdgeNow_64 : decode cX6_ofEdgeNow 64 = .ok (.iconst 0, 1) := dk_3 (dk_at dksX6_ofEdgeNow_2 18 rfl rfl)
theorem dX6_ofEdgeNow_65 : decode cX6_ofEdgeNow 65 = .ok (.iastore, 1) := dk_79 (dk_at dksX6_ofEdgeNow_2 19 rfl rfl)
theorem dX6_ofEdgeNow_66 : decode cX6_ofEdgeNow 66 = .ok (.dup, 1) := dk_89 (dk_at dksX6_ofEdgeNow_2 20 rfl rfl)
theorem dX6_ofEdgeNow_67 : decode cX6_ofEdgeNow 67 = .ok (.iconst 2, 1) := dk_5 (dk_at dksX6_ofEdgeNow_2 21 rfl rfl)
theorem dX6_ofEdgeNow_68 : decode cX6_ofEdgeNow 68 = .ok (.aload_n 0, 1) := dk_42 (dk_at dksX6_ofEdgeNow_2 22 rfl rfl)
theorem dX6_ofEdgeNow_69 : decode cX6_ofEdgeNow 69 = .ok (.getfield 18, 3) := dk_180 0 18 (dk_at dksX6_ofEdgeNow_3 0 rfl rfl)
theorem dX6_ofEdgeNow_72 : decode cX6_ofEdgeNow 72 = .ok (.iload 4, 2) := dk_21 4 (dk_at dksX6_ofEdgeNow_3 3 rfl rfl)
theorem dX6_ofEdgeNow_74 : decode cX6_ofEdgeNow 74 = .ok (.aaload, 1) := dk_50 (dk_at dksX6_ofEdgeNow_3 5 rfl rfl)
theorem dX6_ofEdgeNow_75 : decode cX6_ofEdgeNow 75 = .ok (.iload_n 2, 1) := dk_28 (dk_at dksX6_ofEdgeNow_3 6 rfl rfl)
theorem dX6_ofEdgeNow_76 : decode cX6_ofEdgeNow 76 = .ok (.invokestatic 64, 3) := dk_184 0 64 (dk_at dksX6_ofEdgeNow_3 7 rfl rfl)
theorem dX6_ofEdgeNow_79 : decode cX6_ofEdgeNow 79 = .ok (.iaload, 1) := dk_46 (dk_at dksX6_ofEdgeNow_3 10 rfl rfl)
theorem dX6_ofEdgeNow_80 : decode cX6_ofEdgeNow 80 = .ok (.iastore, 1) := dk_79 (dk_at dksX6_ofEdgeNow_3 11 rfl rfl)
theorem dX6_ofEdgeNow_81 : decode cX6_ofEdgeNow 81 = .ok (.astore 5, 2) := dk_58 5 (dk_at dksX6_ofEdgeNow_3 12 rfl rfl)
theorem dX6_ofEdgeNow_83 : decode cX6_ofEdgeNow 83 = .ok (.aload 5, 2) := dk_25 5 (dk_at dksX6_ofEdgeNow_3 14 rfl rfl)
theorem dX6_ofEdgeNow_85 : decode cX6_ofEdgeNow 85 = .ok (.iload_n 3, 1) := dk_29 (dk_at dksX6_ofEdgeNow_3 16 rfl rfl)
theorem dX6_ofEdgeNow_86 : decode cX6_ofEdgeNow 86 = .ok (.iaload, 1) := dk_46 (dk_at dksX6_ofEdgeNow_3 17 rfl rfl)
theorem dX6_ofEdgeNow_87 : decode cX6_ofEdgeNow 87 = .ok (.ireturn, 1) := dk_172 (dk_at dksX6_ofEdgeNow_3 18 rfl rfl)
abbrev cX6_ofWalker : ByteArray := prog_13_method_48_code
def yX6_ofWalker : MethodName := ⟨RX6, "ofWalker", "(II)I"⟩
def dkwX6_ofWalker_2 : List UInt8 := [182, 0, 152, 192, 0, 72, 28, 182, 0, 232, 172]
abbrev dktX6_ofWalker_2 : List UInt8 := dkwX6_ofWalker_2 ++ []
def dkwX6_ofWalker_1 : List UInt8 := [4, 167, 0, 4, 3, 5, 182, 0, 38, 153, 0, 7, 3, 167, 0, 19, 42, 42, 180, 0, 31, 27]
abbrev dktX6_ofWalker_1 : List UInt8 := dkwX6_ofWalker_1 ++ dktX6_ofWalker_2
def dkwX6_ofWalker_0 : List UInt8 := [42, 42, 27, 182, 0, 149, 4, 182, 0, 83, 154, 0, 26, 42, 28, 3, 16, 12, 184, 0, 42, 154, 0, 7]
abbrev dktX6_ofWalker_0 : List UInt8 := dkwX6_ofWalker_0 ++ dktX6_ofWalker_1
theorem dksX6_ofWalker_0 : cX6_ofWalker.data.toList.drop 0 = dktX6_ofWalker_0 := by decide +kernel
theorem dksX6_ofWalker_1 : cX6_ofWalker.data.toList.drop 24 = dktX6_ofWalker_1 := dk_seg dksX6_ofWalker_0 24 rfl rfl
theorem dksX6_ofWalker_2 : cX6_ofWalker.data.toList.drop 46 = dktX6_ofWalker_2 := dk_seg dksX6_ofWalker_1 22 rfl rfl
theorem dX6_ofWalker_0 : decode cX6_ofWalker 0 = .ok (.aload_n 0, 1) := dk_42 (dk_at dksX6_ofWalker_0 0 rfl rfl)
theorem dX6_ofWalker_1 : decode cX6_ofWalker 1 = .ok (.aload_n 0, 1) := dk_42 (dk_at dksX6_ofWalker_0 1 rfl rfl)
theorem dX6_ofWalker_2 : decode cX6_ofWalker 2 = .ok (.iload_n 1, 1) := dk_27 (dk_at dksX6_ofWalker_0 2 rfl rfl)
theorem dX6_ofWalker_3 : decode cX6_ofWalker 3 = .ok (.invokevirtual 149, 3) := dk_182 0 149 (dk_at dksX6_ofWalker_0 3 rfl rfl)
theorem dX6_ofWalker_6 : decode cX6_ofWalker 6 = .ok (.iconst 1, 1) := dk_4 (dk_at dksX6_ofWalker_0 6 rfl rfl)
theorem dX6_ofWalker_7 : decode cX6_ofWalker 7 = .ok (.invokevirtual 83, 3) := dk_182 0 83 (dk_at dksX6_ofWalker_0 7 rfl rfl)
theorem dX6_ofWalker_10 : decode cX6_ofWalker 10 = .ok (.ifCond .ne 26, 3) := dk_154 0 26 (dk_at dksX6_ofWalker_0 10 rfl rfl)
theorem dX6_ofWalker_13 : decode cX6_ofWalker 13 = .ok (.aload_n 0, 1) := dk_42 (dk_at dksX6_ofWalker_0 13 rfl rfl)
theorem dX6_ofWalker_14 : decode cX6_ofWalker 14 = .ok (.iload_n 2, 1) := dk_28 (dk_at dksX6_ofWalker_0 14 rfl rfl)
theorem dX6_ofWalker_15 : decode cX6_ofWalker 15 = .ok (.iconst 0, 1) := dk_3 (dk_at dksX6_ofWalker_0 15 rfl rfl)
theorem dX6_ofWalker_16 : decode cX6_ofWalker 16 = .ok (.bipush 12, 2) := dk_16 12 (dk_at dksX6_ofWalker_0 16 rfl rfl)
theorem dX6_ofWalker_18 : decode cX6_ofWalker 18 = .ok (.invokestatic 42, 3) := dk_184 0 42 (dk_at dksX6_ofWalker_0 18 rfl rfl)
theorem dX6_ofWalker_21 : decode cX6_ofWalker 21 = .ok (.ifCond .ne 7, 3) := dk_154 0 7 (dk_at dksX6_ofWalker_0 21 rfl rfl)
theorem dX6_ofWalker_24 : decode cX6_ofWalker 24 = .ok (.iconst 1, 1) := dk_4 (dk_at dksX6_ofWalker_1 0 rfl rfl)
theorem dX6_ofWalker_25 : decode cX6_ofWalker 25 = .ok (.goto 4, 3) := dk_167 0 4 (dk_at dksX6_ofWalker_1 1 rfl rfl)
theorem dX6_ofWalker_28 : decode cX6_ofWalker 28 = .ok (.iconst 0, 1) := dk_3 (dk_at dksX6_ofWalker_1 4 rfl rfl)
theorem dX6_ofWalker_29 : decode cX6_ofWalker 29 = .ok (.iconst 2, 1) := dk_5 (dk_at dksX6_ofWalker_1 5 rfl rfl)
theorem dX6_ofWalker_30 : decode cX6_ofWalker 30 = .ok (.invokevirtual 38, 3) := dk_182 0 38 (dk_at dksX6_ofWalker_1 6 rfl rfl)
theorem dX6_ofWalker_33 : decode cX6_ofWalker 33 = .ok (.ifCond .eq 7, 3) := dk_153 0 7 (dk_at dksX6_ofWalker_1 9 rfl rfl)
theorem dX6_ofWalker_36 : decode cX6_ofWalker 36 = .ok (.iconst 0, 1) := dk_3 (dk_at dksX6_ofWalker_1 12 rfl rfl)
theorem dX6_ofWalker_37 : decode cX6_ofWalker 37 = .ok (.goto 19, 3) := dk_167 0 19 (dk_at dksX6_ofWalker_1 13 rfl rfl)
theorem dX6_ofWalker_40 : decode cX6_ofWalker 40 = .ok (.aload_n 0, 1) := dk_42 (dk_at dksX6_ofWalker_1 16 rfl rfl)
theorem dX6_ofWalker_41 : decode cX6_ofWalker 41 = .ok (.aload_n 0, 1) := dk_42 (dk_at dksX6_ofWalker_1 17 rfl rfl)
theorem dX6_ofWalker_42 : decode cX6_ofWalker 42 = .ok (.getfield 31, 3) := dk_180 0 31 (dk_at dksX6_ofWalker_1 18 rfl rfl)
theorem dX6_ofWalker_45 : decode cX6_ofWalker 45 = .ok (.iload_n 1, 1) := dk_27 (dk_at dksX6_ofWalker_1 21 rfl rfl)
theorem dX6_ofWalker_46 : decode cX6_ofWalker 46 = .ok (.invokevirtual 152, 3) := dk_182 0 152 (dk_at dksX6_ofWalker_2 0 rfl rfl)
theorem dX6_ofWalker_49 : decode cX6_ofWalker 49 = .ok (.checkcast 72, 3) := dk_192 0 72 (dk_at dksX6_ofWalker_2 3 rfl rfl)
theorem dX6_ofWalker_52 : decode cX6_ofWalker 52 = .ok (.iload_n 2, 1) := dk_28 (dk_at dksX6_ofWalker_2 6 rfl rfl)
theorem dX6_ofWalker_53 : decode cX6_ofWalker 53 = .ok (.invokevirtual 232, 3) := dk_182 0 232 (dk_at dksX6_ofWalker_2 7 rfl rfl)
theorem dX6_ofWalker_56 : decode cX6_ofWalker 56 = .ok (.ireturn, 1) := dk_172 (dk_at dksX6_ofWalker_2 10 rfl rfl)
abbrev cX6_ofWalkerNow : ByteArray := prog_13_method_47_code
def yX6_ofWalkerNow : MethodName := ⟨RX6, "ofWalkerNow", "(LBumpwardModel$Walker;I)I"⟩
def dkwX6_ofWalkerNow_9 : List UInt8 := [180, 0, 172, 79, 89, 16, 12, 43, 180, 0, 169, 79, 58, 6, 25, 6, 28, 46, 172]
abbrev dktX6_ofWalkerNow_9 : List UInt8 := dkwX6_ofWalkerNow_9 ++ []
def dkwX6_ofWalkerNow_8 : List UInt8 := [21, 5, 100, 79, 89, 16, 9, 43, 180, 0, 146, 79, 89, 16, 10, 43, 180, 0, 140, 79, 89, 16, 11, 43]
abbrev dktX6_ofWalkerNow_8 : List UInt8 := dkwX6_ofWalkerNow_8 ++ dktX6_ofWalkerNow_9
def dkwX6_ofWalkerNow_7 : List UInt8 := [89, 8, 29, 79, 89, 16, 6, 21, 4, 79, 89, 16, 7, 21, 5, 79, 89, 16, 8, 29, 21, 4, 96]
abbrev dktX6_ofWalkerNow_7 : List UInt8 := dkwX6_ofWalkerNow_7 ++ dktX6_ofWalkerNow_8
def dkwX6_ofWalkerNow_6 : List UInt8 := [79, 89, 6, 43, 182, 0, 143, 79, 89, 7, 43, 182, 0, 143, 4, 160, 0, 7, 4, 167, 0, 4, 3, 79]
abbrev dktX6_ofWalkerNow_6 : List UInt8 := dkwX6_ofWalkerNow_6 ++ dktX6_ofWalkerNow_7
def dkwX6_ofWalkerNow_5 : List UInt8 := [16, 13, 188, 10, 89, 3, 43, 180, 0, 101, 79, 89, 4, 43, 180, 0, 104, 79, 89, 5, 43, 180, 0, 107]
abbrev dktX6_ofWalkerNow_5 : List UInt8 := dkwX6_ofWalkerNow_5 ++ dktX6_ofWalkerNow_6
def dkwX6_ofWalkerNow_4 : List UInt8 := [160, 0, 7, 4, 167, 0, 4, 3, 96, 54, 5, 132, 7, 1, 167, 255, 168, 132, 6, 1, 167, 255, 152]
abbrev dktX6_ofWalkerNow_4 : List UInt8 := dkwX6_ofWalkerNow_4 ++ dktX6_ofWalkerNow_5
def dkwX6_ofWalkerNow_3 : List UInt8 := [21, 8, 153, 0, 29, 21, 8, 5, 160, 0, 7, 4, 167, 0, 4, 3, 42, 21, 6, 21, 7, 182, 0, 68]
abbrev dktX6_ofWalkerNow_3 : List UInt8 := dkwX6_ofWalkerNow_3 ++ dktX6_ofWalkerNow_4
def dkwX6_ofWalkerNow_2 : List UInt8 := [167, 0, 4, 3, 96, 62, 21, 4, 21, 8, 5, 160, 0, 7, 4, 167, 0, 4, 3, 96, 54, 4, 21, 5]
abbrev dktX6_ofWalkerNow_2 : List UInt8 := dkwX6_ofWalkerNow_2 ++ dktX6_ofWalkerNow_3
def dkwX6_ofWalkerNow_1 : List UInt8 := [162, 0, 88, 43, 180, 0, 71, 21, 6, 50, 21, 7, 46, 54, 8, 29, 21, 8, 4, 160, 0, 7, 4]
abbrev dktX6_ofWalkerNow_1 : List UInt8 := dkwX6_ofWalkerNow_1 ++ dktX6_ofWalkerNow_2
def dkwX6_ofWalkerNow_0 : List UInt8 := [3, 62, 3, 54, 4, 3, 54, 5, 3, 54, 6, 21, 6, 16, 36, 162, 0, 103, 3, 54, 7, 21, 7, 5]
abbrev dktX6_ofWalkerNow_0 : List UInt8 := dkwX6_ofWalkerNow_0 ++ dktX6_ofWalkerNow_1
theorem dksX6_ofWalkerNow_0 : cX6_ofWalkerNow.data.toList.drop 0 = dktX6_ofWalkerNow_0 := by decide +kernel
theorem dksX6_ofWalkerNow_1 : cX6_ofWalkerNow.data.toList.drop 24 = dktX6_ofWalkerNow_1 := dk_seg dksX6_ofWalkerNow_0 24 rfl rfl
theorem dksX6_ofWalkerNow_2 : cX6_ofWalkerNow.data.toList.drop 47 = dktX6_ofWalkerNow_2 := dk_seg dksX6_ofWalkerNow_1 23 rfl rfl
theorem dksX6_ofWalkerNow_3 : cX6_ofWalkerNow.data.toList.drop 71 = dktX6_ofWalkerNow_3 := dk_seg dksX6_ofWalkerNow_2 24 rfl rfl
theorem dksX6_ofWalkerNow_4 : cX6_ofWalkerNow.data.toList.drop 95 = dktX6_ofWalkerNow_4 := dk_seg dksX6_ofWalkerNow_3 24 rfl rfl
theorem dksX6_ofWalkerNow_5 : cX6_ofWalkerNow.data.toList.drop 118 = dktX6_ofWalkerNow_5 := dk_seg dksX6_ofWalkerNow_4 23 rfl rfl
theorem dksX6_ofWalkerNow_6 : cX6_ofWalkerNow.data.toList.drop 142 = dktX6_ofWalkerNow_6 := dk_seg dksX6_ofWalkerNow_5 24 rfl rfl
theorem dksX6_ofWalkerNow_7 : cX6_ofWalkerNow.data.toList.drop 166 = dktX6_ofWalkerNow_7 := dk_seg dksX6_ofWalkerNow_6 24 rfl rfl
theorem dksX6_ofWalkerNow_8 : cX6_ofWalkerNow.data.toList.drop 189 = dktX6_ofWalkerNow_8 := dk_seg dksX6_ofWalkerNow_7 23 rfl rfl
theorem dksX6_ofWalkerNow_9 : cX6_ofWalkerNow.data.toList.drop 213 = dktX6_ofWalkerNow_9 := dk_seg dksX6_ofWalkerNow_8 24 rfl rfl
theorem dX6_ofWalkerNow_0 : decode cX6_ofWalkerNow 0 = .ok (.iconst 0, 1) := dk_3 (dk_at dksX6_ofWalkerNow_0 0 rfl rfl)
theorem dX6_ofWalkerNow_1 : decode cX6_ofWalkerNow 1 = .ok (.istore_n 3, 1) := dk_62 (dk_at dksX6_ofWalkerNow_0 1 rfl rfl)
theorem dX6_ofWalkerNow_2 : decode cX6_ofWalkerNow 2 = .ok (.iconst 0, 1) := dk_3 (dk_at dksX6_ofWalkerNow_0 2 rfl rfl)
theorem dX6_ofWalkerNow_3 : decode cX6_ofWalkerNow 3 = .ok (.istore 4, 2) := dk_54 4 (dk_at dksX6_ofWalkerNow_0 3 rfl rfl)
theorem dX6_ofWalkerNow_5 : decode cX6_ofWalkerNow 5 = .ok (.iconst 0, 1) := dk_3 (dk_at dksX6_ofWalkerNow_0 5 rfl rfl)
theorem dX6_ofWalkerNow_6 : decode cX6_ofWalkerNow 6 = .ok (.istore 5, 2) := dk_54 5 (dk_at dksX6_ofWalkerNow_0 6 rfl rfl)
theorem dX6_ofWalkerNow_8 : decode cX6_ofWalkerNow 8 = .ok (.iconst 0, 1) := dk_3 (dk_at dksX6_ofWalkerNow_0 8 rfl rfl)
theorem dX6_ofWalkerNow_9 : decode cX6_ofWalkerNow 9 = .ok (.istore 6, 2) := dk_54 6 (dk_at dksX6_ofWalkerNow_0 9 rfl rfl)
theorem dX6_ofWalkerNow_11 : decode cX6_ofWalkerNow 11 = .ok (.iload 6, 2) := dk_21 6 (dk_at dksX6_ofWalkerNow_0 11 rfl rfl)
theorem dX6_ofWalkerNow_13 : decode cX6_ofWalkerNow 13 = .ok (.bipush 36, 2) := dk_16 36 (dk_at dksX6_ofWalkerNow_0 13 rfl rfl)
theorem dX6_ofWalkerNow_15 : decode cX6_ofWalkerNow 15 = .ok (.if_icmp .ge 103, 3) := dk_162 0 103 (dk_at dksX6_ofWalkerNow_0 15 rfl rfl)
theorem dX6_ofWalkerNow_18 : decode cX6_ofWalkerNow 18 = .ok (.iconst 0, 1) := dk_3 (dk_at dksX6_ofWalkerNow_0 18 rfl rfl)
theorem dX6_ofWalkerNow_19 : decode cX6_ofWalkerNow 19 = .ok (.istore 7, 2) := dk_54 7 (dk_at dksX6_ofWalkerNow_0 19 rfl rfl)
theorem dX6_ofWalkerNow_21 : decode cX6_ofWalkerNow 21 = .ok (.iload 7, 2) := dk_21 7 (dk_at dksX6_ofWalkerNow_0 21 rfl rfl)
theorem dX6_ofWalkerNow_23 : decode cX6_ofWalkerNow 23 = .ok (.iconst 2, 1) := dk_5 (dk_at dksX6_ofWalkerNow_0 23 rfl rfl)
theorem dX6_ofWalkerNow_24 : decode cX6_ofWalkerNow 24 = .ok (.if_icmp .ge 88, 3) := dk_162 0 88 (dk_at dksX6_ofWalkerNow_1 0 rfl rfl)
theorem dX6_ofWalkerNow_27 : decode cX6_ofWalkerNow 27 = .ok (.aload_n 1, 1) := dk_43 (dk_at dksX6_ofWalkerNow_1 3 rfl rfl)
theorem dX6_ofWalkerNow_28 : decode cX6_ofWalkerNow 28 = .ok (.getfield 71, 3) := dk_180 0 71 (dk_at dksX6_ofWalkerNow_1 4 rfl rfl)
theorem dX6_ofWalkerNow_31 : decode cX6_ofWalkerNow 31 = .ok (.iload 6, 2) := dk_21 6 (dk_at dksX6_ofWalkerNow_1 7 rfl rfl)
theorem dX6_ofWalkerNow_33 : decode cX6_ofWalkerNow 33 = .ok (.aaload, 1) := dk_50 (dk_at dksX6_ofWalkerNow_1 9 rfl rfl)
theorem dX6_ofWalkerNow_34 : decode cX6_ofWalkerNow 34 = .ok (.iload 7, 2) := dk_21 7 (dk_at dksX6_ofWalkerNow_1 10 rfl rfl)
theorem dX6_ofWalkerNow_36 : decode cX6_ofWalkerNow 36 = .ok (.iaload, 1) := dk_46 (dk_at dksX6_ofWalkerNow_1 12 rfl rfl)
theorem dX6_ofWalkerNow_37 : decode cX6_ofWalkerNow 37 = .ok (.istore 8, 2) := dk_54 8 (dk_at dksX6_ofWalkerNow_1 13 rfl rfl)
theorem dX6_ofWalkerNow_39 : decode cX6_ofWalkerNow 39 = .ok (.iload_n 3, 1) := dk_29 (dk_at dksX6_ofWalkerNow_1 15 rfl rfl)
theorem dX6_ofWalkerNow_40 : decode cX6_ofWalkerNow 40 = .ok (.iload 8, 2) := dk_21 8 (dk_at dksX6_ofWalkerNow_1 16 rfl rfl)
theorem dX6_ofWalkerNow_42 : decode cX6_ofWalkerNow 42 = .ok (.iconst 1, 1) := dk_4 (dk_at dksX6_ofWalkerNow_1 18 rfl rfl)
theorem dX6_ofWalkerNow_43 : decode cX6_ofWalkerNow 43 = .ok (.if_icmp .ne 7, 3) := dk_160 0 7 (dk_at dksX6_ofWalkerNow_1 19 rfl rfl)
theorem dX6_ofWalkerNow_46 : decode cX6_ofWalkerNow 46 = .ok (.iconst 1, 1) := dk_4 (dk_at dksX6_ofWalkerNow_1 22 rfl rfl)
theorem dX6_ofWalkerNow_47 : decode cX6_ofWalkerNow 47 = .ok (.goto 4, 3) := dk_167 0 4 (dk_at dksX6_ofWalkerNow_2 0 rfl rfl)
theorem dX6_ofWalkerNow_50 : decode cX6_ofWalkerNow 50 = .ok (.iconst 0, 1) := dk_3 (dk_at dksX6_ofWalkerNow_2 3 rfl rfl)
theorem dX6_ofWalkerNow_51 : decode cX6_ofWalkerNow 51 = .ok (.iadd, 1) := dk_96 (dk_at dksX6_ofWalkerNow_2 4 rfl rfl)
theorem dX6_ofWalkerNow_52 : decode cX6_ofWalkerNow 52 = .ok (.istore_n 3, 1) := dk_62 (dk_at dksX6_ofWalkerNow_2 5 rfl rfl)
theorem dX6_ofWalkerNow_53 : decode cX6_ofWalkerNow 53 = .ok (.iload 4, 2) := dk_21 4 (dk_at dksX6_ofWalkerNow_2 6 rfl rfl)
theorem dX6_ofWalkerNow_55 : decode cX6_ofWalkerNow 55 = .ok (.iload 8, 2) := dk_21 8 (dk_at dksX6_ofWalkerNow_2 8 rfl rfl)
theorem dX6_ofWalkerNow_57 : decode cX6_ofWalkerNow 57 = .ok (.iconst 2, 1) := dk_5 (dk_at dksX6_ofWalkerNow_2 10 rfl rfl)
theorem dX6_ofWalkerNow_58 : decode cX6_ofWalkerNow 58 = .ok (.if_icmp .ne 7, 3) := dk_160 0 7 (dk_at dksX6_ofWalkerNow_2 11 rfl rfl)
theorem dX6_ofWalkerNow_61 : decode cX6_ofWalkerNow 61 = .ok (.iconst 1, 1) := dk_4 (dk_at dksX6_ofWalkerNow_2 14 rfl rfl)
theorem dX6_ofWalkerNow_62 : decode cX6_ofWalkerNow 62 = .ok (.goto 4, 3) := dk_167 0 4 (dk_at dksX6_ofWalkerNow_2 15 rfl rfl)
theorem dX6_ofWalkerNow_65 : decode cX6_ofWalkerNow 65 = .ok (.iconst 0, 1) := dk_3 (dk_at dksX6_ofWalkerNow_2 18 rfl rfl)
theorem dX6_ofWalkerNow_66 : decode cX6_ofWalkerNow 66 = .ok (.iadd, 1) := dk_96 (dk_at dksX6_ofWalkerNow_2 19 rfl rfl)
theorem dX6_ofWalkerNow_67 : decode cX6_ofWalkerNow 67 = .ok (.istore 4, 2) := dk_54 4 (dk_at dksX6_ofWalkerNow_2 20 rfl rfl)
theorem dX6_ofWalkerNow_69 : decode cX6_ofWalkerNow 69 = .ok (.iload 5, 2) := dk_21 5 (dk_at dksX6_ofWalkerNow_2 22 rfl rfl)
theorem dX6_ofWalkerNow_71 : decode cX6_ofWalkerNow 71 = .ok (.iload 8, 2) := dk_21 8 (dk_at dksX6_ofWalkerNow_3 0 rfl rfl)
theorem dX6_ofWalkerNow_73 : decode cX6_ofWalkerNow 73 = .ok (.ifCond .eq 29, 3) := dk_153 0 29 (dk_at dksX6_ofWalkerNow_3 2 rfl rfl)
theorem dX6_ofWalkerNow_76 : decode cX6_ofWalkerNow 76 = .ok (.iload 8, 2) := dk_21 8 (dk_at dksX6_ofWalkerNow_3 5 rfl rfl)
theorem dX6_ofWalkerNow_78 : decode cX6_ofWalkerNow 78 = .ok (.iconst 2, 1) := dk_5 (dk_at dksX6_ofWalkerNow_3 7 rfl rfl)
theorem dX6_ofWalkerNow_79 : decode cX6_ofWalkerNow 79 = .ok (.if_icmp .ne 7, 3) := dk_160 0 7 (dk_at dksX6_ofWalkerNow_3 8 rfl rfl)
theorem dX6_ofWalkerNow_82 : decode cX6_ofWalkerNow 82 = .ok (.iconst 1, 1) := dk_4 (dk_at dksX6_ofWalkerNow_3 11 rfl rfl)
theorem dX6_ofWalkerNow_83 : decode cX6_ofWalkerNow 83 = .ok (.goto 4, 3) := dk_167 0 4 (dk_at dksX6_ofWalkerNow_3 12 rfl rfl)
theorem dX6_ofWalkerNow_86 : decode cX6_ofWalkerNow 86 = .ok (.iconst 0, 1) := dk_3 (dk_at dksX6_ofWalkerNow_3 15 rfl rfl)
theorem dX6_ofWalkerNow_87 : decode cX6_ofWalkerNow 87 = .ok (.aload_n 0, 1) := dk_42 (dk_at dksX6_ofWalkerNow_3 16 rfl rfl)
theorem dX6_ofWalkerNow_88 : decode cX6_ofWalkerNow 88 = .ok (.iload 6, 2) := dk_21 6 (dk_at dksX6_ofWalkerNow_3 17 rfl rfl)
theorem dX6_ofWalkerNow_90 : decode cX6_ofWalkerNow 90 = .ok (.iload 7, 2) := dk_21 7 (dk_at dksX6_ofWalkerNow_3 19 rfl rfl)
theorem dX6_ofWalkerNow_92 : decode cX6_ofWalkerNow 92 = .ok (.invokevirtual 68, 3) := dk_182 0 68 (dk_at dksX6_ofWalkerNow_3 21 rfl rfl)
theorem dX6_ofWalkerNow_95 : decode cX6_ofWalkerNow 95 = .ok (.if_icmp .ne 7, 3) := dk_160 0 7 (dk_at dksX6_ofWalkerNow_4 0 rfl rfl)
theorem dX6_ofWalkerNow_98 : decode cX6_ofWalkerNow 98 = .ok (.iconst 1, 1) := dk_4 (dk_at dksX6_ofWalkerNow_4 3 rfl rfl)
theorem dX6_ofWalkerNow_99 : decode cX6_ofWalkerNow 99 = .ok (.goto 4, 3) := dk_167 0 4 (dk_at dksX6_ofWalkerNow_4 4 rfl rfl)
theorem dX6_ofWalkerNow_102 : decode cX6_ofWalkerNow 102 = .ok (.iconst 0, 1) := dk_3 (dk_at dksX6_ofWalkerNow_4 7 rfl rfl)
theorem dX6_ofWalkerNow_103 : decode cX6_ofWalkerNow 103 = .ok (.iadd, 1) := dk_96 (dk_at dksX6_ofWalkerNow_4 8 rfl rfl)
theorem dX6_ofWalkerNow_104 : decode cX6_ofWalkerNow 104 = .ok (.istore 5, 2) := dk_54 5 (dk_at dksX6_ofWalkerNow_4 9 rfl rfl)
theorem dX6_ofWalkerNow_106 : decode cX6_ofWalkerNow 106 = .ok (.iinc 7 1, 3) := dk_132 7 1 (dk_at dksX6_ofWalkerNow_4 11 rfl rfl)
theorem dX6_ofWalkerNow_109 : decode cX6_ofWalkerNow 109 = .ok (.goto (-88), 3) := dk_167 255 168 (dk_at dksX6_ofWalkerNow_4 14 rfl rfl)
theorem dX6_ofWalkerNow_112 : decode cX6_ofWalkerNow 112 = .ok (.iinc 6 1, 3) := dk_132 6 1 (dk_at dksX6_ofWalkerNow_4 17 rfl rfl)
theorem dX6_ofWalkerNow_115 : decode cX6_ofWalkerNow 115 = .ok (.goto (-104), 3) := dk_167 255 152 (dk_at dksX6_ofWalkerNow_4 20 rfl rfl)
theorem dX6_ofWalkerNow_118 : decode cX6_ofWalkerNow 118 = .ok (.bipush 13, 2) := dk_16 13 (dk_at dksX6_ofWalkerNow_5 0 rfl rfl)
theorem dX6_ofWalkerNow_120 : decode cX6_ofWalkerNow 120 = .ok (.newarray .int, 2) := dk_188_10 (dk_at dksX6_ofWalkerNow_5 2 rfl rfl)
theorem dX6_ofWalkerNow_122 : decode cX6_ofWalkerNow 122 = .ok (.dup, 1) := dk_89 (dk_at dksX6_ofWalkerNow_5 4 rfl rfl)
theorem dX6_ofWalkerNow_123 : decode cX6_ofWalkerNow 123 = .ok (.iconst 0, 1) := dk_3 (dk_at dksX6_ofWalkerNow_5 5 rfl rfl)
theorem dX6_ofWalkerNow_124 : decode cX6_ofWalkerNow 124 = .ok (.aload_n 1, 1) := dk_43 (dk_at dksX6_ofWalkerNow_5 6 rfl rfl)
theorem dX6_ofWalkerNow_125 : decode cX6_ofWalkerNow 125 = .ok (.getfield 101, 3) := dk_180 0 101 (dk_at dksX6_ofWalkerNow_5 7 rfl rfl)
theorem dX6_ofWalkerNow_128 : decode cX6_ofWalkerNow 128 = .ok (.iastore, 1) := dk_79 (dk_at dksX6_ofWalkerNow_5 10 rfl rfl)
theorem dX6_ofWalkerNow_129 : decode cX6_ofWalkerNow 129 = .ok (.dup, 1) := dk_89 (dk_at dksX6_ofWalkerNow_5 11 rfl rfl)
theorem dX6_ofWalkerNow_130 : decode cX6_ofWalkerNow 130 = .ok (.iconst 1, 1) := dk_4 (dk_at dksX6_ofWalkerNow_5 12 rfl rfl)
theorem dX6_ofWalkerNow_131 : decode cX6_ofWalkerNow 131 = .ok (.aload_n 1, 1) := dk_43 (dk_at dksX6_ofWalkerNow_5 13 rfl rfl)
theorem dX6_ofWalkerNow_132 : decode cX6_ofWalkerNow 132 = .ok (.getfield 104, 3) := dk_180 0 104 (dk_at dksX6_ofWalkerNow_5 14 rfl rfl)
theorem dX6_ofWalkerNow_135 : decode cX6_ofWalkerNow 135 = .ok (.iastore, 1) := dk_79 (dk_at dksX6_ofWalkerNow_5 17 rfl rfl)
theorem dX6_ofWalkerNow_136 : decode cX6_ofWalkerNow 136 = .ok (.dup, 1) := dk_89 (dk_at dksX6_ofWalkerNow_5 18 rfl rfl)
theorem dX6_ofWalkerNow_137 : decode cX6_ofWalkerNow 137 = .ok (.iconst 2, 1) := dk_5 (dk_at dksX6_ofWalkerNow_5 19 rfl rfl)
theorem dX6_ofWalkerNow_138 : decode cX6_ofWalkerNow 138 = .ok (.aload_n 1, 1) := dk_43 (dk_at dksX6_ofWalkerNow_5 20 rfl rfl)
theorem dX6_ofWalkerNow_139 : decode cX6_ofWalkerNow 139 = .ok (.getfield 107, 3) := dk_180 0 107 (dk_at dksX6_ofWalkerNow_5 21 rfl rfl)
theorem dX6_ofWalkerNow_142 : decode cX6_ofWalkerNow 142 = .ok (.iastore, 1) := dk_79 (dk_at dksX6_ofWalkerNow_6 0 rfl rfl)
theorem dX6_ofWalkerNow_143 : decode cX6_ofWalkerNow 143 = .ok (.dup, 1) := dk_89 (dk_at dksX6_ofWalkerNow_6 1 rfl rfl)
theorem dX6_ofWalkerNow_144 : decode cX6_ofWalkerNow 144 = .ok (.iconst 3, 1) := dk_6 (dk_at dksX6_ofWalkerNow_6 2 rfl rfl)
theorem dX6_ofWalkerNow_145 : decode cX6_ofWalkerNow 145 = .ok (.aload_n 1, 1) := dk_43 (dk_at dksX6_ofWalkerNow_6 3 rfl rfl)
theorem dX6_ofWalkerNow_146 : decode cX6_ofWalkerNow 146 = .ok (.invokevirtual 143, 3) := dk_182 0 143 (dk_at dksX6_ofWalkerNow_6 4 rfl rfl)
theorem dX6_ofWalkerNow_149 : decode cX6_ofWalkerNow 149 = .ok (.iastore, 1) := dk_79 (dk_at dksX6_ofWalkerNow_6 7 rfl rfl)
theorem dX6_ofWalkerNow_150 : decode cX6_ofWalkerNow 150 = .ok (.dup, 1) := dk_89 (dk_at dksX6_ofWalkerNow_6 8 rfl rfl)
theorem dX6_ofWalkerNow_151 : decode cX6_ofWalkerNow 151 = .ok (.iconst 4, 1) := dk_7 (dk_at dksX6_ofWalkerNow_6 9 rfl rfl)
theorem dX6_ofWalkerNow_152 : decode cX6_ofWalkerNow 152 = .ok (.aload_n 1, 1) := dk_43 (dk_at dksX6_ofWalkerNow_6 10 rfl rfl)
theorem dX6_ofWalkerNow_153 : decode cX6_ofWalkerNow 153 = .ok (.invokevirtual 143, 3) := dk_182 0 143 (dk_at dksX6_ofWalkerNow_6 11 rfl rfl)
theorem dX6_ofWalkerNow_156 : decode cX6_ofWalkerNow 156 = .ok (.iconst 1, 1) := dk_4 (dk_at dksX6_ofWalkerNow_6 14 rfl rfl)
theorem dX6_ofWalkerNow_157 : decode cX6_ofWalkerNow 157 = .ok (.if_icmp .ne 7, 3) := dk_160 0 7 (dk_at dksX6_ofWalkerNow_6 15 rfl rfl)
theorem dX6_ofWalkerNow_160 : decode cX6_ofWalkerNow 160 = .ok (.iconst 1, 1) := dk_4 (dk_at dksX6_ofWalkerNow_6 18 rfl rfl)
theorem dX6_ofWalkerNow_161 : decode cX6_ofWalkerNow 161 = .ok (.goto 4, 3) := dk_167 0 4 (dk_at dksX6_ofWalkerNow_6 19 rfl rfl)
theorem dX6_ofWalkerNow_164 : decode cX6_ofWalkerNow 164 = .ok (.iconst 0, 1) := dk_3 (dk_at dksX6_ofWalkerNow_6 22 rfl rfl)
theorem dX6_ofWalkerNow_165 : decode cX6_ofWalkerNow 165 = .ok (.iastore, 1) := dk_79 (dk_at dksX6_ofWalkerNow_6 23 rfl rfl)
theorem dX6_ofWalkerNow_166 : decode cX6_ofWalkerNow 166 = .ok (.dup, 1) := dk_89 (dk_at dksX6_ofWalkerNow_7 0 rfl rfl)
theorem dX6_ofWalkerNow_167 : decode cX6_ofWalkerNow 167 = .ok (.iconst 5, 1) := dk_8 (dk_at dksX6_ofWalkerNow_7 1 rfl rfl)
theorem dX6_ofWalkerNow_168 : decode cX6_ofWalkerNow 168 = .ok (.iload_n 3, 1) := dk_29 (dk_at dksX6_ofWalkerNow_7 2 rfl rfl)
theorem dX6_ofWalkerNow_169 : decode cX6_ofWalkerNow 169 = .ok (.iastore, 1) := dk_79 (dk_at dksX6_ofWalkerNow_7 3 rfl rfl)
theorem dX6_ofWalkerNow_170 : decode cX6_ofWalkerNow 170 = .ok (.dup, 1) := dk_89 (dk_at dksX6_ofWalkerNow_7 4 rfl rfl)
theorem dX6_ofWalkerNow_171 : decode cX6_ofWalkerNow 171 = .ok (.bipush 6, 2) := dk_16 6 (dk_at dksX6_ofWalkerNow_7 5 rfl rfl)
theorem dX6_ofWalkerNow_173 : decode cX6_ofWalkerNow 173 = .ok (.iload 4, 2) := dk_21 4 (dk_at dksX6_ofWalkerNow_7 7 rfl rfl)
theorem dX6_ofWalkerNow_175 : decode cX6_ofWalkerNow 175 = .ok (.iastore, 1) := dk_79 (dk_at dksX6_ofWalkerNow_7 9 rfl rfl)
theorem dX6_ofWalkerNow_176 : decode cX6_ofWalkerNow 176 = .ok (.dup, 1) := dk_89 (dk_at dksX6_ofWalkerNow_7 10 rfl rfl)
theorem dX6_ofWalkerNow_177 : decode cX6_ofWalkerNow 177 = .ok (.bipush 7, 2) := dk_16 7 (dk_at dksX6_ofWalkerNow_7 11 rfl rfl)
theorem dX6_ofWalkerNow_179 : decode cX6_ofWalkerNow 179 = .ok (.iload 5, 2) := dk_21 5 (dk_at dksX6_ofWalkerNow_7 13 rfl rfl)
theorem dX6_ofWalkerNow_181 : decode cX6_ofWalkerNow 181 = .ok (.iastore, 1) := dk_79 (dk_at dksX6_ofWalkerNow_7 15 rfl rfl)
theorem dX6_ofWalkerNow_182 : decode cX6_ofWalkerNow 182 = .ok (.dup, 1) := dk_89 (dk_at dksX6_ofWalkerNow_7 16 rfl rfl)
theorem dX6_ofWalkerNow_183 : decode cX6_ofWalkerNow 183 = .ok (.bipush 8, 2) := dk_16 8 (dk_at dksX6_ofWalkerNow_7 17 rfl rfl)
theorem dX6_ofWalkerNow_185 : decode cX6_ofWalkerNow 185 = .ok (.iload_n 3, 1) := dk_29 (dk_at dksX6_ofWalkerNow_7 19 rfl rfl)
theorem dX6_ofWalkerNow_186 : decode cX6_ofWalkerNow 186 = .ok (.iload 4, 2) := dk_21 4 (dk_at dksX6_ofWalkerNow_7 20 rfl rfl)
theorem dX6_ofWalkerNow_188 : decode cX6_ofWalkerNow 188 = .ok (.iadd, 1) := dk_96 (dk_at dksX6_ofWalkerNow_7 22 rfl rfl)
theorem dX6_ofWalkerNow_189 : decode cX6_ofWalkerNow 189 = .ok (.iload 5, 2) := dk_21 5 (dk_at dksX6_ofWalkerNow_8 0 rfl rfl)
theorem dX6_ofWalkerNow_191 : decode cX6_ofWalkerNow 191 = .ok (.isub, 1) := dk_100 (dk_at dksX6_ofWalkerNow_8 2 rfl rfl)
theorem dX6_ofWalkerNow_192 : decode cX6_ofWalkerNow 192 = .ok (.iastore, 1) := dk_79 (dk_at dksX6_ofWalkerNow_8 3 rfl rfl)
theorem dX6_ofWalkerNow_193 : decode cX6_ofWalkerNow 193 = .ok (.dup, 1) := dk_89 (dk_at dksX6_ofWalkerNow_8 4 rfl rfl)
theorem dX6_ofWalkerNow_194 : decode cX6_ofWalkerNow 194 = .ok (.bipush 9, 2) := dk_16 9 (dk_at dksX6_ofWalkerNow_8 5 rfl rfl)
theorem dX6_ofWalkerNow_196 : decode cX6_ofWalkerNow 196 = .ok (.aload_n 1, 1) := dk_43 (dk_at dksX6_ofWalkerNow_8 7 rfl rfl)
theorem dX6_ofWalkerNow_197 : decode cX6_ofWalkerNow 197 = .ok (.getfield 146, 3) := dk_180 0 146 (dk_at dksX6_ofWalkerNow_8 8 rfl rfl)
theorem dX6_ofWalkerNow_200 : decode cX6_ofWalkerNow 200 = .ok (.iastore, 1) := dk_79 (dk_at dksX6_ofWalkerNow_8 11 rfl rfl)
theorem dX6_ofWalkerNow_201 : decode cX6_ofWalkerNow 201 = .ok (.dup, 1) := dk_89 (dk_at dksX6_ofWalkerNow_8 12 rfl rfl)
theorem dX6_ofWalkerNow_202 : decode cX6_ofWalkerNow 202 = .ok (.bipush 10, 2) := dk_16 10 (dk_at dksX6_ofWalkerNow_8 13 rfl rfl)
theorem dX6_ofWalkerNow_204 : decode cX6_ofWalkerNow 204 = .ok (.aload_n 1, 1) := dk_43 (dk_at dksX6_ofWalkerNow_8 15 rfl rfl)
theorem dX6_ofWalkerNow_205 : decode cX6_ofWalkerNow 205 = .ok (.getfield 140, 3) := dk_180 0 140 (dk_at dksX6_ofWalkerNow_8 16 rfl rfl)
theorem dX6_ofWalkerNow_208 : decode cX6_ofWalkerNow 208 = .ok (.iastore, 1) := dk_79 (dk_at dksX6_ofWalkerNow_8 19 rfl rfl)
theorem dX6_ofWalkerNow_209 : decode cX6_ofWalkerNow 209 = .ok (.dup, 1) := dk_89 (dk_at dksX6_ofWalkerNow_8 20 rfl rfl)
theorem dX6_ofWalkerNow_210 : decode cX6_ofWalkerNow 210 = .ok (.bipush 11, 2) := dk_16 11 (dk_at dksX6_ofWalkerNow_8 21 rfl rfl)
theorem dX6_ofWalkerNow_212 : decode cX6_ofWalkerNow 212 = .ok (.aload_n 1, 1) := dk_43 (dk_at dksX6_ofWalkerNow_8 23 rfl rfl)
theorem dX6_ofWalkerNow_213 : decode cX6_ofWalkerNow 213 = .ok (.getfield 172, 3) := dk_180 0 172 (dk_at dksX6_ofWalkerNow_9 0 rfl rfl)
theorem dX6_ofWalkerNow_216 : decode cX6_ofWalkerNow 216 = .ok (.iastore, 1) := dk_79 (dk_at dksX6_ofWalkerNow_9 3 rfl rfl)
theorem dX6_ofWalkerNow_217 : decode cX6_ofWalkerNow 217 = .ok (.dup, 1) := dk_89 (dk_at dksX6_ofWalkerNow_9 4 rfl rfl)
theorem dX6_ofWalkerNow_218 : decode cX6_ofWalkerNow 218 = .ok (.bipush 12, 2) := dk_16 12 (dk_at dksX6_ofWalkerNow_9 5 rfl rfl)
theorem dX6_ofWalkerNow_220 : decode cX6_ofWalkerNow 220 = .ok (.aload_n 1, 1) := dk_43 (dk_at dksX6_ofWalkerNow_9 7 rfl rfl)
theorem dX6_ofWalkerNow_221 : decode cX6_ofWalkerNow 221 = .ok (.getfield 169, 3) := dk_180 0 169 (dk_at dksX6_ofWalkerNow_9 8 rfl rfl)
theorem dX6_ofWalkerNow_224 : decode cX6_ofWalkerNow 224 = .ok (.iastore, 1) := dk_79 (dk_at dksX6_ofWalkerNow_9 11 rfl rfl)
theorem dX6_ofWalkerNow_225 : decode cX6_ofWalkerNow 225 = .ok (.astore 6, 2) := dk_58 6 (dk_at dksX6_ofWalkerNow_9 12 rfl rfl)
theorem dX6_ofWalkerNow_227 : decode cX6_ofWalkerNow 227 = .ok (.aload 6, 2) := dk_25 6 (dk_at dksX6_ofWalkerNow_9 14 rfl rfl)
theorem dX6_ofWalkerNow_229 : decode cX6_ofWalkerNow 229 = .ok (.iload_n 2, 1) := dk_28 (dk_at dksX6_ofWalkerNow_9 16 rfl rfl)
theorem dX6_ofWalkerNow_230 : decode cX6_ofWalkerNow 230 = .ok (.iaload, 1) := dk_46 (dk_at dksX6_ofWalkerNow_9 17 rfl rfl)
theorem dX6_ofWalkerNow_231 : decode cX6_ofWalkerNow 231 = .ok (.ireturn, 1) := dk_172 (dk_at dksX6_ofWalkerNow_9 18 rfl rfl)
abbrev cX6_house : ByteArray := prog_13_method_50_code
def yX6_house : MethodName := ⟨RX6, "house", "(I)I"⟩
def dkwX6_house_1 : List UInt8 := [167, 0, 8, 42, 27, 182, 0, 236, 172]
abbrev dktX6_house_1 : List UInt8 := dkwX6_house_1 ++ []
def dkwX6_house_0 : List UInt8 := [42, 27, 3, 16, 11, 184, 0, 42, 154, 0, 7, 4, 167, 0, 4, 3, 4, 182, 0, 83, 153, 0, 7, 3]
abbrev dktX6_house_0 : List UInt8 := dkwX6_house_0 ++ dktX6_house_1
theorem dksX6_house_0 : cX6_house.data.toList.drop 0 = dktX6_house_0 := by decide +kernel
theorem dksX6_house_1 : cX6_house.data.toList.drop 24 = dktX6_house_1 := dk_seg dksX6_house_0 24 rfl rfl
theorem dX6_house_0 : decode cX6_house 0 = .ok (.aload_n 0, 1) := dk_42 (dk_at dksX6_house_0 0 rfl rfl)
theorem dX6_house_1 : decode cX6_house 1 = .ok (.iload_n 1, 1) := dk_27 (dk_at dksX6_house_0 1 rfl rfl)
theorem dX6_house_2 : decode cX6_house 2 = .ok (.iconst 0, 1) := dk_3 (dk_at dksX6_house_0 2 rfl rfl)
theorem dX6_house_3 : decode cX6_house 3 = .ok (.bipush 11, 2) := dk_16 11 (dk_at dksX6_house_0 3 rfl rfl)
theorem dX6_house_5 : decode cX6_house 5 = .ok (.invokestatic 42, 3) := dk_184 0 42 (dk_at dksX6_house_0 5 rfl rfl)
theorem dX6_house_8 : decode cX6_house 8 = .ok (.ifCond .ne 7, 3) := dk_154 0 7 (dk_at dksX6_house_0 8 rfl rfl)
theorem dX6_house_11 : decode cX6_house 11 = .ok (.iconst 1, 1) := dk_4 (dk_at dksX6_house_0 11 rfl rfl)
theorem dX6_house_12 : decode cX6_house 12 = .ok (.goto 4, 3) := dk_167 0 4 (dk_at dksX6_house_0 12 rfl rfl)
theorem dX6_house_15 : decode cX6_house 15 = .ok (.iconst 0, 1) := dk_3 (dk_at dksX6_house_0 15 rfl rfl)
theorem dX6_house_16 : decode cX6_house 16 = .ok (.iconst 1, 1) := dk_4 (dk_at dksX6_house_0 16 rfl rfl)
theorem dX6_house_17 : decode cX6_house 17 = .ok (.invokevirtual 83, 3) := dk_182 0 83 (dk_at dksX6_house_0 17 rfl rfl)
theorem dX6_house_20 : decode cX6_house 20 = .ok (.ifCond .eq 7, 3) := dk_153 0 7 (dk_at dksX6_house_0 20 rfl rfl)
theorem dX6_house_23 : decode cX6_house 23 = .ok (.iconst 0, 1) := dk_3 (dk_at dksX6_house_0 23 rfl rfl)
theorem dX6_house_24 : decode cX6_house 24 = .ok (.goto 8, 3) := dk_167 0 8 (dk_at dksX6_house_1 0 rfl rfl)
theorem dX6_house_27 : decode cX6_house 27 = .ok (.aload_n 0, 1) := dk_42 (dk_at dksX6_house_1 3 rfl rfl)
theorem dX6_house_28 : decode cX6_house 28 = .ok (.iload_n 1, 1) := dk_27 (dk_at dksX6_house_1 4 rfl rfl)
theorem dX6_house_29 : decode cX6_house 29 = .ok (.invokevirtual 236, 3) := dk_182 0 236 (dk_at dksX6_house_1 5 rfl rfl)
theorem dX6_house_32 : decode cX6_house 32 = .ok (.ireturn, 1) := dk_172 (dk_at dksX6_house_1 8 rfl rfl)
abbrev cX6_houseNow : ByteArray := prog_13_method_49_code
def yX6_houseNow : MethodName := ⟨RX6, "houseNow", "(I)I"⟩
def dkwX6_houseNow_7 : List UInt8 := [180, 0, 225, 79, 78, 45, 27, 46, 172]
abbrev dktX6_houseNow_7 : List UInt8 := dkwX6_houseNow_7 ++ []
def dkwX6_houseNow_6 : List UInt8 := [180, 0, 166, 79, 89, 16, 9, 42, 180, 0, 222, 79, 89, 16, 10, 42, 180, 0, 219, 79, 89, 16, 11, 42]
abbrev dktX6_houseNow_6 : List UInt8 := dkwX6_houseNow_6 ++ dktX6_houseNow_7
def dkwX6_houseNow_5 : List UInt8 := [180, 0, 25, 184, 0, 93, 79, 89, 16, 7, 42, 180, 0, 31, 182, 0, 46, 79, 89, 16, 8, 42]
abbrev dktX6_houseNow_5 : List UInt8 := dkwX6_houseNow_5 ++ dktX6_houseNow_6
def dkwX6_houseNow_4 : List UInt8 := [42, 5, 182, 0, 90, 79, 89, 7, 28, 79, 89, 8, 42, 180, 0, 21, 184, 0, 93, 79, 89, 16, 6, 42]
abbrev dktX6_houseNow_4 : List UInt8 := dkwX6_houseNow_4 ++ dktX6_houseNow_5
def dkwX6_houseNow_3 : List UInt8 := [79, 89, 4, 42, 180, 0, 54, 16, 60, 108, 16, 24, 112, 79, 89, 5, 42, 4, 182, 0, 90, 79, 89, 6]
abbrev dktX6_houseNow_3 : List UInt8 := dkwX6_houseNow_3 ++ dktX6_houseNow_4
def dkwX6_houseNow_2 : List UInt8 := [96, 61, 132, 4, 1, 167, 255, 216, 132, 3, 1, 167, 255, 201, 16, 12, 188, 10, 89, 3, 42, 180, 0, 54]
abbrev dktX6_houseNow_2 : List UInt8 := dkwX6_houseNow_2 ++ dktX6_houseNow_3
def dkwX6_houseNow_1 : List UInt8 := [29, 50, 21, 4, 46, 5, 160, 0, 17, 42, 29, 21, 4, 182, 0, 57, 153, 0, 7, 4, 167, 0, 4, 3]
abbrev dktX6_houseNow_1 : List UInt8 := dkwX6_houseNow_1 ++ dktX6_houseNow_2
def dkwX6_houseNow_0 : List UInt8 := [3, 61, 3, 62, 29, 16, 36, 162, 0, 55, 3, 54, 4, 21, 4, 5, 162, 0, 40, 28, 42, 180, 0, 15]
abbrev dktX6_houseNow_0 : List UInt8 := dkwX6_houseNow_0 ++ dktX6_houseNow_1
theorem dksX6_houseNow_0 : cX6_houseNow.data.toList.drop 0 = dktX6_houseNow_0 := by decide +kernel
theorem dksX6_houseNow_1 : cX6_houseNow.data.toList.drop 24 = dktX6_houseNow_1 := dk_seg dksX6_houseNow_0 24 rfl rfl
theorem dksX6_houseNow_2 : cX6_houseNow.data.toList.drop 48 = dktX6_houseNow_2 := dk_seg dksX6_houseNow_1 24 rfl rfl
theorem dksX6_houseNow_3 : cX6_houseNow.data.toList.drop 72 = dktX6_houseNow_3 := dk_seg dksX6_houseNow_2 24 rfl rfl
theorem dksX6_houseNow_4 : cX6_houseNow.data.toList.drop 96 = dktX6_houseNow_4 := dk_seg dksX6_houseNow_3 24 rfl rfl
theorem dksX6_houseNow_5 : cX6_houseNow.data.toList.drop 120 = dktX6_houseNow_5 := dk_seg dksX6_houseNow_4 24 rfl rfl
theorem dksX6_houseNow_6 : cX6_houseNow.data.toList.drop 142 = dktX6_houseNow_6 := dk_seg dksX6_houseNow_5 22 rfl rfl
theorem dksX6_houseNow_7 : cX6_houseNow.data.toList.drop 166 = dktX6_houseNow_7 := dk_seg dksX6_houseNow_6 24 rfl rfl
theorem dX6_houseNow_0 : decode cX6_houseNow 0 = .ok (.iconst 0, 1) := dk_3 (dk_at dksX6_houseNow_0 0 rfl rfl)
theorem dX6_houseNow_1 : decode cX6_houseNow 1 = .ok (.istore_n 2, 1) := dk_61 (dk_at dksX6_houseNow_0 1 rfl rfl)
theorem dX6_houseNow_2 : decode cX6_houseNow 2 = .ok (.iconst 0, 1) := dk_3 (dk_at dksX6_houseNow_0 2 rfl rfl)
theorem dX6_houseNow_3 : decode cX6_houseNow 3 = .ok (.istore_n 3, 1) := dk_62 (dk_at dksX6_houseNow_0 3 rfl rfl)
theorem dX6_houseNow_4 : decode cX6_houseNow 4 = .ok (.iload_n 3, 1) := dk_29 (dk_at dksX6_houseNow_0 4 rfl rfl)
theorem dX6_houseNow_5 : decode cX6_houseNow 5 = .ok (.bipush 36, 2) := dk_16 36 (dk_at dksX6_houseNow_0 5 rfl rfl)
theorem dX6_houseNow_7 : decode cX6_houseNow 7 = .ok (.if_icmp .ge 55, 3) := dk_162 0 55 (dk_at dksX6_houseNow_0 7 rfl rfl)
theorem dX6_houseNow_10 : decode cX6_houseNow 10 = .ok (.iconst 0, 1) := dk_3 (dk_at dksX6_houseNow_0 10 rfl rfl)
theorem dX6_houseNow_11 : decode cX6_houseNow 11 = .ok (.istore 4, 2) := dk_54 4 (dk_at dksX6_houseNow_0 11 rfl rfl)
theorem dX6_houseNow_13 : decode cX6_houseNow 13 = .ok (.iload 4, 2) := dk_21 4 (dk_at dksX6_houseNow_0 13 rfl rfl)
theorem dX6_houseNow_15 : decode cX6_houseNow 15 = .ok (.iconst 2, 1) := dk_5 (dk_at dksX6_houseNow_0 15 rfl rfl)
theorem dX6_houseNow_16 : decode cX6_houseNow 16 = .ok (.if_icmp .ge 40, 3) := dk_162 0 40 (dk_at dksX6_houseNow_0 16 rfl rfl)
theorem dX6_houseNow_19 : decode cX6_houseNow 19 = .ok (.iload_n 2, 1) := dk_28 (dk_at dksX6_houseNow_0 19 rfl rfl)
theorem dX6_houseNow_20 : decode cX6_houseNow 20 = .ok (.aload_n 0, 1) := dk_42 (dk_at dksX6_houseNow_0 20 rfl rfl)
theorem dX6_houseNow_21 : decode cX6_houseNow 21 = .ok (.getfield 15, 3) := dk_180 0 15 (dk_at dksX6_houseNow_0 21 rfl rfl)
theorem dX6_houseNow_24 : decode cX6_houseNow 24 = .ok (.iload_n 3, 1) := dk_29 (dk_at dksX6_houseNow_1 0 rfl rfl)
theorem dX6_houseNow_25 : decode cX6_houseNow 25 = .ok (.aaload, 1) := dk_50 (dk_at dksX6_houseNow_1 1 rfl rfl)
theorem dX6_houseNow_26 : decode cX6_houseNow 26 = .ok (.iload 4, 2) := dk_21 4 (dk_at dksX6_houseNow_1 2 rfl rfl)
theorem dX6_houseNow_28 : decode cX6_houseNow 28 = .ok (.iaload, 1) := dk_46 (dk_at dksX6_houseNow_1 4 rfl rfl)
theorem dX6_houseNow_29 : decode cX6_houseNow 29 = .ok (.iconst 2, 1) := dk_5 (dk_at dksX6_houseNow_1 5 rfl rfl)
theorem dX6_houseNow_30 : decode cX6_houseNow 30 = .ok (.if_icmp .ne 17, 3) := dk_160 0 17 (dk_at dksX6_houseNow_1 6 rfl rfl)
theorem dX6_houseNow_33 : decode cX6_houseNow 33 = .ok (.aload_n 0, 1) := dk_42 (dk_at dksX6_houseNow_1 9 rfl rfl)
theorem dX6_houseNow_34 : decode cX6_houseNow 34 = .ok (.iload_n 3, 1) := dk_29 (dk_at dksX6_houseNow_1 10 rfl rfl)
theorem dX6_houseNow_35 : decode cX6_houseNow 35 = .ok (.iload 4, 2) := dk_21 4 (dk_at dksX6_houseNow_1 11 rfl rfl)
theorem dX6_houseNow_37 : decode cX6_houseNow 37 = .ok (.invokevirtual 57, 3) := dk_182 0 57 (dk_at dksX6_houseNow_1 13 rfl rfl)
theorem dX6_houseNow_40 : decode cX6_houseNow 40 = .ok (.ifCond .eq 7, 3) := dk_153 0 7 (dk_at dksX6_houseNow_1 16 rfl rfl)
theorem dX6_houseNow_43 : decode cX6_houseNow 43 = .ok (.iconst 1, 1) := dk_4 (dk_at dksX6_houseNow_1 19 rfl rfl)
theorem dX6_houseNow_44 : decode cX6_houseNow 44 = .ok (.goto 4, 3) := dk_167 0 4 (dk_at dksX6_houseNow_1 20 rfl rfl)
theorem dX6_houseNow_47 : decode cX6_houseNow 47 = .ok (.iconst 0, 1) := dk_3 (dk_at dksX6_houseNow_1 23 rfl rfl)
theorem dX6_houseNow_48 : decode cX6_houseNow 48 = .ok (.iadd, 1) := dk_96 (dk_at dksX6_houseNow_2 0 rfl rfl)
theorem dX6_houseNow_49 : decode cX6_houseNow 49 = .ok (.istore_n 2, 1) := dk_61 (dk_at dksX6_houseNow_2 1 rfl rfl)
theorem dX6_houseNow_50 : decode cX6_houseNow 50 = .ok (.iinc 4 1, 3) := dk_132 4 1 (dk_at dksX6_houseNow_2 2 rfl rfl)
theorem dX6_houseNow_53 : decode cX6_houseNow 53 = .ok (.goto (-40), 3) := dk_167 255 216 (dk_at dksX6_houseNow_2 5 rfl rfl)
theorem dX6_houseNow_56 : decode cX6_houseNow 56 = .ok (.iinc 3 1, 3) := dk_132 3 1 (dk_at dksX6_houseNow_2 8 rfl rfl)
theorem dX6_houseNow_59 : decode cX6_houseNow 59 = .ok (.goto (-55), 3) := dk_167 255 201 (dk_at dksX6_houseNow_2 11 rfl rfl)
theorem dX6_houseNow_62 : decode cX6_houseNow 62 = .ok (.bipush 12, 2) := dk_16 12 (dk_at dksX6_houseNow_2 14 rfl rfl)
theorem dX6_houseNow_64 : decode cX6_houseNow 64 = .ok (.newarray .int, 2) := dk_188_10 (dk_at dksX6_houseNow_2 16 rfl rfl)
theorem dX6_houseNow_66 : decode cX6_houseNow 66 = .ok (.dup, 1) := dk_89 (dk_at dksX6_houseNow_2 18 rfl rfl)
theorem dX6_houseNow_67 : decode cX6_houseNow 67 = .ok (.iconst 0, 1) := dk_3 (dk_at dksX6_houseNow_2 19 rfl rfl)
theorem dX6_houseNow_68 : decode cX6_houseNow 68 = .ok (.aload_n 0, 1) := dk_42 (dk_at dksX6_houseNow_2 20 rfl rfl)
theorem dX6_houseNow_69 : decode cX6_houseNow 69 = .ok (.getfield 54, 3) := dk_180 0 54 (dk_at dksX6_houseNow_2 21 rfl rfl)
theorem dX6_houseNow_72 : decode cX6_houseNow 72 = .ok (.iastore, 1) := dk_79 (dk_at dksX6_houseNow_3 0 rfl rfl)
theorem dX6_houseNow_73 : decode cX6_houseNow 73 = .ok (.dup, 1) := dk_89 (dk_at dksX6_houseNow_3 1 rfl rfl)
theorem dX6_houseNow_74 : decode cX6_houseNow 74 = .ok (.iconst 1, 1) := dk_4 (dk_at dksX6_houseNow_3 2 rfl rfl)
theorem dX6_houseNow_75 : decode cX6_houseNow 75 = .ok (.aload_n 0, 1) := dk_42 (dk_at dksX6_houseNow_3 3 rfl rfl)
theorem dX6_houseNow_76 : decode cX6_houseNow 76 = .ok (.getfield 54, 3) := dk_180 0 54 (dk_at dksX6_houseNow_3 4 rfl rfl)
theorem dX6_houseNow_79 : decode cX6_houseNow 79 = .ok (.bipush 60, 2) := dk_16 60 (dk_at dksX6_houseNow_3 7 rfl rfl)
theorem dX6_houseNow_81 : decode cX6_houseNow 81 = .ok (.idiv, 1) := dk_108 (dk_at dksX6_houseNow_3 9 rfl rfl)
theorem dX6_houseNow_82 : decode cX6_houseNow 82 = .ok (.bipush 24, 2) := dk_16 24 (dk_at dksX6_houseNow_3 10 rfl rfl)
theorem dX6_houseNow_84 : decode cX6_houseNow 84 = .ok (.irem, 1) := dk_112 (dk_at dksX6_houseNow_3 12 rfl rfl)
theorem dX6_houseNow_85 : decode cX6_houseNow 85 = .ok (.iastore, 1) := dk_79 (dk_at dksX6_houseNow_3 13 rfl rfl)
theorem dX6_houseNow_86 : decode cX6_houseNow 86 = .ok (.dup, 1) := dk_89 (dk_at dksX6_houseNow_3 14 rfl rfl)
theorem dX6_houseNow_87 : decode cX6_houseNow 87 = .ok (.iconst 2, 1) := dk_5 (dk_at dksX6_houseNow_3 15 rfl rfl)
theorem dX6_houseNow_88 : decode cX6_houseNow 88 = .ok (.aload_n 0, 1) := dk_42 (dk_at dksX6_houseNow_3 16 rfl rfl)
theorem dX6_houseNow_89 : decode cX6_houseNow 89 = .ok (.iconst 1, 1) := dk_4 (dk_at dksX6_houseNow_3 17 rfl rfl)
theorem dX6_houseNow_90 : decode cX6_houseNow 90 = .ok (.invokevirtual 90, 3) := dk_182 0 90 (dk_at dksX6_houseNow_3 18 rfl rfl)
theorem dX6_houseNow_93 : decode cX6_houseNow 93 = .ok (.iastore, 1) := dk_79 (dk_at dksX6_houseNow_3 21 rfl rfl)
theorem dX6_houseNow_94 : decode cX6_houseNow 94 = .ok (.dup, 1) := dk_89 (dk_at dksX6_houseNow_3 22 rfl rfl)
theorem dX6_houseNow_95 : decode cX6_houseNow 95 = .ok (.iconst 3, 1) := dk_6 (dk_at dksX6_houseNow_3 23 rfl rfl)
theorem dX6_houseNow_96 : decode cX6_houseNow 96 = .ok (.aload_n 0, 1) := dk_42 (dk_at dksX6_houseNow_4 0 rfl rfl)
theorem dX6_houseNow_97 : decode cX6_houseNow 97 = .ok (.iconst 2, 1) := dk_5 (dk_at dksX6_houseNow_4 1 rfl rfl)
theorem dX6_houseNow_98 : decode cX6_houseNow 98 = .ok (.invokevirtual 90, 3) := dk_182 0 90 (dk_at dksX6_houseNow_4 2 rfl rfl)
theorem dX6_houseNow_101 : decode cX6_houseNow 101 = .ok (.iastore, 1) := dk_79 (dk_at dksX6_houseNow_4 5 rfl rfl)
theorem dX6_houseNow_102 : decode cX6_houseNow 102 = .ok (.dup, 1) := dk_89 (dk_at dksX6_houseNow_4 6 rfl rfl)
theorem dX6_houseNow_103 : decode cX6_houseNow 103 = .ok (.iconst 4, 1) := dk_7 (dk_at dksX6_houseNow_4 7 rfl rfl)
theorem dX6_houseNow_104 : decode cX6_houseNow 104 = .ok (.iload_n 2, 1) := dk_28 (dk_at dksX6_houseNow_4 8 rfl rfl)
theorem dX6_houseNow_105 : decode cX6_houseNow 105 = .ok (.iastore, 1) := dk_79 (dk_at dksX6_houseNow_4 9 rfl rfl)
theorem dX6_houseNow_106 : decode cX6_houseNow 106 = .ok (.dup, 1) := dk_89 (dk_at dksX6_houseNow_4 10 rfl rfl)
theorem dX6_houseNow_107 : decode cX6_houseNow 107 = .ok (.iconst 5, 1) := dk_8 (dk_at dksX6_houseNow_4 11 rfl rfl)
theorem dX6_houseNow_108 : decode cX6_houseNow 108 = .ok (.aload_n 0, 1) := dk_42 (dk_at dksX6_houseNow_4 12 rfl rfl)
theorem dX6_houseNow_109 : decode cX6_houseNow 109 = .ok (.getfield 21, 3) := dk_180 0 21 (dk_at dksX6_houseNow_4 13 rfl rfl)
theorem dX6_houseNow_112 : decode cX6_houseNow 112 = .ok (.invokestatic 93, 3) := dk_184 0 93 (dk_at dksX6_houseNow_4 16 rfl rfl)
theorem dX6_houseNow_115 : decode cX6_houseNow 115 = .ok (.iastore, 1) := dk_79 (dk_at dksX6_houseNow_4 19 rfl rfl)
theorem dX6_houseNow_116 : decode cX6_houseNow 116 = .ok (.dup, 1) := dk_89 (dk_at dksX6_houseNow_4 20 rfl rfl)
theorem dX6_houseNow_117 : decode cX6_houseNow 117 = .ok (.bipush 6, 2) := dk_16 6 (dk_at dksX6_houseNow_4 21 rfl rfl)
theorem dX6_houseNow_119 : decode cX6_houseNow 119 = .ok (.aload_n 0, 1) := dk_42 (dk_at dksX6_houseNow_4 23 rfl rfl)
theorem dX6_houseNow_120 : decode cX6_houseNow 120 = .ok (.getfield 25, 3) := dk_180 0 25 (dk_at dksX6_houseNow_5 0 rfl rfl)
theorem dX6_houseNow_123 : decode cX6_houseNow 123 = .ok (.invokestatic 93, 3) := dk_184 0 93 (dk_at dksX6_houseNow_5 3 rfl rfl)
theorem dX6_houseNow_126 : decode cX6_houseNow 126 = .ok (.iastore, 1) := dk_79 (dk_at dksX6_houseNow_5 6 rfl rfl)
theorem dX6_houseNow_127 : decode cX6_houseNow 127 = .ok (.dup, 1) := dk_89 (dk_at dksX6_houseNow_5 7 rfl rfl)
theorem dX6_houseNow_128 : decode cX6_houseNow 128 = .ok (.bipush 7, 2) := dk_16 7 (dk_at dksX6_houseNow_5 8 rfl rfl)
theorem dX6_houseNow_130 : decode cX6_houseNow 130 = .ok (.aload_n 0, 1) := dk_42 (dk_at dksX6_houseNow_5 10 rfl rfl)
theorem dX6_houseNow_131 : decode cX6_houseNow 131 = .ok (.getfield 31, 3) := dk_180 0 31 (dk_at dksX6_houseNow_5 11 rfl rfl)
theorem dX6_houseNow_134 : decode cX6_houseNow 134 = .ok (.invokevirtual 46, 3) := dk_182 0 46 (dk_at dksX6_houseNow_5 14 rfl rfl)
theorem dX6_houseNow_137 : decode cX6_houseNow 137 = .ok (.iastore, 1) := dk_79 (dk_at dksX6_houseNow_5 17 rfl rfl)
theorem dX6_houseNow_138 : decode cX6_houseNow 138 = .ok (.dup, 1) := dk_89 (dk_at dksX6_houseNow_5 18 rfl rfl)
theorem dX6_houseNow_139 : decode cX6_houseNow 139 = .ok (.bipush 8, 2) := dk_16 8 (dk_at dksX6_houseNow_5 19 rfl rfl)
theorem dX6_houseNow_141 : decode cX6_houseNow 141 = .ok (.aload_n 0, 1) := dk_42 (dk_at dksX6_houseNow_5 21 rfl rfl)
theorem dX6_houseNow_142 : decode cX6_houseNow 142 = .ok (.getfield 166, 3) := dk_180 0 166 (dk_at dksX6_houseNow_6 0 rfl rfl)
theorem dX6_houseNow_145 : decode cX6_houseNow 145 = .ok (.iastore, 1) := dk_79 (dk_at dksX6_houseNow_6 3 rfl rfl)
theorem dX6_houseNow_146 : decode cX6_houseNow 146 = .ok (.dup, 1) := dk_89 (dk_at dksX6_houseNow_6 4 rfl rfl)
theorem dX6_houseNow_147 : decode cX6_houseNow 147 = .ok (.bipush 9, 2) := dk_16 9 (dk_at dksX6_houseNow_6 5 rfl rfl)
theorem dX6_houseNow_149 : decode cX6_houseNow 149 = .ok (.aload_n 0, 1) := dk_42 (dk_at dksX6_houseNow_6 7 rfl rfl)
theorem dX6_houseNow_150 : decode cX6_houseNow 150 = .ok (.getfield 222, 3) := dk_180 0 222 (dk_at dksX6_houseNow_6 8 rfl rfl)
theorem dX6_houseNow_153 : decode cX6_houseNow 153 = .ok (.iastore, 1) := dk_79 (dk_at dksX6_houseNow_6 11 rfl rfl)
theorem dX6_houseNow_154 : decode cX6_houseNow 154 = .ok (.dup, 1) := dk_89 (dk_at dksX6_houseNow_6 12 rfl rfl)
theorem dX6_houseNow_155 : decode cX6_houseNow 155 = .ok (.bipush 10, 2) := dk_16 10 (dk_at dksX6_houseNow_6 13 rfl rfl)
theorem dX6_houseNow_157 : decode cX6_houseNow 157 = .ok (.aload_n 0, 1) := dk_42 (dk_at dksX6_houseNow_6 15 rfl rfl)
theorem dX6_houseNow_158 : decode cX6_houseNow 158 = .ok (.getfield 219, 3) := dk_180 0 219 (dk_at dksX6_houseNow_6 16 rfl rfl)
theorem dX6_houseNow_161 : decode cX6_houseNow 161 = .ok (.iastore, 1) := dk_79 (dk_at dksX6_houseNow_6 19 rfl rfl)
theorem dX6_houseNow_162 : decode cX6_houseNow 162 = .ok (.dup, 1) := dk_89 (dk_at dksX6_houseNow_6 20 rfl rfl)
theorem dX6_houseNow_163 : decode cX6_houseNow 163 = .ok (.bipush 11, 2) := dk_16 11 (dk_at dksX6_houseNow_6 21 rfl rfl)
theorem dX6_houseNow_165 : decode cX6_houseNow 165 = .ok (.aload_n 0, 1) := dk_42 (dk_at dksX6_houseNow_6 23 rfl rfl)
theorem dX6_houseNow_166 : decode cX6_houseNow 166 = .ok (.getfield 225, 3) := dk_180 0 225 (dk_at dksX6_houseNow_7 0 rfl rfl)
theorem dX6_houseNow_169 : decode cX6_houseNow 169 = .ok (.iastore, 1) := dk_79 (dk_at dksX6_houseNow_7 3 rfl rfl)
theorem dX6_houseNow_170 : decode cX6_houseNow 170 = .ok (.astore_n 3, 1) := dk_78 (dk_at dksX6_houseNow_7 4 rfl rfl)
theorem dX6_houseNow_171 : decode cX6_houseNow 171 = .ok (.aload_n 3, 1) := dk_45 (dk_at dksX6_houseNow_7 5 rfl rfl)
theorem dX6_houseNow_172 : decode cX6_houseNow 172 = .ok (.iload_n 1, 1) := dk_27 (dk_at dksX6_houseNow_7 6 rfl rfl)
theorem dX6_houseNow_173 : decode cX6_houseNow 173 = .ok (.iaload, 1) := dk_46 (dk_at dksX6_houseNow_7 7 rfl rfl)
theorem dX6_houseNow_174 : decode cX6_houseNow 174 = .ok (.ireturn, 1) := dk_172 (dk_at dksX6_houseNow_7 8 rfl rfl)
abbrev cX6_row : ByteArray := prog_13_method_51_code
def yX6_row : MethodName := ⟨RX6, "row", "(I)Ljava/lang/String;"⟩
def dkwX6_row_8 : List UInt8 := [44, 182, 1, 13, 176]
abbrev dktX6_row_8 : List UInt8 := dkwX6_row_8 ++ []
def dkwX6_row_7 : List UInt8 := [19, 1, 4, 42, 180, 0, 15, 29, 50, 3, 46, 182, 1, 6, 182, 1, 10, 87, 132, 3, 1, 167, 255, 113]
abbrev dktX6_row_7 : List UInt8 := dkwX6_row_7 ++ dktX6_row_8
def dkwX6_row_6 : List UInt8 := [153, 0, 8, 18, 252, 167, 0, 5, 18, 254, 182, 1, 0, 87, 29, 3, 184, 0, 87, 153, 0, 22, 44]
abbrev dktX6_row_6 : List UInt8 := dkwX6_row_6 ++ dktX6_row_7
def dkwX6_row_5 : List UInt8 := [167, 0, 33, 42, 180, 0, 25, 29, 51, 153, 0, 8, 18, 250, 167, 0, 19, 42, 180, 0, 21, 29, 51]
abbrev dktX6_row_5 : List UInt8 := dkwX6_row_5 ++ dktX6_row_6
def dkwX6_row_4 : List UInt8 := [21, 4, 54, 4, 132, 5, 255, 167, 255, 220, 44, 21, 4, 2, 159, 0, 11, 21, 4, 184, 0, 244]
abbrev dktX6_row_4 : List UInt8 := dkwX6_row_4 ++ dktX6_row_5
def dkwX6_row_3 : List UInt8 := [180, 0, 31, 21, 5, 182, 0, 152, 192, 0, 72, 182, 0, 160, 29, 160, 0, 8, 21, 5, 167, 0, 5]
abbrev dktX6_row_3 : List UInt8 := dkwX6_row_3 ++ dktX6_row_4
def dkwX6_row_2 : List UInt8 := [162, 0, 138, 2, 54, 4, 42, 180, 0, 31, 182, 0, 46, 4, 100, 54, 5, 21, 5, 155, 0, 37, 42]
abbrev dktX6_row_2 : List UInt8 := dkwX6_row_2 ++ dktX6_row_3
def dkwX6_row_1 : List UInt8 := [176, 187, 0, 241, 89, 183, 0, 243, 77, 16, 6, 27, 104, 62, 29, 16, 6, 27, 104, 16, 6, 96]
abbrev dktX6_row_1 : List UInt8 := dkwX6_row_1 ++ dktX6_row_2
def dkwX6_row_0 : List UInt8 := [42, 27, 3, 8, 184, 0, 42, 154, 0, 7, 4, 167, 0, 4, 3, 4, 182, 0, 83, 153, 0, 6, 18, 239]
abbrev dktX6_row_0 : List UInt8 := dkwX6_row_0 ++ dktX6_row_1
theorem dksX6_row_0 : cX6_row.data.toList.drop 0 = dktX6_row_0 := by decide +kernel
theorem dksX6_row_1 : cX6_row.data.toList.drop 24 = dktX6_row_1 := dk_seg dksX6_row_0 24 rfl rfl
theorem dksX6_row_2 : cX6_row.data.toList.drop 46 = dktX6_row_2 := dk_seg dksX6_row_1 22 rfl rfl
theorem dksX6_row_3 : cX6_row.data.toList.drop 69 = dktX6_row_3 := dk_seg dksX6_row_2 23 rfl rfl
theorem dksX6_row_4 : cX6_row.data.toList.drop 92 = dktX6_row_4 := dk_seg dksX6_row_3 23 rfl rfl
theorem dksX6_row_5 : cX6_row.data.toList.drop 114 = dktX6_row_5 := dk_seg dksX6_row_4 22 rfl rfl
theorem dksX6_row_6 : cX6_row.data.toList.drop 137 = dktX6_row_6 := dk_seg dksX6_row_5 23 rfl rfl
theorem dksX6_row_7 : cX6_row.data.toList.drop 160 = dktX6_row_7 := dk_seg dksX6_row_6 23 rfl rfl
theorem dksX6_row_8 : cX6_row.data.toList.drop 184 = dktX6_row_8 := dk_seg dksX6_row_7 24 rfl rfl
theorem dX6_row_0 : decode cX6_row 0 = .ok (.aload_n 0, 1) := dk_42 (dk_at dksX6_row_0 0 rfl rfl)
theorem dX6_row_1 : decode cX6_row 1 = .ok (.iload_n 1, 1) := dk_27 (dk_at dksX6_row_0 1 rfl rfl)
theorem dX6_row_2 : decode cX6_row 2 = .ok (.iconst 0, 1) := dk_3 (dk_at dksX6_row_0 2 rfl rfl)
theorem dX6_row_3 : decode cX6_row 3 = .ok (.iconst 5, 1) := dk_8 (dk_at dksX6_row_0 3 rfl rfl)
theorem dX6_row_4 : decode cX6_row 4 = .ok (.invokestatic 42, 3) := dk_184 0 42 (dk_at dksX6_row_0 4 rfl rfl)
theorem dX6_row_7 : decode cX6_row 7 = .ok (.ifCond .ne 7, 3) := dk_154 0 7 (dk_at dksX6_row_0 7 rfl rfl)
theorem dX6_row_10 : decode cX6_row 10 = .ok (.iconst 1, 1) := dk_4 (dk_at dksX6_row_0 10 rfl rfl)
theorem dX6_row_11 : decode cX6_row 11 = .ok (.goto 4, 3) := dk_167 0 4 (dk_at dksX6_row_0 11 rfl rfl)
theorem dX6_row_14 : decode cX6_row 14 = .ok (.iconst 0, 1) := dk_3 (dk_at dksX6_row_0 14 rfl rfl)
theorem dX6_row_15 : decode cX6_row 15 = .ok (.iconst 1, 1) := dk_4 (dk_at dksX6_row_0 15 rfl rfl)
theorem dX6_row_16 : decode cX6_row 16 = .ok (.invokevirtual 83, 3) := dk_182 0 83 (dk_at dksX6_row_0 16 rfl rfl)
theorem dX6_row_19 : decode cX6_row 19 = .ok (.ifCond .eq 6, 3) := dk_153 0 6 (dk_at dksX6_row_0 19 rfl rfl)
theorem dX6_row_22 : decode cX6_row 22 = .ok (.ldc 239, 2) := dk_18 239 (dk_at dksX6_row_0 22 rfl rfl)
theorem dX6_row_24 : decode cX6_row 24 = .ok (.areturn, 1) := dk_176 (dk_at dksX6_row_1 0 rfl rfl)
theorem dX6_row_25 : decode cX6_row 25 = .ok (.new 241, 3) := dk_187 0 241 (dk_at dksX6_row_1 1 rfl rfl)
theorem dX6_row_28 : decode cX6_row 28 = .ok (.dup, 1) := dk_89 (dk_at dksX6_row_1 4 rfl rfl)
theorem dX6_row_29 : decode cX6_row 29 = .ok (.invokespecial 243, 3) := dk_183 0 243 (dk_at dksX6_row_1 5 rfl rfl)
theorem dX6_row_32 : decode cX6_row 32 = .ok (.astore_n 2, 1) := dk_77 (dk_at dksX6_row_1 8 rfl rfl)
theorem dX6_row_33 : decode cX6_row 33 = .ok (.bipush 6, 2) := dk_16 6 (dk_at dksX6_row_1 9 rfl rfl)
theorem dX6_row_35 : decode cX6_row 35 = .ok (.iload_n 1, 1) := dk_27 (dk_at dksX6_row_1 11 rfl rfl)
theorem dX6_row_36 : decode cX6_row 36 = .ok (.imul, 1) := dk_104 (dk_at dksX6_row_1 12 rfl rfl)
theorem dX6_row_37 : decode cX6_row 37 = .ok (.istore_n 3, 1) := dk_62 (dk_at dksX6_row_1 13 rfl rfl)
theorem dX6_row_38 : decode cX6_row 38 = .ok (.iload_n 3, 1) := dk_29 (dk_at dksX6_row_1 14 rfl rfl)
theorem dX6_row_39 : decode cX6_row 39 = .ok (.bipush 6, 2) := dk_16 6 (dk_at dksX6_row_1 15 rfl rfl)
theorem dX6_row_41 : decode cX6_row 41 = .ok (.iload_n 1, 1) := dk_27 (dk_at dksX6_row_1 17 rfl rfl)
theorem dX6_row_42 : decode cX6_row 42 = .ok (.imul, 1) := dk_104 (dk_at dksX6_row_1 18 rfl rfl)
theorem dX6_row_43 : decode cX6_row 43 = .ok (.bipush 6, 2) := dk_16 6 (dk_at dksX6_row_1 19 rfl rfl)
theorem dX6_row_45 : decode cX6_row 45 = .ok (.iadd, 1) := dk_96 (dk_at dksX6_row_1 21 rfl rfl)
theorem dX6_row_46 : decode cX6_row 46 = .ok (.if_icmp .ge 138, 3) := dk_162 0 138 (dk_at dksX6_row_2 0 rfl rfl)
theorem dX6_row_49 : decode cX6_row 49 = .ok (.iconst (-1), 1) := dk_2 (dk_at dksX6_row_2 3 rfl rfl)
theorem dX6_row_50 : decode cX6_row 50 = .ok (.istore 4, 2) := dk_54 4 (dk_at dksX6_row_2 4 rfl rfl)
theorem dX6_row_52 : decode cX6_row 52 = .ok (.aload_n 0, 1) := dk_42 (dk_at dksX6_row_2 6 rfl rfl)
theorem dX6_row_53 : decode cX6_row 53 = .ok (.getfield 31, 3) := dk_180 0 31 (dk_at dksX6_row_2 7 rfl rfl)
theorem dX6_row_56 : decode cX6_row 56 = .ok (.invokevirtual 46, 3) := dk_182 0 46 (dk_at dksX6_row_2 10 rfl rfl)
theorem dX6_row_59 : decode cX6_row 59 = .ok (.iconst 1, 1) := dk_4 (dk_at dksX6_row_2 13 rfl rfl)
theorem dX6_row_60 : decode cX6_row 60 = .ok (.isub, 1) := dk_100 (dk_at dksX6_row_2 14 rfl rfl)
theorem dX6_row_61 : decode cX6_row 61 = .ok (.istore 5, 2) := dk_54 5 (dk_at dksX6_row_2 15 rfl rfl)
theorem dX6_row_63 : decode cX6_row 63 = .ok (.iload 5, 2) := dk_21 5 (dk_at dksX6_row_2 17 rfl rfl)
theorem dX6_row_65 : decode cX6_row 65 = .ok (.ifCond .lt 37, 3) := dk_155 0 37 (dk_at dksX6_row_2 19 rfl rfl)
theorem dX6_row_68 : decode cX6_row 68 = .ok (.aload_n 0, 1) := dk_42 (dk_at dksX6_row_2 22 rfl rfl)
theorem dX6_row_69 : decode cX6_row 69 = .ok (.getfield 31, 3) := dk_180 0 31 (dk_at dksX6_row_3 0 rfl rfl)
theorem dX6_row_72 : decode cX6_row 72 = .ok (.iload 5, 2) := dk_21 5 (dk_at dksX6_row_3 3 rfl rfl)
theorem dX6_row_74 : decode cX6_row 74 = .ok (.invokevirtual 152, 3) := dk_182 0 152 (dk_at dksX6_row_3 5 rfl rfl)
theorem dX6_row_77 : decode cX6_row 77 = .ok (.checkcast 72, 3) := dk_192 0 72 (dk_at dksX6_row_3 8 rfl rfl)
theorem dX6_row_80 : decode cX6_row 80 = .ok (.invokevirtual 160, 3) := dk_182 0 160 (dk_at dksX6_row_3 11 rfl rfl)
theorem dX6_row_83 : decode cX6_row 83 = .ok (.iload_n 3, 1) := dk_29 (dk_at dksX6_row_3 14 rfl rfl)
theorem dX6_row_84 : decode cX6_row 84 = .ok (.if_icmp .ne 8, 3) := dk_160 0 8 (dk_at dksX6_row_3 15 rfl rfl)
theorem dX6_row_87 : decode cX6_row 87 = .ok (.iload 5, 2) := dk_21 5 (dk_at dksX6_row_3 18 rfl rfl)
theorem dX6_row_89 : decode cX6_row 89 = .ok (.goto 5, 3) := dk_167 0 5 (dk_at dksX6_row_3 20 rfl rfl)
theorem dX6_row_92 : decode cX6_row 92 = .ok (.iload 4, 2) := dk_21 4 (dk_at dksX6_row_4 0 rfl rfl)
theorem dX6_row_94 : decode cX6_row 94 = .ok (.istore 4, 2) := dk_54 4 (dk_at dksX6_row_4 2 rfl rfl)
theorem dX6_row_96 : decode cX6_row 96 = .ok (.iinc 5 (-1), 3) := dk_132 5 255 (dk_at dksX6_row_4 4 rfl rfl)
theorem dX6_row_99 : decode cX6_row 99 = .ok (.goto (-36), 3) := dk_167 255 220 (dk_at dksX6_row_4 7 rfl rfl)
theorem dX6_row_102 : decode cX6_row 102 = .ok (.aload_n 2, 1) := dk_44 (dk_at dksX6_row_4 10 rfl rfl)
theorem dX6_row_103 : decode cX6_row 103 = .ok (.iload 4, 2) := dk_21 4 (dk_at dksX6_row_4 11 rfl rfl)
theorem dX6_row_105 : decode cX6_row 105 = .ok (.iconst (-1), 1) := dk_2 (dk_at dksX6_row_4 13 rfl rfl)
theorem dX6_row_106 : decode cX6_row 106 = .ok (.if_icmp .eq 11, 3) := dk_159 0 11 (dk_at dksX6_row_4 14 rfl rfl)
theorem dX6_row_109 : decode cX6_row 109 = .ok (.iload 4, 2) := dk_21 4 (dk_at dksX6_row_4 17 rfl rfl)
theorem dX6_row_111 : decode cX6_row 111 = .ok (.invokestatic 244, 3) := dk_184 0 244 (dk_at dksX6_row_4 19 rfl rfl)
theorem dX6_row_114 : decode cX6_row 114 = .ok (.goto 33, 3) := dk_167 0 33 (dk_at dksX6_row_5 0 rfl rfl)
theorem dX6_row_117 : decode cX6_row 117 = .ok (.aload_n 0, 1) := dk_42 (dk_at dksX6_row_5 3 rfl rfl)
theorem dX6_row_118 : decode cX6_row 118 = .ok (.getfield 25, 3) := dk_180 0 25 (dk_at dksX6_row_5 4 rfl rfl)
theorem dX6_row_121 : decode cX6_row 121 = .ok (.iload_n 3, 1) := dk_29 (dk_at dksX6_row_5 7 rfl rfl)
theorem dX6_row_122 : decode cX6_row 122 = .ok (.baload, 1) := dk_51 (dk_at dksX6_row_5 8 rfl rfl)
theorem dX6_row_123 : decode cX6_row 123 = .ok (.ifCond .eq 8, 3) := dk_153 0 8 (dk_at dksX6_row_5 9 rfl rfl)
theorem dX6_row_126 : decode cX6_row 126 = .ok (.ldc 250, 2) := dk_18 250 (dk_at dksX6_row_5 12 rfl rfl)
theorem dX6_row_128 : decode cX6_row 128 = .ok (.goto 19, 3) := dk_167 0 19 (dk_at dksX6_row_5 14 rfl rfl)
theorem dX6_row_131 : decode cX6_row 131 = .ok (.aload_n 0, 1) := dk_42 (dk_at dksX6_row_5 17 rfl rfl)
theorem dX6_row_132 : decode cX6_row 132 = .ok (.getfield 21, 3) := dk_180 0 21 (dk_at dksX6_row_5 18 rfl rfl)
theorem dX6_row_135 : decode cX6_row 135 = .ok (.iload_n 3, 1) := dk_29 (dk_at dksX6_row_5 21 rfl rfl)
theorem dX6_row_136 : decode cX6_row 136 = .ok (.baload, 1) := dk_51 (dk_at dksX6_row_5 22 rfl rfl)
theorem dX6_row_137 : decode cX6_row 137 = .ok (.ifCond .eq 8, 3) := dk_153 0 8 (dk_at dksX6_row_6 0 rfl rfl)
theorem dX6_row_140 : decode cX6_row 140 = .ok (.ldc 252, 2) := dk_18 252 (dk_at dksX6_row_6 3 rfl rfl)
theorem dX6_row_142 : decode cX6_row 142 = .ok (.goto 5, 3) := dk_167 0 5 (dk_at dksX6_row_6 5 rfl rfl)
theorem dX6_row_145 : decode cX6_row 145 = .ok (.ldc 254, 2) := dk_18 254 (dk_at dksX6_row_6 8 rfl rfl)
theorem dX6_row_147 : decode cX6_row 147 = .ok (.invokevirtual 256, 3) := dk_182 1 0 (dk_at dksX6_row_6 10 rfl rfl)
theorem dX6_row_150 : decode cX6_row 150 = .ok (.pop, 1) := dk_87 (dk_at dksX6_row_6 13 rfl rfl)
theorem dX6_row_151 : decode cX6_row 151 = .ok (.iload_n 3, 1) := dk_29 (dk_at dksX6_row_6 14 rfl rfl)
theorem dX6_row_152 : decode cX6_row 152 = .ok (.iconst 0, 1) := dk_3 (dk_at dksX6_row_6 15 rfl rfl)
theorem dX6_row_153 : decode cX6_row 153 = .ok (.invokestatic 87, 3) := dk_184 0 87 (dk_at dksX6_row_6 16 rfl rfl)
theorem dX6_row_156 : decode cX6_row 156 = .ok (.ifCond .eq 22, 3) := dk_153 0 22 (dk_at dksX6_row_6 19 rfl rfl)
theorem dX6_row_159 : decode cX6_row 159 = .ok (.aload_n 2, 1) := dk_44 (dk_at dksX6_row_6 22 rfl rfl)
theorem dX6_row_160 : decode cX6_row 160 = .ok (.ldc_w 260, 3) := dk_19 1 4 (dk_at dksX6_row_7 0 rfl rfl)
theorem dX6_row_163 : decode cX6_row 163 = .ok (.aload_n 0, 1) := dk_42 (dk_at dksX6_row_7 3 rfl rfl)
theorem dX6_row_164 : decode cX6_row 164 = .ok (.getfield 15, 3) := dk_180 0 15 (dk_at dksX6_row_7 4 rfl rfl)
theorem dX6_row_167 : decode cX6_row 167 = .ok (.iload_n 3, 1) := dk_29 (dk_at dksX6_row_7 7 rfl rfl)
theorem dX6_row_168 : decode cX6_row 168 = .ok (.aaload, 1) := dk_50 (dk_at dksX6_row_7 8 rfl rfl)
theorem dX6_row_169 : decode cX6_row 169 = .ok (.iconst 0, 1) := dk_3 (dk_at dksX6_row_7 9 rfl rfl)
theorem dX6_row_170 : decode cX6_row 170 = .ok (.iaload, 1) := dk_46 (dk_at dksX6_row_7 10 rfl rfl)
theorem dX6_row_171 : decode cX6_row 171 = .ok (.invokevirtual 262, 3) := dk_182 1 6 (dk_at dksX6_row_7 11 rfl rfl)
theorem dX6_row_174 : decode cX6_row 174 = .ok (.invokevirtual 266, 3) := dk_182 1 10 (dk_at dksX6_row_7 14 rfl rfl)
theorem dX6_row_177 : decode cX6_row 177 = .ok (.pop, 1) := dk_87 (dk_at dksX6_row_7 17 rfl rfl)
theorem dX6_row_178 : decode cX6_row 178 = .ok (.iinc 3 1, 3) := dk_132 3 1 (dk_at dksX6_row_7 18 rfl rfl)
theorem dX6_row_181 : decode cX6_row 181 = .ok (.goto (-143), 3) := dk_167 255 113 (dk_at dksX6_row_7 21 rfl rfl)
theorem dX6_row_184 : decode cX6_row 184 = .ok (.aload_n 2, 1) := dk_44 (dk_at dksX6_row_8 0 rfl rfl)
theorem dX6_row_185 : decode cX6_row 185 = .ok (.invokevirtual 269, 3) := dk_182 1 13 (dk_at dksX6_row_8 1 rfl rfl)
theorem dX6_row_188 : decode cX6_row 188 = .ok (.areturn, 1) := dk_176 (dk_at dksX6_row_8 4 rfl rfl)
abbrev cX6_map : ByteArray := prog_13_method_52_code
def yX6_map : MethodName := ⟨RX6, "map", "(III)I"⟩
def dkwX6_map_2 : List UInt8 := [192, 0, 72, 28, 29, 184, 0, 118, 172]
abbrev dktX6_map_2 : List UInt8 := dkwX6_map_2 ++ []
def dkwX6_map_1 : List UInt8 := [167, 0, 4, 3, 4, 182, 0, 83, 153, 0, 7, 3, 167, 0, 19, 42, 180, 0, 31, 27, 182, 0, 152]
abbrev dktX6_map_1 : List UInt8 := dkwX6_map_1 ++ dktX6_map_2
def dkwX6_map_0 : List UInt8 := [42, 42, 27, 182, 0, 149, 154, 0, 17, 28, 184, 0, 76, 154, 0, 10, 29, 184, 0, 80, 153, 0, 7, 4]
abbrev dktX6_map_0 : List UInt8 := dkwX6_map_0 ++ dktX6_map_1
theorem dksX6_map_0 : cX6_map.data.toList.drop 0 = dktX6_map_0 := by decide +kernel
theorem dksX6_map_1 : cX6_map.data.toList.drop 24 = dktX6_map_1 := dk_seg dksX6_map_0 24 rfl rfl
theorem dksX6_map_2 : cX6_map.data.toList.drop 47 = dktX6_map_2 := dk_seg dksX6_map_1 23 rfl rfl
theorem dX6_map_0 : decode cX6_map 0 = .ok (.aload_n 0, 1) := dk_42 (dk_at dksX6_map_0 0 rfl rfl)
theorem dX6_map_1 : decode cX6_map 1 = .ok (.aload_n 0, 1) := dk_42 (dk_at dksX6_map_0 1 rfl rfl)
theorem dX6_map_2 : decode cX6_map 2 = .ok (.iload_n 1, 1) := dk_27 (dk_at dksX6_map_0 2 rfl rfl)
theorem dX6_map_3 : decode cX6_map 3 = .ok (.invokevirtual 149, 3) := dk_182 0 149 (dk_at dksX6_map_0 3 rfl rfl)
theorem dX6_map_6 : decode cX6_map 6 = .ok (.ifCond .ne 17, 3) := dk_154 0 17 (dk_at dksX6_map_0 6 rfl rfl)
theorem dX6_map_9 : decode cX6_map 9 = .ok (.iload_n 2, 1) := dk_28 (dk_at dksX6_map_0 9 rfl rfl)
theorem dX6_map_10 : decode cX6_map 10 = .ok (.invokestatic 76, 3) := dk_184 0 76 (dk_at dksX6_map_0 10 rfl rfl)
theorem dX6_map_13 : decode cX6_map 13 = .ok (.ifCond .ne 10, 3) := dk_154 0 10 (dk_at dksX6_map_0 13 rfl rfl)
theorem dX6_map_16 : decode cX6_map 16 = .ok (.iload_n 3, 1) := dk_29 (dk_at dksX6_map_0 16 rfl rfl)
theorem dX6_map_17 : decode cX6_map 17 = .ok (.invokestatic 80, 3) := dk_184 0 80 (dk_at dksX6_map_0 17 rfl rfl)
theorem dX6_map_20 : decode cX6_map 20 = .ok (.ifCond .eq 7, 3) := dk_153 0 7 (dk_at dksX6_map_0 20 rfl rfl)
theorem dX6_map_23 : decode cX6_map 23 = .ok (.iconst 1, 1) := dk_4 (dk_at dksX6_map_0 23 rfl rfl)
theorem dX6_map_24 : decode cX6_map 24 = .ok (.goto 4, 3) := dk_167 0 4 (dk_at dksX6_map_1 0 rfl rfl)
theorem dX6_map_27 : decode cX6_map 27 = .ok (.iconst 0, 1) := dk_3 (dk_at dksX6_map_1 3 rfl rfl)
theorem dX6_map_28 : decode cX6_map 28 = .ok (.iconst 1, 1) := dk_4 (dk_at dksX6_map_1 4 rfl rfl)
theorem dX6_map_29 : decode cX6_map 29 = .ok (.invokevirtual 83, 3) := dk_182 0 83 (dk_at dksX6_map_1 5 rfl rfl)
theorem dX6_map_32 : decode cX6_map 32 = .ok (.ifCond .eq 7, 3) := dk_153 0 7 (dk_at dksX6_map_1 8 rfl rfl)
theorem dX6_map_35 : decode cX6_map 35 = .ok (.iconst 0, 1) := dk_3 (dk_at dksX6_map_1 11 rfl rfl)
theorem dX6_map_36 : decode cX6_map 36 = .ok (.goto 19, 3) := dk_167 0 19 (dk_at dksX6_map_1 12 rfl rfl)
theorem dX6_map_39 : decode cX6_map 39 = .ok (.aload_n 0, 1) := dk_42 (dk_at dksX6_map_1 15 rfl rfl)
theorem dX6_map_40 : decode cX6_map 40 = .ok (.getfield 31, 3) := dk_180 0 31 (dk_at dksX6_map_1 16 rfl rfl)
theorem dX6_map_43 : decode cX6_map 43 = .ok (.iload_n 1, 1) := dk_27 (dk_at dksX6_map_1 19 rfl rfl)
theorem dX6_map_44 : decode cX6_map 44 = .ok (.invokevirtual 152, 3) := dk_182 0 152 (dk_at dksX6_map_1 20 rfl rfl)
theorem dX6_map_47 : decode cX6_map 47 = .ok (.checkcast 72, 3) := dk_192 0 72 (dk_at dksX6_map_2 0 rfl rfl)
theorem dX6_map_50 : decode cX6_map 50 = .ok (.iload_n 2, 1) := dk_28 (dk_at dksX6_map_2 3 rfl rfl)
theorem dX6_map_51 : decode cX6_map 51 = .ok (.iload_n 3, 1) := dk_29 (dk_at dksX6_map_2 4 rfl rfl)
theorem dX6_map_52 : decode cX6_map 52 = .ok (.invokestatic 118, 3) := dk_184 0 118 (dk_at dksX6_map_2 5 rfl rfl)
theorem dX6_map_55 : decode cX6_map 55 = .ok (.ireturn, 1) := dk_172 (dk_at dksX6_map_2 8 rfl rfl)
abbrev cX6_may : ByteArray := prog_13_method_53_code
def yX6_may : MethodName := ⟨RX6, "may", "(II)Z"⟩
def dkwX6_may_2 : List UInt8 := [153, 0, 7, 4, 167, 0, 4, 3, 172]
abbrev dktX6_may_2 : List UInt8 := dkwX6_may_2 ++ []
def dkwX6_may_1 : List UInt8 := [3, 4, 182, 0, 83, 154, 0, 26, 42, 180, 0, 31, 27, 182, 0, 152, 192, 0, 72, 180, 0, 97, 28, 51]
abbrev dktX6_may_1 : List UInt8 := dkwX6_may_1 ++ dktX6_may_2
def dkwX6_may_0 : List UInt8 := [42, 42, 27, 182, 0, 149, 154, 0, 14, 28, 3, 17, 0, 143, 184, 0, 42, 154, 0, 7, 4, 167, 0, 4]
abbrev dktX6_may_0 : List UInt8 := dkwX6_may_0 ++ dktX6_may_1
theorem dksX6_may_0 : cX6_may.data.toList.drop 0 = dktX6_may_0 := by decide +kernel
theorem dksX6_may_1 : cX6_may.data.toList.drop 24 = dktX6_may_1 := dk_seg dksX6_may_0 24 rfl rfl
theorem dksX6_may_2 : cX6_may.data.toList.drop 48 = dktX6_may_2 := dk_seg dksX6_may_1 24 rfl rfl
theorem dX6_may_0 : decode cX6_may 0 = .ok (.aload_n 0, 1) := dk_42 (dk_at dksX6_may_0 0 rfl rfl)
theorem dX6_may_1 : decode cX6_may 1 = .ok (.aload_n 0, 1) := dk_42 (dk_at dksX6_may_0 1 rfl rfl)
theorem dX6_may_2 : decode cX6_may 2 = .ok (.iload_n 1, 1) := dk_27 (dk_at dksX6_may_0 2 rfl rfl)
theorem dX6_may_3 : decode cX6_may 3 = .ok (.invokevirtual 149, 3) := dk_182 0 149 (dk_at dksX6_may_0 3 rfl rfl)
theorem dX6_may_6 : decode cX6_may 6 = .ok (.ifCond .ne 14, 3) := dk_154 0 14 (dk_at dksX6_may_0 6 rfl rfl)
theorem dX6_may_9 : decode cX6_may 9 = .ok (.iload_n 2, 1) := dk_28 (dk_at dksX6_may_0 9 rfl rfl)
theorem dX6_may_10 : decode cX6_may 10 = .ok (.iconst 0, 1) := dk_3 (dk_at dksX6_may_0 10 rfl rfl)
theorem dX6_may_11 : decode cX6_may 11 = .ok (.sipush 143, 3) := dk_17 0 143 (dk_at dksX6_may_0 11 rfl rfl)
theorem dX6_may_14 : decode cX6_may 14 = .ok (.invokestatic 42, 3) := dk_184 0 42 (dk_at dksX6_may_0 14 rfl rfl)
theorem dX6_may_17 : decode cX6_may 17 = .ok (.ifCond .ne 7, 3) := dk_154 0 7 (dk_at dksX6_may_0 17 rfl rfl)
theorem dX6_may_20 : decode cX6_may 20 = .ok (.iconst 1, 1) := dk_4 (dk_at dksX6_may_0 20 rfl rfl)
theorem dX6_may_21 : decode cX6_may 21 = .ok (.goto 4, 3) := dk_167 0 4 (dk_at dksX6_may_0 21 rfl rfl)
theorem dX6_may_24 : decode cX6_may 24 = .ok (.iconst 0, 1) := dk_3 (dk_at dksX6_may_1 0 rfl rfl)
theorem dX6_may_25 : decode cX6_may 25 = .ok (.iconst 1, 1) := dk_4 (dk_at dksX6_may_1 1 rfl rfl)
theorem dX6_may_26 : decode cX6_may 26 = .ok (.invokevirtual 83, 3) := dk_182 0 83 (dk_at dksX6_may_1 2 rfl rfl)
theorem dX6_may_29 : decode cX6_may 29 = .ok (.ifCond .ne 26, 3) := dk_154 0 26 (dk_at dksX6_may_1 5 rfl rfl)
theorem dX6_may_32 : decode cX6_may 32 = .ok (.aload_n 0, 1) := dk_42 (dk_at dksX6_may_1 8 rfl rfl)
theorem dX6_may_33 : decode cX6_may 33 = .ok (.getfield 31, 3) := dk_180 0 31 (dk_at dksX6_may_1 9 rfl rfl)
theorem dX6_may_36 : decode cX6_may 36 = .ok (.iload_n 1, 1) := dk_27 (dk_at dksX6_may_1 12 rfl rfl)
theorem dX6_may_37 : decode cX6_may 37 = .ok (.invokevirtual 152, 3) := dk_182 0 152 (dk_at dksX6_may_1 13 rfl rfl)
theorem dX6_may_40 : decode cX6_may 40 = .ok (.checkcast 72, 3) := dk_192 0 72 (dk_at dksX6_may_1 16 rfl rfl)
theorem dX6_may_43 : decode cX6_may 43 = .ok (.getfield 97, 3) := dk_180 0 97 (dk_at dksX6_may_1 19 rfl rfl)
theorem dX6_may_46 : decode cX6_may 46 = .ok (.iload_n 2, 1) := dk_28 (dk_at dksX6_may_1 22 rfl rfl)
theorem dX6_may_47 : decode cX6_may 47 = .ok (.baload, 1) := dk_51 (dk_at dksX6_may_1 23 rfl rfl)
theorem dX6_may_48 : decode cX6_may 48 = .ok (.ifCond .eq 7, 3) := dk_153 0 7 (dk_at dksX6_may_2 0 rfl rfl)
theorem dX6_may_51 : decode cX6_may 51 = .ok (.iconst 1, 1) := dk_4 (dk_at dksX6_may_2 3 rfl rfl)
theorem dX6_may_52 : decode cX6_may 52 = .ok (.goto 4, 3) := dk_167 0 4 (dk_at dksX6_may_2 4 rfl rfl)
theorem dX6_may_55 : decode cX6_may 55 = .ok (.iconst 0, 1) := dk_3 (dk_at dksX6_may_2 7 rfl rfl)
theorem dX6_may_56 : decode cX6_may 56 = .ok (.ireturn, 1) := dk_172 (dk_at dksX6_may_2 8 rfl rfl)
abbrev cX6_where : ByteArray := prog_13_method_55_code
def yX6_where : MethodName := ⟨RX6, "where", "(II)J"⟩
def dkwX6_where_1 : List UInt8 := [153, 0, 7, 9, 167, 0, 19, 42, 42, 180, 0, 31, 27, 182, 0, 152, 192, 0, 72, 28, 182, 1, 17, 173]
abbrev dktX6_where_1 : List UInt8 := dkwX6_where_1 ++ []
def dkwX6_where_0 : List UInt8 := [42, 42, 27, 182, 0, 149, 4, 182, 0, 83, 154, 0, 15, 42, 28, 184, 0, 80, 5, 182, 0, 38]
abbrev dktX6_where_0 : List UInt8 := dkwX6_where_0 ++ dktX6_where_1
theorem dksX6_where_0 : cX6_where.data.toList.drop 0 = dktX6_where_0 := by decide +kernel
theorem dksX6_where_1 : cX6_where.data.toList.drop 22 = dktX6_where_1 := dk_seg dksX6_where_0 22 rfl rfl
theorem dX6_where_0 : decode cX6_where 0 = .ok (.aload_n 0, 1) := dk_42 (dk_at dksX6_where_0 0 rfl rfl)
theorem dX6_where_1 : decode cX6_where 1 = .ok (.aload_n 0, 1) := dk_42 (dk_at dksX6_where_0 1 rfl rfl)
theorem dX6_where_2 : decode cX6_where 2 = .ok (.iload_n 1, 1) := dk_27 (dk_at dksX6_where_0 2 rfl rfl)
theorem dX6_where_3 : decode cX6_where 3 = .ok (.invokevirtual 149, 3) := dk_182 0 149 (dk_at dksX6_where_0 3 rfl rfl)
theorem dX6_where_6 : decode cX6_where 6 = .ok (.iconst 1, 1) := dk_4 (dk_at dksX6_where_0 6 rfl rfl)
theorem dX6_where_7 : decode cX6_where 7 = .ok (.invokevirtual 83, 3) := dk_182 0 83 (dk_at dksX6_where_0 7 rfl rfl)
theorem dX6_where_10 : decode cX6_where 10 = .ok (.ifCond .ne 15, 3) := dk_154 0 15 (dk_at dksX6_where_0 10 rfl rfl)
theorem dX6_where_13 : decode cX6_where 13 = .ok (.aload_n 0, 1) := dk_42 (dk_at dksX6_where_0 13 rfl rfl)
theorem dX6_where_14 : decode cX6_where 14 = .ok (.iload_n 2, 1) := dk_28 (dk_at dksX6_where_0 14 rfl rfl)
theorem dX6_where_15 : decode cX6_where 15 = .ok (.invokestatic 80, 3) := dk_184 0 80 (dk_at dksX6_where_0 15 rfl rfl)
theorem dX6_where_18 : decode cX6_where 18 = .ok (.iconst 2, 1) := dk_5 (dk_at dksX6_where_0 18 rfl rfl)
theorem dX6_where_19 : decode cX6_where 19 = .ok (.invokevirtual 38, 3) := dk_182 0 38 (dk_at dksX6_where_0 19 rfl rfl)
theorem dX6_where_22 : decode cX6_where 22 = .ok (.ifCond .eq 7, 3) := dk_153 0 7 (dk_at dksX6_where_1 0 rfl rfl)
theorem dX6_where_25 : decode cX6_where 25 = .ok (.lconst 0, 1) := dk_9 (dk_at dksX6_where_1 3 rfl rfl)
theorem dX6_where_26 : decode cX6_where 26 = .ok (.goto 19, 3) := dk_167 0 19 (dk_at dksX6_where_1 4 rfl rfl)
theorem dX6_where_29 : decode cX6_where 29 = .ok (.aload_n 0, 1) := dk_42 (dk_at dksX6_where_1 7 rfl rfl)
theorem dX6_where_30 : decode cX6_where 30 = .ok (.aload_n 0, 1) := dk_42 (dk_at dksX6_where_1 8 rfl rfl)
theorem dX6_where_31 : decode cX6_where 31 = .ok (.getfield 31, 3) := dk_180 0 31 (dk_at dksX6_where_1 9 rfl rfl)
theorem dX6_where_34 : decode cX6_where 34 = .ok (.iload_n 1, 1) := dk_27 (dk_at dksX6_where_1 12 rfl rfl)
theorem dX6_where_35 : decode cX6_where 35 = .ok (.invokevirtual 152, 3) := dk_182 0 152 (dk_at dksX6_where_1 13 rfl rfl)
theorem dX6_where_38 : decode cX6_where 38 = .ok (.checkcast 72, 3) := dk_192 0 72 (dk_at dksX6_where_1 16 rfl rfl)
theorem dX6_where_41 : decode cX6_where 41 = .ok (.iload_n 2, 1) := dk_28 (dk_at dksX6_where_1 19 rfl rfl)
theorem dX6_where_42 : decode cX6_where 42 = .ok (.invokevirtual 273, 3) := dk_182 1 17 (dk_at dksX6_where_1 20 rfl rfl)
theorem dX6_where_45 : decode cX6_where 45 = .ok (.lreturn, 1) := dk_173 (dk_at dksX6_where_1 23 rfl rfl)
abbrev cX6_whereNow : ByteArray := prog_13_method_54_code
def yX6_whereNow : MethodName := ⟨RX6, "whereNow", "(LBumpwardModel$Walker;I)J"⟩
def dkwX6_whereNow_1 : List UInt8 := [153, 0, 10, 10, 21, 5, 121, 167, 0, 4, 9, 129, 66, 132, 5, 1, 167, 255, 221, 33, 173]
abbrev dktX6_whereNow_1 : List UInt8 := dkwX6_whereNow_1 ++ []
def dkwX6_whereNow_0 : List UInt8 := [9, 66, 3, 54, 5, 21, 5, 16, 36, 162, 0, 34, 33, 43, 180, 0, 97, 7, 21, 5, 104, 28, 96, 51]
abbrev dktX6_whereNow_0 : List UInt8 := dkwX6_whereNow_0 ++ dktX6_whereNow_1
theorem dksX6_whereNow_0 : cX6_whereNow.data.toList.drop 0 = dktX6_whereNow_0 := by decide +kernel
theorem dksX6_whereNow_1 : cX6_whereNow.data.toList.drop 24 = dktX6_whereNow_1 := dk_seg dksX6_whereNow_0 24 rfl rfl
theorem dX6_whereNow_0 : decode cX6_whereNow 0 = .ok (.lconst 0, 1) := dk_9 (dk_at dksX6_whereNow_0 0 rfl rfl)
theorem dX6_whereNow_1 : decode cX6_whereNow 1 = .ok (.lstore_n 3, 1) := dk_66 (dk_at dksX6_whereNow_0 1 rfl rfl)
theorem dX6_whereNow_2 : decode cX6_whereNow 2 = .ok (.iconst 0, 1) := dk_3 (dk_at dksX6_whereNow_0 2 rfl rfl)
theorem dX6_whereNow_3 : decode cX6_whereNow 3 = .ok (.istore 5, 2) := dk_54 5 (dk_at dksX6_whereNow_0 3 rfl rfl)
theorem dX6_whereNow_5 : decode cX6_whereNow 5 = .ok (.iload 5, 2) := dk_21 5 (dk_at dksX6_whereNow_0 5 rfl rfl)
theorem dX6_whereNow_7 : decode cX6_whereNow 7 = .ok (.bipush 36, 2) := dk_16 36 (dk_at dksX6_whereNow_0 7 rfl rfl)
theorem dX6_whereNow_9 : decode cX6_whereNow 9 = .ok (.if_icmp .ge 34, 3) := dk_162 0 34 (dk_at dksX6_whereNow_0 9 rfl rfl)
theorem dX6_whereNow_12 : decode cX6_whereNow 12 = .ok (.lload_n 3, 1) := dk_33 (dk_at dksX6_whereNow_0 12 rfl rfl)
theorem dX6_whereNow_13 : decode cX6_whereNow 13 = .ok (.aload_n 1, 1) := dk_43 (dk_at dksX6_whereNow_0 13 rfl rfl)
theorem dX6_whereNow_14 : decode cX6_whereNow 14 = .ok (.getfield 97, 3) := dk_180 0 97 (dk_at dksX6_whereNow_0 14 rfl rfl)
theorem dX6_whereNow_17 : decode cX6_whereNow 17 = .ok (.iconst 4, 1) := dk_7 (dk_at dksX6_whereNow_0 17 rfl rfl)
theorem dX6_whereNow_18 : decode cX6_whereNow 18 = .ok (.iload 5, 2) := dk_21 5 (dk_at dksX6_whereNow_0 18 rfl rfl)
theorem dX6_whereNow_20 : decode cX6_whereNow 20 = .ok (.imul, 1) := dk_104 (dk_at dksX6_whereNow_0 20 rfl rfl)
theorem dX6_whereNow_21 : decode cX6_whereNow 21 = .ok (.iload_n 2, 1) := dk_28 (dk_at dksX6_whereNow_0 21 rfl rfl)
theorem dX6_whereNow_22 : decode cX6_whereNow 22 = .ok (.iadd, 1) := dk_96 (dk_at dksX6_whereNow_0 22 rfl rfl)
theorem dX6_whereNow_23 : decode cX6_whereNow 23 = .ok (.baload, 1) := dk_51 (dk_at dksX6_whereNow_0 23 rfl rfl)
theorem dX6_whereNow_24 : decode cX6_whereNow 24 = .ok (.ifCond .eq 10, 3) := dk_153 0 10 (dk_at dksX6_whereNow_1 0 rfl rfl)
theorem dX6_whereNow_27 : decode cX6_whereNow 27 = .ok (.lconst 1, 1) := dk_10 (dk_at dksX6_whereNow_1 3 rfl rfl)
theorem dX6_whereNow_28 : decode cX6_whereNow 28 = .ok (.iload 5, 2) := dk_21 5 (dk_at dksX6_whereNow_1 4 rfl rfl)
theorem dX6_whereNow_30 : decode cX6_whereNow 30 = .ok (.lshl, 1) := dk_121 (dk_at dksX6_whereNow_1 6 rfl rfl)
theorem dX6_whereNow_31 : decode cX6_whereNow 31 = .ok (.goto 4, 3) := dk_167 0 4 (dk_at dksX6_whereNow_1 7 rfl rfl)
theorem dX6_whereNow_34 : decode cX6_whereNow 34 = .ok (.lconst 0, 1) := dk_9 (dk_at dksX6_whereNow_1 10 rfl rfl)
theorem dX6_whereNow_35 : decode cX6_whereNow 35 = .ok (.lor, 1) := dk_129 (dk_at dksX6_whereNow_1 11 rfl rfl)
theorem dX6_whereNow_36 : decode cX6_whereNow 36 = .ok (.lstore_n 3, 1) := dk_66 (dk_at dksX6_whereNow_1 12 rfl rfl)
theorem dX6_whereNow_37 : decode cX6_whereNow 37 = .ok (.iinc 5 1, 3) := dk_132 5 1 (dk_at dksX6_whereNow_1 13 rfl rfl)
theorem dX6_whereNow_40 : decode cX6_whereNow 40 = .ok (.goto (-35), 3) := dk_167 255 221 (dk_at dksX6_whereNow_1 16 rfl rfl)
theorem dX6_whereNow_43 : decode cX6_whereNow 43 = .ok (.lload_n 3, 1) := dk_33 (dk_at dksX6_whereNow_1 19 rfl rfl)
theorem dX6_whereNow_44 : decode cX6_whereNow 44 = .ok (.lreturn, 1) := dk_173 (dk_at dksX6_whereNow_1 20 rfl rfl)
abbrev cX6_way_2 : ByteArray := prog_13_method_56_code
def yX6_way_2 : MethodName := ⟨RX6, "way", "(III)I"⟩
def dkwX6_way_2_2 : List UInt8 := [192, 0, 72, 28, 182, 0, 125, 29, 46, 172]
abbrev dktX6_way_2_2 : List UInt8 := dkwX6_way_2_2 ++ []
def dkwX6_way_2_1 : List UInt8 := [167, 0, 4, 3, 4, 182, 0, 83, 153, 0, 7, 3, 167, 0, 21, 42, 42, 180, 0, 31, 27, 182, 0, 152]
abbrev dktX6_way_2_1 : List UInt8 := dkwX6_way_2_1 ++ dktX6_way_2_2
def dkwX6_way_2_0 : List UInt8 := [42, 42, 27, 182, 0, 149, 154, 0, 17, 28, 184, 0, 76, 154, 0, 10, 29, 184, 0, 76, 153, 0, 7, 4]
abbrev dktX6_way_2_0 : List UInt8 := dkwX6_way_2_0 ++ dktX6_way_2_1
theorem dksX6_way_2_0 : cX6_way_2.data.toList.drop 0 = dktX6_way_2_0 := by decide +kernel
theorem dksX6_way_2_1 : cX6_way_2.data.toList.drop 24 = dktX6_way_2_1 := dk_seg dksX6_way_2_0 24 rfl rfl
theorem dksX6_way_2_2 : cX6_way_2.data.toList.drop 48 = dktX6_way_2_2 := dk_seg dksX6_way_2_1 24 rfl rfl
theorem dX6_way_2_0 : decode cX6_way_2 0 = .ok (.aload_n 0, 1) := dk_42 (dk_at dksX6_way_2_0 0 rfl rfl)
theorem dX6_way_2_1 : decode cX6_way_2 1 = .ok (.aload_n 0, 1) := dk_42 (dk_at dksX6_way_2_0 1 rfl rfl)
theorem dX6_way_2_2 : decode cX6_way_2 2 = .ok (.iload_n 1, 1) := dk_27 (dk_at dksX6_way_2_0 2 rfl rfl)
theorem dX6_way_2_3 : decode cX6_way_2 3 = .ok (.invokevirtual 149, 3) := dk_182 0 149 (dk_at dksX6_way_2_0 3 rfl rfl)
theorem dX6_way_2_6 : decode cX6_way_2 6 = .ok (.ifCond .ne 17, 3) := dk_154 0 17 (dk_at dksX6_way_2_0 6 rfl rfl)
theorem dX6_way_2_9 : decode cX6_way_2 9 = .ok (.iload_n 2, 1) := dk_28 (dk_at dksX6_way_2_0 9 rfl rfl)
theorem dX6_way_2_10 : decode cX6_way_2 10 = .ok (.invokestatic 76, 3) := dk_184 0 76 (dk_at dksX6_way_2_0 10 rfl rfl)
theorem dX6_way_2_13 : decode cX6_way_2 13 = .ok (.ifCond .ne 10, 3) := dk_154 0 10 (dk_at dksX6_way_2_0 13 rfl rfl)
theorem dX6_way_2_16 : decode cX6_way_2 16 = .ok (.iload_n 3, 1) := dk_29 (dk_at dksX6_way_2_0 16 rfl rfl)
theorem dX6_way_2_17 : decode cX6_way_2 17 = .ok (.invokestatic 76, 3) := dk_184 0 76 (dk_at dksX6_way_2_0 17 rfl rfl)
theorem dX6_way_2_20 : decode cX6_way_2 20 = .ok (.ifCond .eq 7, 3) := dk_153 0 7 (dk_at dksX6_way_2_0 20 rfl rfl)
theorem dX6_way_2_23 : decode cX6_way_2 23 = .ok (.iconst 1, 1) := dk_4 (dk_at dksX6_way_2_0 23 rfl rfl)
theorem dX6_way_2_24 : decode cX6_way_2 24 = .ok (.goto 4, 3) := dk_167 0 4 (dk_at dksX6_way_2_1 0 rfl rfl)
theorem dX6_way_2_27 : decode cX6_way_2 27 = .ok (.iconst 0, 1) := dk_3 (dk_at dksX6_way_2_1 3 rfl rfl)
theorem dX6_way_2_28 : decode cX6_way_2 28 = .ok (.iconst 1, 1) := dk_4 (dk_at dksX6_way_2_1 4 rfl rfl)
theorem dX6_way_2_29 : decode cX6_way_2 29 = .ok (.invokevirtual 83, 3) := dk_182 0 83 (dk_at dksX6_way_2_1 5 rfl rfl)
theorem dX6_way_2_32 : decode cX6_way_2 32 = .ok (.ifCond .eq 7, 3) := dk_153 0 7 (dk_at dksX6_way_2_1 8 rfl rfl)
theorem dX6_way_2_35 : decode cX6_way_2 35 = .ok (.iconst 0, 1) := dk_3 (dk_at dksX6_way_2_1 11 rfl rfl)
theorem dX6_way_2_36 : decode cX6_way_2 36 = .ok (.goto 21, 3) := dk_167 0 21 (dk_at dksX6_way_2_1 12 rfl rfl)
theorem dX6_way_2_39 : decode cX6_way_2 39 = .ok (.aload_n 0, 1) := dk_42 (dk_at dksX6_way_2_1 15 rfl rfl)
theorem dX6_way_2_40 : decode cX6_way_2 40 = .ok (.aload_n 0, 1) := dk_42 (dk_at dksX6_way_2_1 16 rfl rfl)
theorem dX6_way_2_41 : decode cX6_way_2 41 = .ok (.getfield 31, 3) := dk_180 0 31 (dk_at dksX6_way_2_1 17 rfl rfl)
theorem dX6_way_2_44 : decode cX6_way_2 44 = .ok (.iload_n 1, 1) := dk_27 (dk_at dksX6_way_2_1 20 rfl rfl)
theorem dX6_way_2_45 : decode cX6_way_2 45 = .ok (.invokevirtual 152, 3) := dk_182 0 152 (dk_at dksX6_way_2_1 21 rfl rfl)
theorem dX6_way_2_48 : decode cX6_way_2 48 = .ok (.checkcast 72, 3) := dk_192 0 72 (dk_at dksX6_way_2_2 0 rfl rfl)
theorem dX6_way_2_51 : decode cX6_way_2 51 = .ok (.iload_n 2, 1) := dk_28 (dk_at dksX6_way_2_2 3 rfl rfl)
theorem dX6_way_2_52 : decode cX6_way_2 52 = .ok (.invokevirtual 125, 3) := dk_182 0 125 (dk_at dksX6_way_2_2 4 rfl rfl)
theorem dX6_way_2_55 : decode cX6_way_2 55 = .ok (.iload_n 3, 1) := dk_29 (dk_at dksX6_way_2_2 7 rfl rfl)
theorem dX6_way_2_56 : decode cX6_way_2 56 = .ok (.iaload, 1) := dk_46 (dk_at dksX6_way_2_2 8 rfl rfl)
theorem dX6_way_2_57 : decode cX6_way_2 57 = .ok (.ireturn, 1) := dk_172 (dk_at dksX6_way_2_2 9 rfl rfl)
abbrev cX6_safety : ByteArray := prog_13_method_59_code
def yX6_safety : MethodName := ⟨RX6, "safety", "(II)I"⟩
def dkwX6_safety_2 : List UInt8 := [192, 0, 72, 28, 182, 1, 24, 172]
abbrev dktX6_safety_2 : List UInt8 := dkwX6_safety_2 ++ []
def dkwX6_safety_1 : List UInt8 := [167, 0, 4, 3, 5, 182, 0, 38, 153, 0, 7, 3, 167, 0, 19, 42, 42, 180, 0, 31, 27, 182, 0, 152]
abbrev dktX6_safety_1 : List UInt8 := dkwX6_safety_1 ++ dktX6_safety_2
def dkwX6_safety_0 : List UInt8 := [42, 42, 27, 182, 0, 149, 4, 182, 0, 83, 154, 0, 25, 42, 28, 3, 6, 184, 0, 42, 154, 0, 7, 4]
abbrev dktX6_safety_0 : List UInt8 := dkwX6_safety_0 ++ dktX6_safety_1
theorem dksX6_safety_0 : cX6_safety.data.toList.drop 0 = dktX6_safety_0 := by decide +kernel
theorem dksX6_safety_1 : cX6_safety.data.toList.drop 24 = dktX6_safety_1 := dk_seg dksX6_safety_0 24 rfl rfl
theorem dksX6_safety_2 : cX6_safety.data.toList.drop 48 = dktX6_safety_2 := dk_seg dksX6_safety_1 24 rfl rfl
theorem dX6_safety_0 : decode cX6_safety 0 = .ok (.aload_n 0, 1) := dk_42 (dk_at dksX6_safety_0 0 rfl rfl)
theorem dX6_safety_1 : decode cX6_safety 1 = .ok (.aload_n 0, 1) := dk_42 (dk_at dksX6_safety_0 1 rfl rfl)
theorem dX6_safety_2 : decode cX6_safety 2 = .ok (.iload_n 1, 1) := dk_27 (dk_at dksX6_safety_0 2 rfl rfl)
theorem dX6_safety_3 : decode cX6_safety 3 = .ok (.invokevirtual 149, 3) := dk_182 0 149 (dk_at dksX6_safety_0 3 rfl rfl)
theorem dX6_safety_6 : decode cX6_safety 6 = .ok (.iconst 1, 1) := dk_4 (dk_at dksX6_safety_0 6 rfl rfl)
theorem dX6_safety_7 : decode cX6_safety 7 = .ok (.invokevirtual 83, 3) := dk_182 0 83 (dk_at dksX6_safety_0 7 rfl rfl)
theorem dX6_safety_10 : decode cX6_safety 10 = .ok (.ifCond .ne 25, 3) := dk_154 0 25 (dk_at dksX6_safety_0 10 rfl rfl)
theorem dX6_safety_13 : decode cX6_safety 13 = .ok (.aload_n 0, 1) := dk_42 (dk_at dksX6_safety_0 13 rfl rfl)
theorem dX6_safety_14 : decode cX6_safety 14 = .ok (.iload_n 2, 1) := dk_28 (dk_at dksX6_safety_0 14 rfl rfl)
theorem dX6_safety_15 : decode cX6_safety 15 = .ok (.iconst 0, 1) := dk_3 (dk_at dksX6_safety_0 15 rfl rfl)
theorem dX6_safety_16 : decode cX6_safety 16 = .ok (.iconst 3, 1) := dk_6 (dk_at dksX6_safety_0 16 rfl rfl)
theorem dX6_safety_17 : decode cX6_safety 17 = .ok (.invokestatic 42, 3) := dk_184 0 42 (dk_at dksX6_safety_0 17 rfl rfl)
theorem dX6_safety_20 : decode cX6_safety 20 = .ok (.ifCond .ne 7, 3) := dk_154 0 7 (dk_at dksX6_safety_0 20 rfl rfl)
theorem dX6_safety_23 : decode cX6_safety 23 = .ok (.iconst 1, 1) := dk_4 (dk_at dksX6_safety_0 23 rfl rfl)
theorem dX6_safety_24 : decode cX6_safety 24 = .ok (.goto 4, 3) := dk_167 0 4 (dk_at dksX6_safety_1 0 rfl rfl)
theorem dX6_safety_27 : decode cX6_safety 27 = .ok (.iconst 0, 1) := dk_3 (dk_at dksX6_safety_1 3 rfl rfl)
theorem dX6_safety_28 : decode cX6_safety 28 = .ok (.iconst 2, 1) := dk_5 (dk_at dksX6_safety_1 4 rfl rfl)
theorem dX6_safety_29 : decode cX6_safety 29 = .ok (.invokevirtual 38, 3) := dk_182 0 38 (dk_at dksX6_safety_1 5 rfl rfl)
theorem dX6_safety_32 : decode cX6_safety 32 = .ok (.ifCond .eq 7, 3) := dk_153 0 7 (dk_at dksX6_safety_1 8 rfl rfl)
theorem dX6_safety_35 : decode cX6_safety 35 = .ok (.iconst 0, 1) := dk_3 (dk_at dksX6_safety_1 11 rfl rfl)
theorem dX6_safety_36 : decode cX6_safety 36 = .ok (.goto 19, 3) := dk_167 0 19 (dk_at dksX6_safety_1 12 rfl rfl)
theorem dX6_safety_39 : decode cX6_safety 39 = .ok (.aload_n 0, 1) := dk_42 (dk_at dksX6_safety_1 15 rfl rfl)
theorem dX6_safety_40 : decode cX6_safety 40 = .ok (.aload_n 0, 1) := dk_42 (dk_at dksX6_safety_1 16 rfl rfl)
theorem dX6_safety_41 : decode cX6_safety 41 = .ok (.getfield 31, 3) := dk_180 0 31 (dk_at dksX6_safety_1 17 rfl rfl)
theorem dX6_safety_44 : decode cX6_safety 44 = .ok (.iload_n 1, 1) := dk_27 (dk_at dksX6_safety_1 20 rfl rfl)
theorem dX6_safety_45 : decode cX6_safety 45 = .ok (.invokevirtual 152, 3) := dk_182 0 152 (dk_at dksX6_safety_1 21 rfl rfl)
theorem dX6_safety_48 : decode cX6_safety 48 = .ok (.checkcast 72, 3) := dk_192 0 72 (dk_at dksX6_safety_2 0 rfl rfl)
theorem dX6_safety_51 : decode cX6_safety 51 = .ok (.iload_n 2, 1) := dk_28 (dk_at dksX6_safety_2 3 rfl rfl)
theorem dX6_safety_52 : decode cX6_safety 52 = .ok (.invokevirtual 280, 3) := dk_182 1 24 (dk_at dksX6_safety_2 4 rfl rfl)
theorem dX6_safety_55 : decode cX6_safety 55 = .ok (.ireturn, 1) := dk_172 (dk_at dksX6_safety_2 7 rfl rfl)
abbrev cX6_safetyNow : ByteArray := prog_13_method_58_code
def yX6_safetyNow : MethodName := ⟨RX6, "safetyNow", "(LBumpwardModel$Walker;I)I"⟩
def dkwX6_safetyNow_2 : List UInt8 := [42, 43, 182, 1, 21, 172]
abbrev dktX6_safetyNow_2 : List UInt8 := dkwX6_safetyNow_2 ++ []
def dkwX6_safetyNow_1 : List UInt8 := [167, 0, 29, 28, 5, 160, 0, 19, 42, 43, 182, 0, 136, 153, 0, 7, 4, 167, 0, 12, 3, 167, 0, 8]
abbrev dktX6_safetyNow_1 : List UInt8 := dkwX6_safetyNow_1 ++ dktX6_safetyNow_2
def dkwX6_safetyNow_0 : List UInt8 := [28, 154, 0, 11, 42, 43, 182, 0, 129, 167, 0, 42, 28, 4, 160, 0, 11, 42, 43, 182, 0, 133]
abbrev dktX6_safetyNow_0 : List UInt8 := dkwX6_safetyNow_0 ++ dktX6_safetyNow_1
theorem dksX6_safetyNow_0 : cX6_safetyNow.data.toList.drop 0 = dktX6_safetyNow_0 := by decide +kernel
theorem dksX6_safetyNow_1 : cX6_safetyNow.data.toList.drop 22 = dktX6_safetyNow_1 := dk_seg dksX6_safetyNow_0 22 rfl rfl
theorem dksX6_safetyNow_2 : cX6_safetyNow.data.toList.drop 46 = dktX6_safetyNow_2 := dk_seg dksX6_safetyNow_1 24 rfl rfl
theorem dX6_safetyNow_0 : decode cX6_safetyNow 0 = .ok (.iload_n 2, 1) := dk_28 (dk_at dksX6_safetyNow_0 0 rfl rfl)
theorem dX6_safetyNow_1 : decode cX6_safetyNow 1 = .ok (.ifCond .ne 11, 3) := dk_154 0 11 (dk_at dksX6_safetyNow_0 1 rfl rfl)
theorem dX6_safetyNow_4 : decode cX6_safetyNow 4 = .ok (.aload_n 0, 1) := dk_42 (dk_at dksX6_safetyNow_0 4 rfl rfl)
theorem dX6_safetyNow_5 : decode cX6_safetyNow 5 = .ok (.aload_n 1, 1) := dk_43 (dk_at dksX6_safetyNow_0 5 rfl rfl)
theorem dX6_safetyNow_6 : decode cX6_safetyNow 6 = .ok (.invokevirtual 129, 3) := dk_182 0 129 (dk_at dksX6_safetyNow_0 6 rfl rfl)
theorem dX6_safetyNow_9 : decode cX6_safetyNow 9 = .ok (.goto 42, 3) := dk_167 0 42 (dk_at dksX6_safetyNow_0 9 rfl rfl)
theorem dX6_safetyNow_12 : decode cX6_safetyNow 12 = .ok (.iload_n 2, 1) := dk_28 (dk_at dksX6_safetyNow_0 12 rfl rfl)
theorem dX6_safetyNow_13 : decode cX6_safetyNow 13 = .ok (.iconst 1, 1) := dk_4 (dk_at dksX6_safetyNow_0 13 rfl rfl)
theorem dX6_safetyNow_14 : decode cX6_safetyNow 14 = .ok (.if_icmp .ne 11, 3) := dk_160 0 11 (dk_at dksX6_safetyNow_0 14 rfl rfl)
theorem dX6_safetyNow_17 : decode cX6_safetyNow 17 = .ok (.aload_n 0, 1) := dk_42 (dk_at dksX6_safetyNow_0 17 rfl rfl)
theorem dX6_safetyNow_18 : decode cX6_safetyNow 18 = .ok (.aload_n 1, 1) := dk_43 (dk_at dksX6_safetyNow_0 18 rfl rfl)
theorem dX6_safetyNow_19 : decode cX6_safetyNow 19 = .ok (.invokevirtual 133, 3) := dk_182 0 133 (dk_at dksX6_safetyNow_0 19 rfl rfl)
theorem dX6_safetyNow_22 : decode cX6_safetyNow 22 = .ok (.goto 29, 3) := dk_167 0 29 (dk_at dksX6_safetyNow_1 0 rfl rfl)
theorem dX6_safetyNow_25 : decode cX6_safetyNow 25 = .ok (.iload_n 2, 1) := dk_28 (dk_at dksX6_safetyNow_1 3 rfl rfl)
theorem dX6_safetyNow_26 : decode cX6_safetyNow 26 = .ok (.iconst 2, 1) := dk_5 (dk_at dksX6_safetyNow_1 4 rfl rfl)
theorem dX6_safetyNow_27 : decode cX6_safetyNow 27 = .ok (.if_icmp .ne 19, 3) := dk_160 0 19 (dk_at dksX6_safetyNow_1 5 rfl rfl)
theorem dX6_safetyNow_30 : decode cX6_safetyNow 30 = .ok (.aload_n 0, 1) := dk_42 (dk_at dksX6_safetyNow_1 8 rfl rfl)
theorem dX6_safetyNow_31 : decode cX6_safetyNow 31 = .ok (.aload_n 1, 1) := dk_43 (dk_at dksX6_safetyNow_1 9 rfl rfl)
theorem dX6_safetyNow_32 : decode cX6_safetyNow 32 = .ok (.invokevirtual 136, 3) := dk_182 0 136 (dk_at dksX6_safetyNow_1 10 rfl rfl)
theorem dX6_safetyNow_35 : decode cX6_safetyNow 35 = .ok (.ifCond .eq 7, 3) := dk_153 0 7 (dk_at dksX6_safetyNow_1 13 rfl rfl)
theorem dX6_safetyNow_38 : decode cX6_safetyNow 38 = .ok (.iconst 1, 1) := dk_4 (dk_at dksX6_safetyNow_1 16 rfl rfl)
theorem dX6_safetyNow_39 : decode cX6_safetyNow 39 = .ok (.goto 12, 3) := dk_167 0 12 (dk_at dksX6_safetyNow_1 17 rfl rfl)
theorem dX6_safetyNow_42 : decode cX6_safetyNow 42 = .ok (.iconst 0, 1) := dk_3 (dk_at dksX6_safetyNow_1 20 rfl rfl)
theorem dX6_safetyNow_43 : decode cX6_safetyNow 43 = .ok (.goto 8, 3) := dk_167 0 8 (dk_at dksX6_safetyNow_1 21 rfl rfl)
theorem dX6_safetyNow_46 : decode cX6_safetyNow 46 = .ok (.aload_n 0, 1) := dk_42 (dk_at dksX6_safetyNow_2 0 rfl rfl)
theorem dX6_safetyNow_47 : decode cX6_safetyNow 47 = .ok (.aload_n 1, 1) := dk_43 (dk_at dksX6_safetyNow_2 1 rfl rfl)
theorem dX6_safetyNow_48 : decode cX6_safetyNow 48 = .ok (.invokevirtual 277, 3) := dk_182 1 21 (dk_at dksX6_safetyNow_2 2 rfl rfl)
theorem dX6_safetyNow_51 : decode cX6_safetyNow 51 = .ok (.ireturn, 1) := dk_172 (dk_at dksX6_safetyNow_2 5 rfl rfl)
abbrev cX6_goalOf : ByteArray := prog_13_method_57_code
def yX6_goalOf : MethodName := ⟨RX6, "goalOf", "(LBumpwardModel$Walker;)I"⟩
def dkwX6_goalOf_4 : List UInt8 := [46, 44, 29, 46, 162, 0, 6, 21, 4, 62, 132, 4, 1, 167, 255, 176, 29, 172]
abbrev dktX6_goalOf_4 : List UInt8 := dkwX6_goalOf_4 ++ []
def dkwX6_goalOf_3 : List UInt8 := [167, 255, 226, 21, 5, 153, 0, 29, 44, 21, 4, 46, 2, 159, 0, 21, 29, 2, 159, 0, 13, 44, 21, 4]
abbrev dktX6_goalOf_3 : List UInt8 := dkwX6_goalOf_3 ++ dktX6_goalOf_4
def dkwX6_goalOf_2 : List UInt8 := [21, 5, 43, 21, 4, 21, 6, 184, 0, 118, 154, 0, 7, 4, 167, 0, 4, 3, 128, 54, 5, 132, 6, 1]
abbrev dktX6_goalOf_2 : List UInt8 := dkwX6_goalOf_2 ++ dktX6_goalOf_3
def dkwX6_goalOf_1 : List UInt8 := [62, 3, 54, 4, 21, 4, 16, 36, 162, 0, 79, 3, 54, 5, 3, 54, 6, 21, 6, 7, 162, 0, 30]
abbrev dktX6_goalOf_1 : List UInt8 := dkwX6_goalOf_1 ++ dktX6_goalOf_2
def dkwX6_goalOf_0 : List UInt8 := [43, 182, 0, 122, 2, 160, 0, 6, 16, 254, 172, 42, 43, 43, 182, 0, 122, 7, 108, 182, 0, 125, 77, 2]
abbrev dktX6_goalOf_0 : List UInt8 := dkwX6_goalOf_0 ++ dktX6_goalOf_1
theorem dksX6_goalOf_0 : cX6_goalOf.data.toList.drop 0 = dktX6_goalOf_0 := by decide +kernel
theorem dksX6_goalOf_1 : cX6_goalOf.data.toList.drop 24 = dktX6_goalOf_1 := dk_seg dksX6_goalOf_0 24 rfl rfl
theorem dksX6_goalOf_2 : cX6_goalOf.data.toList.drop 47 = dktX6_goalOf_2 := dk_seg dksX6_goalOf_1 23 rfl rfl
theorem dksX6_goalOf_3 : cX6_goalOf.data.toList.drop 71 = dktX6_goalOf_3 := dk_seg dksX6_goalOf_2 24 rfl rfl
theorem dksX6_goalOf_4 : cX6_goalOf.data.toList.drop 95 = dktX6_goalOf_4 := dk_seg dksX6_goalOf_3 24 rfl rfl
theorem dX6_goalOf_0 : decode cX6_goalOf 0 = .ok (.aload_n 1, 1) := dk_43 (dk_at dksX6_goalOf_0 0 rfl rfl)
theorem dX6_goalOf_1 : decode cX6_goalOf 1 = .ok (.invokevirtual 122, 3) := dk_182 0 122 (dk_at dksX6_goalOf_0 1 rfl rfl)
theorem dX6_goalOf_4 : decode cX6_goalOf 4 = .ok (.iconst (-1), 1) := dk_2 (dk_at dksX6_goalOf_0 4 rfl rfl)
theorem dX6_goalOf_5 : decode cX6_goalOf 5 = .ok (.if_icmp .ne 6, 3) := dk_160 0 6 (dk_at dksX6_goalOf_0 5 rfl rfl)
theorem dX6_goalOf_8 : decode cX6_goalOf 8 = .ok (.bipush (-2), 2) := dk_16 254 (dk_at dksX6_goalOf_0 8 rfl rfl)
theorem dX6_goalOf_10 : decode cX6_goalOf 10 = .ok (.ireturn, 1) := dk_172 (dk_at dksX6_goalOf_0 10 rfl rfl)
theorem dX6_goalOf_11 : decode cX6_goalOf 11 = .ok (.aload_n 0, 1) := dk_42 (dk_at dksX6_goalOf_0 11 rfl rfl)
theorem dX6_goalOf_12 : decode cX6_goalOf 12 = .ok (.aload_n 1, 1) := dk_43 (dk_at dksX6_goalOf_0 12 rfl rfl)
theorem dX6_goalOf_13 : decode cX6_goalOf 13 = .ok (.aload_n 1, 1) := dk_43 (dk_at dksX6_goalOf_0 13 rfl rfl)
theorem dX6_goalOf_14 : decode cX6_goalOf 14 = .ok (.invokevirtual 122, 3) := dk_182 0 122 (dk_at dksX6_goalOf_0 14 rfl rfl)
theorem dX6_goalOf_17 : decode cX6_goalOf 17 = .ok (.iconst 4, 1) := dk_7 (dk_at dksX6_goalOf_0 17 rfl rfl)
theorem dX6_goalOf_18 : decode cX6_goalOf 18 = .ok (.idiv, 1) := dk_108 (dk_at dksX6_goalOf_0 18 rfl rfl)
theorem dX6_goalOf_19 : decode cX6_goalOf 19 = .ok (.invokevirtual 125, 3) := dk_182 0 125 (dk_at dksX6_goalOf_0 19 rfl rfl)
theorem dX6_goalOf_22 : decode cX6_goalOf 22 = .ok (.astore_n 2, 1) := dk_77 (dk_at dksX6_goalOf_0 22 rfl rfl)
theorem dX6_goalOf_23 : decode cX6_goalOf 23 = .ok (.iconst (-1), 1) := dk_2 (dk_at dksX6_goalOf_0 23 rfl rfl)
theorem dX6_goalOf_24 : decode cX6_goalOf 24 = .ok (.istore_n 3, 1) := dk_62 (dk_at dksX6_goalOf_1 0 rfl rfl)
theorem dX6_goalOf_25 : decode cX6_goalOf 25 = .ok (.iconst 0, 1) := dk_3 (dk_at dksX6_goalOf_1 1 rfl rfl)
theorem dX6_goalOf_26 : decode cX6_goalOf 26 = .ok (.istore 4, 2) := dk_54 4 (dk_at dksX6_goalOf_1 2 rfl rfl)
theorem dX6_goalOf_28 : decode cX6_goalOf 28 = .ok (.iload 4, 2) := dk_21 4 (dk_at dksX6_goalOf_1 4 rfl rfl)
theorem dX6_goalOf_30 : decode cX6_goalOf 30 = .ok (.bipush 36, 2) := dk_16 36 (dk_at dksX6_goalOf_1 6 rfl rfl)
theorem dX6_goalOf_32 : decode cX6_goalOf 32 = .ok (.if_icmp .ge 79, 3) := dk_162 0 79 (dk_at dksX6_goalOf_1 8 rfl rfl)
theorem dX6_goalOf_35 : decode cX6_goalOf 35 = .ok (.iconst 0, 1) := dk_3 (dk_at dksX6_goalOf_1 11 rfl rfl)
theorem dX6_goalOf_36 : decode cX6_goalOf 36 = .ok (.istore 5, 2) := dk_54 5 (dk_at dksX6_goalOf_1 12 rfl rfl)
theorem dX6_goalOf_38 : decode cX6_goalOf 38 = .ok (.iconst 0, 1) := dk_3 (dk_at dksX6_goalOf_1 14 rfl rfl)
theorem dX6_goalOf_39 : decode cX6_goalOf 39 = .ok (.istore 6, 2) := dk_54 6 (dk_at dksX6_goalOf_1 15 rfl rfl)
theorem dX6_goalOf_41 : decode cX6_goalOf 41 = .ok (.iload 6, 2) := dk_21 6 (dk_at dksX6_goalOf_1 17 rfl rfl)
theorem dX6_goalOf_43 : decode cX6_goalOf 43 = .ok (.iconst 4, 1) := dk_7 (dk_at dksX6_goalOf_1 19 rfl rfl)
theorem dX6_goalOf_44 : decode cX6_goalOf 44 = .ok (.if_icmp .ge 30, 3) := dk_162 0 30 (dk_at dksX6_goalOf_1 20 rfl rfl)
theorem dX6_goalOf_47 : decode cX6_goalOf 47 = .ok (.iload 5, 2) := dk_21 5 (dk_at dksX6_goalOf_2 0 rfl rfl)
theorem dX6_goalOf_49 : decode cX6_goalOf 49 = .ok (.aload_n 1, 1) := dk_43 (dk_at dksX6_goalOf_2 2 rfl rfl)
theorem dX6_goalOf_50 : decode cX6_goalOf 50 = .ok (.iload 4, 2) := dk_21 4 (dk_at dksX6_goalOf_2 3 rfl rfl)
theorem dX6_goalOf_52 : decode cX6_goalOf 52 = .ok (.iload 6, 2) := dk_21 6 (dk_at dksX6_goalOf_2 5 rfl rfl)
theorem dX6_goalOf_54 : decode cX6_goalOf 54 = .ok (.invokestatic 118, 3) := dk_184 0 118 (dk_at dksX6_goalOf_2 7 rfl rfl)
theorem dX6_goalOf_57 : decode cX6_goalOf 57 = .ok (.ifCond .ne 7, 3) := dk_154 0 7 (dk_at dksX6_goalOf_2 10 rfl rfl)
theorem dX6_goalOf_60 : decode cX6_goalOf 60 = .ok (.iconst 1, 1) := dk_4 (dk_at dksX6_goalOf_2 13 rfl rfl)
theorem dX6_goalOf_61 : decode cX6_goalOf 61 = .ok (.goto 4, 3) := dk_167 0 4 (dk_at dksX6_goalOf_2 14 rfl rfl)
theorem dX6_goalOf_64 : decode cX6_goalOf 64 = .ok (.iconst 0, 1) := dk_3 (dk_at dksX6_goalOf_2 17 rfl rfl)
theorem dX6_goalOf_65 : decode cX6_goalOf 65 = .ok (.ior, 1) := dk_128 (dk_at dksX6_goalOf_2 18 rfl rfl)
theorem dX6_goalOf_66 : decode cX6_goalOf 66 = .ok (.istore 5, 2) := dk_54 5 (dk_at dksX6_goalOf_2 19 rfl rfl)
theorem dX6_goalOf_68 : decode cX6_goalOf 68 = .ok (.iinc 6 1, 3) := dk_132 6 1 (dk_at dksX6_goalOf_2 21 rfl rfl)
theorem dX6_goalOf_71 : decode cX6_goalOf 71 = .ok (.goto (-30), 3) := dk_167 255 226 (dk_at dksX6_goalOf_3 0 rfl rfl)
theorem dX6_goalOf_74 : decode cX6_goalOf 74 = .ok (.iload 5, 2) := dk_21 5 (dk_at dksX6_goalOf_3 3 rfl rfl)
theorem dX6_goalOf_76 : decode cX6_goalOf 76 = .ok (.ifCond .eq 29, 3) := dk_153 0 29 (dk_at dksX6_goalOf_3 5 rfl rfl)
theorem dX6_goalOf_79 : decode cX6_goalOf 79 = .ok (.aload_n 2, 1) := dk_44 (dk_at dksX6_goalOf_3 8 rfl rfl)
theorem dX6_goalOf_80 : decode cX6_goalOf 80 = .ok (.iload 4, 2) := dk_21 4 (dk_at dksX6_goalOf_3 9 rfl rfl)
theorem dX6_goalOf_82 : decode cX6_goalOf 82 = .ok (.iaload, 1) := dk_46 (dk_at dksX6_goalOf_3 11 rfl rfl)
theorem dX6_goalOf_83 : decode cX6_goalOf 83 = .ok (.iconst (-1), 1) := dk_2 (dk_at dksX6_goalOf_3 12 rfl rfl)
theorem dX6_goalOf_84 : decode cX6_goalOf 84 = .ok (.if_icmp .eq 21, 3) := dk_159 0 21 (dk_at dksX6_goalOf_3 13 rfl rfl)
theorem dX6_goalOf_87 : decode cX6_goalOf 87 = .ok (.iload_n 3, 1) := dk_29 (dk_at dksX6_goalOf_3 16 rfl rfl)
theorem dX6_goalOf_88 : decode cX6_goalOf 88 = .ok (.iconst (-1), 1) := dk_2 (dk_at dksX6_goalOf_3 17 rfl rfl)
theorem dX6_goalOf_89 : decode cX6_goalOf 89 = .ok (.if_icmp .eq 13, 3) := dk_159 0 13 (dk_at dksX6_goalOf_3 18 rfl rfl)
theorem dX6_goalOf_92 : decode cX6_goalOf 92 = .ok (.aload_n 2, 1) := dk_44 (dk_at dksX6_goalOf_3 21 rfl rfl)
theorem dX6_goalOf_93 : decode cX6_goalOf 93 = .ok (.iload 4, 2) := dk_21 4 (dk_at dksX6_goalOf_3 22 rfl rfl)
theorem dX6_goalOf_95 : decode cX6_goalOf 95 = .ok (.iaload, 1) := dk_46 (dk_at dksX6_goalOf_4 0 rfl rfl)
theorem dX6_goalOf_96 : decode cX6_goalOf 96 = .ok (.aload_n 2, 1) := dk_44 (dk_at dksX6_goalOf_4 1 rfl rfl)
theorem dX6_goalOf_97 : decode cX6_goalOf 97 = .ok (.iload_n 3, 1) := dk_29 (dk_at dksX6_goalOf_4 2 rfl rfl)
theorem dX6_goalOf_98 : decode cX6_goalOf 98 = .ok (.iaload, 1) := dk_46 (dk_at dksX6_goalOf_4 3 rfl rfl)
theorem dX6_goalOf_99 : decode cX6_goalOf 99 = .ok (.if_icmp .ge 6, 3) := dk_162 0 6 (dk_at dksX6_goalOf_4 4 rfl rfl)
theorem dX6_goalOf_102 : decode cX6_goalOf 102 = .ok (.iload 4, 2) := dk_21 4 (dk_at dksX6_goalOf_4 7 rfl rfl)
theorem dX6_goalOf_104 : decode cX6_goalOf 104 = .ok (.istore_n 3, 1) := dk_62 (dk_at dksX6_goalOf_4 9 rfl rfl)
theorem dX6_goalOf_105 : decode cX6_goalOf 105 = .ok (.iinc 4 1, 3) := dk_132 4 1 (dk_at dksX6_goalOf_4 10 rfl rfl)
theorem dX6_goalOf_108 : decode cX6_goalOf 108 = .ok (.goto (-80), 3) := dk_167 255 176 (dk_at dksX6_goalOf_4 13 rfl rfl)
theorem dX6_goalOf_111 : decode cX6_goalOf 111 = .ok (.iload_n 3, 1) := dk_29 (dk_at dksX6_goalOf_4 16 rfl rfl)
theorem dX6_goalOf_112 : decode cX6_goalOf 112 = .ok (.ireturn, 1) := dk_172 (dk_at dksX6_goalOf_4 17 rfl rfl)
abbrev cX6_doubt : ByteArray := prog_13_method_61_code
def yX6_doubt : MethodName := ⟨RX6, "doubt", "(I)D"⟩
def dkwX6_doubt_1 : List UInt8 := [182, 0, 152, 192, 0, 72, 182, 1, 29, 175]
abbrev dktX6_doubt_1 : List UInt8 := dkwX6_doubt_1 ++ []
def dkwX6_doubt_0 : List UInt8 := [42, 42, 27, 182, 0, 149, 4, 182, 0, 83, 153, 0, 7, 14, 167, 0, 18, 42, 42, 180, 0, 31, 27]
abbrev dktX6_doubt_0 : List UInt8 := dkwX6_doubt_0 ++ dktX6_doubt_1
theorem dksX6_doubt_0 : cX6_doubt.data.toList.drop 0 = dktX6_doubt_0 := by decide +kernel
theorem dksX6_doubt_1 : cX6_doubt.data.toList.drop 23 = dktX6_doubt_1 := dk_seg dksX6_doubt_0 23 rfl rfl
theorem dX6_doubt_0 : decode cX6_doubt 0 = .ok (.aload_n 0, 1) := dk_42 (dk_at dksX6_doubt_0 0 rfl rfl)
theorem dX6_doubt_1 : decode cX6_doubt 1 = .ok (.aload_n 0, 1) := dk_42 (dk_at dksX6_doubt_0 1 rfl rfl)
theorem dX6_doubt_2 : decode cX6_doubt 2 = .ok (.iload_n 1, 1) := dk_27 (dk_at dksX6_doubt_0 2 rfl rfl)
theorem dX6_doubt_3 : decode cX6_doubt 3 = .ok (.invokevirtual 149, 3) := dk_182 0 149 (dk_at dksX6_doubt_0 3 rfl rfl)
theorem dX6_doubt_6 : decode cX6_doubt 6 = .ok (.iconst 1, 1) := dk_4 (dk_at dksX6_doubt_0 6 rfl rfl)
theorem dX6_doubt_7 : decode cX6_doubt 7 = .ok (.invokevirtual 83, 3) := dk_182 0 83 (dk_at dksX6_doubt_0 7 rfl rfl)
theorem dX6_doubt_10 : decode cX6_doubt 10 = .ok (.ifCond .eq 7, 3) := dk_153 0 7 (dk_at dksX6_doubt_0 10 rfl rfl)
theorem dX6_doubt_13 : decode cX6_doubt 13 = .ok (.dconst 0, 1) := dk_14 (dk_at dksX6_doubt_0 13 rfl rfl)
theorem dX6_doubt_14 : decode cX6_doubt 14 = .ok (.goto 18, 3) := dk_167 0 18 (dk_at dksX6_doubt_0 14 rfl rfl)
theorem dX6_doubt_17 : decode cX6_doubt 17 = .ok (.aload_n 0, 1) := dk_42 (dk_at dksX6_doubt_0 17 rfl rfl)
theorem dX6_doubt_18 : decode cX6_doubt 18 = .ok (.aload_n 0, 1) := dk_42 (dk_at dksX6_doubt_0 18 rfl rfl)
theorem dX6_doubt_19 : decode cX6_doubt 19 = .ok (.getfield 31, 3) := dk_180 0 31 (dk_at dksX6_doubt_0 19 rfl rfl)
theorem dX6_doubt_22 : decode cX6_doubt 22 = .ok (.iload_n 1, 1) := dk_27 (dk_at dksX6_doubt_0 22 rfl rfl)
theorem dX6_doubt_23 : decode cX6_doubt 23 = .ok (.invokevirtual 152, 3) := dk_182 0 152 (dk_at dksX6_doubt_1 0 rfl rfl)
theorem dX6_doubt_26 : decode cX6_doubt 26 = .ok (.checkcast 72, 3) := dk_192 0 72 (dk_at dksX6_doubt_1 3 rfl rfl)
theorem dX6_doubt_29 : decode cX6_doubt 29 = .ok (.invokevirtual 285, 3) := dk_182 1 29 (dk_at dksX6_doubt_1 6 rfl rfl)
theorem dX6_doubt_32 : decode cX6_doubt 32 = .ok (.dreturn, 1) := dk_175 (dk_at dksX6_doubt_1 9 rfl rfl)
abbrev cX6_doubtNow : ByteArray := prog_13_method_60_code
def yX6_doubtNow : MethodName := ⟨RX6, "doubtNow", "(LBumpwardModel$Walker;)D"⟩
def dkwX6_doubtNow_3 : List UInt8 := [132, 3, 1, 167, 255, 189, 28, 135, 20, 1, 27, 111, 175]
abbrev dktX6_doubtNow_3 : List UInt8 := dkwX6_doubtNow_3 ++ []
def dkwX6_doubtNow_2 : List UInt8 := [154, 0, 16, 43, 180, 0, 97, 7, 29, 104, 6, 96, 51, 153, 0, 7, 4, 167, 0, 4, 3, 96, 61]
abbrev dktX6_doubtNow_2 : List UInt8 := dkwX6_doubtNow_2 ++ dktX6_doubtNow_3
def dkwX6_doubtNow_1 : List UInt8 := [180, 0, 97, 7, 29, 104, 4, 96, 51, 154, 0, 29, 43, 180, 0, 97, 7, 29, 104, 5, 96, 51]
abbrev dktX6_doubtNow_1 : List UInt8 := dkwX6_doubtNow_1 ++ dktX6_doubtNow_2
def dkwX6_doubtNow_0 : List UInt8 := [3, 61, 3, 62, 29, 16, 36, 162, 0, 67, 28, 43, 180, 0, 97, 7, 29, 104, 51, 154, 0, 42, 43]
abbrev dktX6_doubtNow_0 : List UInt8 := dkwX6_doubtNow_0 ++ dktX6_doubtNow_1
theorem dksX6_doubtNow_0 : cX6_doubtNow.data.toList.drop 0 = dktX6_doubtNow_0 := by decide +kernel
theorem dksX6_doubtNow_1 : cX6_doubtNow.data.toList.drop 23 = dktX6_doubtNow_1 := dk_seg dksX6_doubtNow_0 23 rfl rfl
theorem dksX6_doubtNow_2 : cX6_doubtNow.data.toList.drop 45 = dktX6_doubtNow_2 := dk_seg dksX6_doubtNow_1 22 rfl rfl
theorem dksX6_doubtNow_3 : cX6_doubtNow.data.toList.drop 68 = dktX6_doubtNow_3 := dk_seg dksX6_doubtNow_2 23 rfl rfl
theorem dX6_doubtNow_0 : decode cX6_doubtNow 0 = .ok (.iconst 0, 1) := dk_3 (dk_at dksX6_doubtNow_0 0 rfl rfl)
theorem dX6_doubtNow_1 : decode cX6_doubtNow 1 = .ok (.istore_n 2, 1) := dk_61 (dk_at dksX6_doubtNow_0 1 rfl rfl)
theorem dX6_doubtNow_2 : decode cX6_doubtNow 2 = .ok (.iconst 0, 1) := dk_3 (dk_at dksX6_doubtNow_0 2 rfl rfl)
theorem dX6_doubtNow_3 : decode cX6_doubtNow 3 = .ok (.istore_n 3, 1) := dk_62 (dk_at dksX6_doubtNow_0 3 rfl rfl)
theorem dX6_doubtNow_4 : decode cX6_doubtNow 4 = .ok (.iload_n 3, 1) := dk_29 (dk_at dksX6_doubtNow_0 4 rfl rfl)
theorem dX6_doubtNow_5 : decode cX6_doubtNow 5 = .ok (.bipush 36, 2) := dk_16 36 (dk_at dksX6_doubtNow_0 5 rfl rfl)
theorem dX6_doubtNow_7 : decode cX6_doubtNow 7 = .ok (.if_icmp .ge 67, 3) := dk_162 0 67 (dk_at dksX6_doubtNow_0 7 rfl rfl)
theorem dX6_doubtNow_10 : decode cX6_doubtNow 10 = .ok (.iload_n 2, 1) := dk_28 (dk_at dksX6_doubtNow_0 10 rfl rfl)
theorem dX6_doubtNow_11 : decode cX6_doubtNow 11 = .ok (.aload_n 1, 1) := dk_43 (dk_at dksX6_doubtNow_0 11 rfl rfl)
theorem dX6_doubtNow_12 : decode cX6_doubtNow 12 = .ok (.getfield 97, 3) := dk_180 0 97 (dk_at dksX6_doubtNow_0 12 rfl rfl)
theorem dX6_doubtNow_15 : decode cX6_doubtNow 15 = .ok (.iconst 4, 1) := dk_7 (dk_at dksX6_doubtNow_0 15 rfl rfl)
theorem dX6_doubtNow_16 : decode cX6_doubtNow 16 = .ok (.iload_n 3, 1) := dk_29 (dk_at dksX6_doubtNow_0 16 rfl rfl)
theorem dX6_doubtNow_17 : decode cX6_doubtNow 17 = .ok (.imul, 1) := dk_104 (dk_at dksX6_doubtNow_0 17 rfl rfl)
theorem dX6_doubtNow_18 : decode cX6_doubtNow 18 = .ok (.baload, 1) := dk_51 (dk_at dksX6_doubtNow_0 18 rfl rfl)
theorem dX6_doubtNow_19 : decode cX6_doubtNow 19 = .ok (.ifCond .ne 42, 3) := dk_154 0 42 (dk_at dksX6_doubtNow_0 19 rfl rfl)
theorem dX6_doubtNow_22 : decode cX6_doubtNow 22 = .ok (.aload_n 1, 1) := dk_43 (dk_at dksX6_doubtNow_0 22 rfl rfl)
theorem dX6_doubtNow_23 : decode cX6_doubtNow 23 = .ok (.getfield 97, 3) := dk_180 0 97 (dk_at dksX6_doubtNow_1 0 rfl rfl)
theorem dX6_doubtNow_26 : decode cX6_doubtNow 26 = .ok (.iconst 4, 1) := dk_7 (dk_at dksX6_doubtNow_1 3 rfl rfl)
theorem dX6_doubtNow_27 : decode cX6_doubtNow 27 = .ok (.iload_n 3, 1) := dk_29 (dk_at dksX6_doubtNow_1 4 rfl rfl)
theorem dX6_doubtNow_28 : decode cX6_doubtNow 28 = .ok (.imul, 1) := dk_104 (dk_at dksX6_doubtNow_1 5 rfl rfl)
theorem dX6_doubtNow_29 : decode cX6_doubtNow 29 = .ok (.iconst 1, 1) := dk_4 (dk_at dksX6_doubtNow_1 6 rfl rfl)
theorem dX6_doubtNow_30 : decode cX6_doubtNow 30 = .ok (.iadd, 1) := dk_96 (dk_at dksX6_doubtNow_1 7 rfl rfl)
theorem dX6_doubtNow_31 : decode cX6_doubtNow 31 = .ok (.baload, 1) := dk_51 (dk_at dksX6_doubtNow_1 8 rfl rfl)
theorem dX6_doubtNow_32 : decode cX6_doubtNow 32 = .ok (.ifCond .ne 29, 3) := dk_154 0 29 (dk_at dksX6_doubtNow_1 9 rfl rfl)
theorem dX6_doubtNow_35 : decode cX6_doubtNow 35 = .ok (.aload_n 1, 1) := dk_43 (dk_at dksX6_doubtNow_1 12 rfl rfl)
theorem dX6_doubtNow_36 : decode cX6_doubtNow 36 = .ok (.getfield 97, 3) := dk_180 0 97 (dk_at dksX6_doubtNow_1 13 rfl rfl)
theorem dX6_doubtNow_39 : decode cX6_doubtNow 39 = .ok (.iconst 4, 1) := dk_7 (dk_at dksX6_doubtNow_1 16 rfl rfl)
theorem dX6_doubtNow_40 : decode cX6_doubtNow 40 = .ok (.iload_n 3, 1) := dk_29 (dk_at dksX6_doubtNow_1 17 rfl rfl)
theorem dX6_doubtNow_41 : decode cX6_doubtNow 41 = .ok (.imul, 1) := dk_104 (dk_at dksX6_doubtNow_1 18 rfl rfl)
theorem dX6_doubtNow_42 : decode cX6_doubtNow 42 = .ok (.iconst 2, 1) := dk_5 (dk_at dksX6_doubtNow_1 19 rfl rfl)
theorem dX6_doubtNow_43 : decode cX6_doubtNow 43 = .ok (.iadd, 1) := dk_96 (dk_at dksX6_doubtNow_1 20 rfl rfl)
theorem dX6_doubtNow_44 : decode cX6_doubtNow 44 = .ok (.baload, 1) := dk_51 (dk_at dksX6_doubtNow_1 21 rfl rfl)
theorem dX6_doubtNow_45 : decode cX6_doubtNow 45 = .ok (.ifCond .ne 16, 3) := dk_154 0 16 (dk_at dksX6_doubtNow_2 0 rfl rfl)
theorem dX6_doubtNow_48 : decode cX6_doubtNow 48 = .ok (.aload_n 1, 1) := dk_43 (dk_at dksX6_doubtNow_2 3 rfl rfl)
theorem dX6_doubtNow_49 : decode cX6_doubtNow 49 = .ok (.getfield 97, 3) := dk_180 0 97 (dk_at dksX6_doubtNow_2 4 rfl rfl)
theorem dX6_doubtNow_52 : decode cX6_doubtNow 52 = .ok (.iconst 4, 1) := dk_7 (dk_at dksX6_doubtNow_2 7 rfl rfl)
theorem dX6_doubtNow_53 : decode cX6_doubtNow 53 = .ok (.iload_n 3, 1) := dk_29 (dk_at dksX6_doubtNow_2 8 rfl rfl)
theorem dX6_doubtNow_54 : decode cX6_doubtNow 54 = .ok (.imul, 1) := dk_104 (dk_at dksX6_doubtNow_2 9 rfl rfl)
theorem dX6_doubtNow_55 : decode cX6_doubtNow 55 = .ok (.iconst 3, 1) := dk_6 (dk_at dksX6_doubtNow_2 10 rfl rfl)
theorem dX6_doubtNow_56 : decode cX6_doubtNow 56 = .ok (.iadd, 1) := dk_96 (dk_at dksX6_doubtNow_2 11 rfl rfl)
theorem dX6_doubtNow_57 : decode cX6_doubtNow 57 = .ok (.baload, 1) := dk_51 (dk_at dksX6_doubtNow_2 12 rfl rfl)
theorem dX6_doubtNow_58 : decode cX6_doubtNow 58 = .ok (.ifCond .eq 7, 3) := dk_153 0 7 (dk_at dksX6_doubtNow_2 13 rfl rfl)
theorem dX6_doubtNow_61 : decode cX6_doubtNow 61 = .ok (.iconst 1, 1) := dk_4 (dk_at dksX6_doubtNow_2 16 rfl rfl)
theorem dX6_doubtNow_62 : decode cX6_doubtNow 62 = .ok (.goto 4, 3) := dk_167 0 4 (dk_at dksX6_doubtNow_2 17 rfl rfl)
theorem dX6_doubtNow_65 : decode cX6_doubtNow 65 = .ok (.iconst 0, 1) := dk_3 (dk_at dksX6_doubtNow_2 20 rfl rfl)
theorem dX6_doubtNow_66 : decode cX6_doubtNow 66 = .ok (.iadd, 1) := dk_96 (dk_at dksX6_doubtNow_2 21 rfl rfl)
theorem dX6_doubtNow_67 : decode cX6_doubtNow 67 = .ok (.istore_n 2, 1) := dk_61 (dk_at dksX6_doubtNow_2 22 rfl rfl)
theorem dX6_doubtNow_68 : decode cX6_doubtNow 68 = .ok (.iinc 3 1, 3) := dk_132 3 1 (dk_at dksX6_doubtNow_3 0 rfl rfl)
theorem dX6_doubtNow_71 : decode cX6_doubtNow 71 = .ok (.goto (-67), 3) := dk_167 255 189 (dk_at dksX6_doubtNow_3 3 rfl rfl)
theorem dX6_doubtNow_74 : decode cX6_doubtNow 74 = .ok (.iload_n 2, 1) := dk_28 (dk_at dksX6_doubtNow_3 6 rfl rfl)
theorem dX6_doubtNow_75 : decode cX6_doubtNow 75 = .ok (.i2d, 1) := dk_135 (dk_at dksX6_doubtNow_3 7 rfl rfl)
theorem dX6_doubtNow_76 : decode cX6_doubtNow 76 = .ok (.ldc2_w 283, 3) := dk_20 1 27 (dk_at dksX6_doubtNow_3 8 rfl rfl)
theorem dX6_doubtNow_79 : decode cX6_doubtNow 79 = .ok (.ddiv, 1) := dk_111 (dk_at dksX6_doubtNow_3 11 rfl rfl)
theorem dX6_doubtNow_80 : decode cX6_doubtNow 80 = .ok (.dreturn, 1) := dk_175 (dk_at dksX6_doubtNow_3 12 rfl rfl)
abbrev cX6_worst : ByteArray := prog_13_method_63_code
def yX6_worst : MethodName := ⟨RX6, "worst", "(II)I"⟩
def dkwX6_worst_2 : List UInt8 := [192, 0, 72, 28, 182, 1, 36, 172]
abbrev dktX6_worst_2 : List UInt8 := dkwX6_worst_2 ++ []
def dkwX6_worst_1 : List UInt8 := [167, 0, 4, 3, 5, 182, 0, 38, 153, 0, 7, 3, 167, 0, 19, 42, 42, 180, 0, 31, 27, 182, 0, 152]
abbrev dktX6_worst_1 : List UInt8 := dkwX6_worst_1 ++ dktX6_worst_2
def dkwX6_worst_0 : List UInt8 := [42, 42, 27, 182, 0, 149, 4, 182, 0, 83, 154, 0, 25, 42, 28, 3, 6, 184, 0, 42, 154, 0, 7, 4]
abbrev dktX6_worst_0 : List UInt8 := dkwX6_worst_0 ++ dktX6_worst_1
theorem dksX6_worst_0 : cX6_worst.data.toList.drop 0 = dktX6_worst_0 := by decide +kernel
theorem dksX6_worst_1 : cX6_worst.data.toList.drop 24 = dktX6_worst_1 := dk_seg dksX6_worst_0 24 rfl rfl
theorem dksX6_worst_2 : cX6_worst.data.toList.drop 48 = dktX6_worst_2 := dk_seg dksX6_worst_1 24 rfl rfl
theorem dX6_worst_0 : decode cX6_worst 0 = .ok (.aload_n 0, 1) := dk_42 (dk_at dksX6_worst_0 0 rfl rfl)
theorem dX6_worst_1 : decode cX6_worst 1 = .ok (.aload_n 0, 1) := dk_42 (dk_at dksX6_worst_0 1 rfl rfl)
theorem dX6_worst_2 : decode cX6_worst 2 = .ok (.iload_n 1, 1) := dk_27 (dk_at dksX6_worst_0 2 rfl rfl)
theorem dX6_worst_3 : decode cX6_worst 3 = .ok (.invokevirtual 149, 3) := dk_182 0 149 (dk_at dksX6_worst_0 3 rfl rfl)
theorem dX6_worst_6 : decode cX6_worst 6 = .ok (.iconst 1, 1) := dk_4 (dk_at dksX6_worst_0 6 rfl rfl)
theorem dX6_worst_7 : decode cX6_worst 7 = .ok (.invokevirtual 83, 3) := dk_182 0 83 (dk_at dksX6_worst_0 7 rfl rfl)
theorem dX6_worst_10 : decode cX6_worst 10 = .ok (.ifCond .ne 25, 3) := dk_154 0 25 (dk_at dksX6_worst_0 10 rfl rfl)
theorem dX6_worst_13 : decode cX6_worst 13 = .ok (.aload_n 0, 1) := dk_42 (dk_at dksX6_worst_0 13 rfl rfl)
theorem dX6_worst_14 : decode cX6_worst 14 = .ok (.iload_n 2, 1) := dk_28 (dk_at dksX6_worst_0 14 rfl rfl)
theorem dX6_worst_15 : decode cX6_worst 15 = .ok (.iconst 0, 1) := dk_3 (dk_at dksX6_worst_0 15 rfl rfl)
theorem dX6_worst_16 : decode cX6_worst 16 = .ok (.iconst 3, 1) := dk_6 (dk_at dksX6_worst_0 16 rfl rfl)
theorem dX6_worst_17 : decode cX6_worst 17 = .ok (.invokestatic 42, 3) := dk_184 0 42 (dk_at dksX6_worst_0 17 rfl rfl)
theorem dX6_worst_20 : decode cX6_worst 20 = .ok (.ifCond .ne 7, 3) := dk_154 0 7 (dk_at dksX6_worst_0 20 rfl rfl)
theorem dX6_worst_23 : decode cX6_worst 23 = .ok (.iconst 1, 1) := dk_4 (dk_at dksX6_worst_0 23 rfl rfl)
theorem dX6_worst_24 : decode cX6_worst 24 = .ok (.goto 4, 3) := dk_167 0 4 (dk_at dksX6_worst_1 0 rfl rfl)
theorem dX6_worst_27 : decode cX6_worst 27 = .ok (.iconst 0, 1) := dk_3 (dk_at dksX6_worst_1 3 rfl rfl)
theorem dX6_worst_28 : decode cX6_worst 28 = .ok (.iconst 2, 1) := dk_5 (dk_at dksX6_worst_1 4 rfl rfl)
theorem dX6_worst_29 : decode cX6_worst 29 = .ok (.invokevirtual 38, 3) := dk_182 0 38 (dk_at dksX6_worst_1 5 rfl rfl)
theorem dX6_worst_32 : decode cX6_worst 32 = .ok (.ifCond .eq 7, 3) := dk_153 0 7 (dk_at dksX6_worst_1 8 rfl rfl)
theorem dX6_worst_35 : decode cX6_worst 35 = .ok (.iconst 0, 1) := dk_3 (dk_at dksX6_worst_1 11 rfl rfl)
theorem dX6_worst_36 : decode cX6_worst 36 = .ok (.goto 19, 3) := dk_167 0 19 (dk_at dksX6_worst_1 12 rfl rfl)
theorem dX6_worst_39 : decode cX6_worst 39 = .ok (.aload_n 0, 1) := dk_42 (dk_at dksX6_worst_1 15 rfl rfl)
theorem dX6_worst_40 : decode cX6_worst 40 = .ok (.aload_n 0, 1) := dk_42 (dk_at dksX6_worst_1 16 rfl rfl)
theorem dX6_worst_41 : decode cX6_worst 41 = .ok (.getfield 31, 3) := dk_180 0 31 (dk_at dksX6_worst_1 17 rfl rfl)
theorem dX6_worst_44 : decode cX6_worst 44 = .ok (.iload_n 1, 1) := dk_27 (dk_at dksX6_worst_1 20 rfl rfl)
theorem dX6_worst_45 : decode cX6_worst 45 = .ok (.invokevirtual 152, 3) := dk_182 0 152 (dk_at dksX6_worst_1 21 rfl rfl)
theorem dX6_worst_48 : decode cX6_worst 48 = .ok (.checkcast 72, 3) := dk_192 0 72 (dk_at dksX6_worst_2 0 rfl rfl)
theorem dX6_worst_51 : decode cX6_worst 51 = .ok (.iload_n 2, 1) := dk_28 (dk_at dksX6_worst_2 3 rfl rfl)
theorem dX6_worst_52 : decode cX6_worst 52 = .ok (.invokevirtual 292, 3) := dk_182 1 36 (dk_at dksX6_worst_2 4 rfl rfl)
theorem dX6_worst_55 : decode cX6_worst 55 = .ok (.ireturn, 1) := dk_172 (dk_at dksX6_worst_2 7 rfl rfl)
abbrev cX6_worstNow : ByteArray := prog_13_method_62_code
def yX6_worstNow : MethodName := ⟨RX6, "worstNow", "(LBumpwardModel$Walker;I)I"⟩
def dkwX6_worstNow_3 : List UInt8 := [172]
abbrev dktX6_worstNow_3 : List UInt8 := dkwX6_worstNow_3 ++ []
def dkwX6_worstNow_2 : List UInt8 := [162, 0, 23, 29, 43, 21, 4, 184, 0, 196, 184, 0, 93, 184, 1, 33, 62, 132, 4, 1, 167, 255, 232, 29]
abbrev dktX6_worstNow_2 : List UInt8 := dkwX6_worstNow_2 ++ dktX6_worstNow_3
def dkwX6_worstNow_1 : List UInt8 := [184, 0, 93, 43, 3, 184, 0, 179, 184, 0, 93, 184, 1, 33, 172, 3, 62, 3, 54, 4, 21, 4, 16, 8]
abbrev dktX6_worstNow_1 : List UInt8 := dkwX6_worstNow_1 ++ dktX6_worstNow_2
def dkwX6_worstNow_0 : List UInt8 := [28, 4, 159, 0, 8, 28, 5, 160, 0, 8, 43, 182, 0, 143, 172, 28, 154, 0, 23, 43, 4, 184, 0, 179]
abbrev dktX6_worstNow_0 : List UInt8 := dkwX6_worstNow_0 ++ dktX6_worstNow_1
theorem dksX6_worstNow_0 : cX6_worstNow.data.toList.drop 0 = dktX6_worstNow_0 := by decide +kernel
theorem dksX6_worstNow_1 : cX6_worstNow.data.toList.drop 24 = dktX6_worstNow_1 := dk_seg dksX6_worstNow_0 24 rfl rfl
theorem dksX6_worstNow_2 : cX6_worstNow.data.toList.drop 48 = dktX6_worstNow_2 := dk_seg dksX6_worstNow_1 24 rfl rfl
theorem dksX6_worstNow_3 : cX6_worstNow.data.toList.drop 72 = dktX6_worstNow_3 := dk_seg dksX6_worstNow_2 24 rfl rfl
theorem dX6_worstNow_0 : decode cX6_worstNow 0 = .ok (.iload_n 2, 1) := dk_28 (dk_at dksX6_worstNow_0 0 rfl rfl)
theorem dX6_worstNow_1 : decode cX6_worstNow 1 = .ok (.iconst 1, 1) := dk_4 (dk_at dksX6_worstNow_0 1 rfl rfl)
theorem dX6_worstNow_2 : decode cX6_worstNow 2 = .ok (.if_icmp .eq 8, 3) := dk_159 0 8 (dk_at dksX6_worstNow_0 2 rfl rfl)
theorem dX6_worstNow_5 : decode cX6_worstNow 5 = .ok (.iload_n 2, 1) := dk_28 (dk_at dksX6_worstNow_0 5 rfl rfl)
theorem dX6_worstNow_6 : decode cX6_worstNow 6 = .ok (.iconst 2, 1) := dk_5 (dk_at dksX6_worstNow_0 6 rfl rfl)
theorem dX6_worstNow_7 : decode cX6_worstNow 7 = .ok (.if_icmp .ne 8, 3) := dk_160 0 8 (dk_at dksX6_worstNow_0 7 rfl rfl)
theorem dX6_worstNow_10 : decode cX6_worstNow 10 = .ok (.aload_n 1, 1) := dk_43 (dk_at dksX6_worstNow_0 10 rfl rfl)
theorem dX6_worstNow_11 : decode cX6_worstNow 11 = .ok (.invokevirtual 143, 3) := dk_182 0 143 (dk_at dksX6_worstNow_0 11 rfl rfl)
theorem dX6_worstNow_14 : decode cX6_worstNow 14 = .ok (.ireturn, 1) := dk_172 (dk_at dksX6_worstNow_0 14 rfl rfl)
theorem dX6_worstNow_15 : decode cX6_worstNow 15 = .ok (.iload_n 2, 1) := dk_28 (dk_at dksX6_worstNow_0 15 rfl rfl)
theorem dX6_worstNow_16 : decode cX6_worstNow 16 = .ok (.ifCond .ne 23, 3) := dk_154 0 23 (dk_at dksX6_worstNow_0 16 rfl rfl)
theorem dX6_worstNow_19 : decode cX6_worstNow 19 = .ok (.aload_n 1, 1) := dk_43 (dk_at dksX6_worstNow_0 19 rfl rfl)
theorem dX6_worstNow_20 : decode cX6_worstNow 20 = .ok (.iconst 1, 1) := dk_4 (dk_at dksX6_worstNow_0 20 rfl rfl)
theorem dX6_worstNow_21 : decode cX6_worstNow 21 = .ok (.invokestatic 179, 3) := dk_184 0 179 (dk_at dksX6_worstNow_0 21 rfl rfl)
theorem dX6_worstNow_24 : decode cX6_worstNow 24 = .ok (.invokestatic 93, 3) := dk_184 0 93 (dk_at dksX6_worstNow_1 0 rfl rfl)
theorem dX6_worstNow_27 : decode cX6_worstNow 27 = .ok (.aload_n 1, 1) := dk_43 (dk_at dksX6_worstNow_1 3 rfl rfl)
theorem dX6_worstNow_28 : decode cX6_worstNow 28 = .ok (.iconst 0, 1) := dk_3 (dk_at dksX6_worstNow_1 4 rfl rfl)
theorem dX6_worstNow_29 : decode cX6_worstNow 29 = .ok (.invokestatic 179, 3) := dk_184 0 179 (dk_at dksX6_worstNow_1 5 rfl rfl)
theorem dX6_worstNow_32 : decode cX6_worstNow 32 = .ok (.invokestatic 93, 3) := dk_184 0 93 (dk_at dksX6_worstNow_1 8 rfl rfl)
theorem dX6_worstNow_35 : decode cX6_worstNow 35 = .ok (.invokestatic 289, 3) := dk_184 1 33 (dk_at dksX6_worstNow_1 11 rfl rfl)
theorem dX6_worstNow_38 : decode cX6_worstNow 38 = .ok (.ireturn, 1) := dk_172 (dk_at dksX6_worstNow_1 14 rfl rfl)
theorem dX6_worstNow_39 : decode cX6_worstNow 39 = .ok (.iconst 0, 1) := dk_3 (dk_at dksX6_worstNow_1 15 rfl rfl)
theorem dX6_worstNow_40 : decode cX6_worstNow 40 = .ok (.istore_n 3, 1) := dk_62 (dk_at dksX6_worstNow_1 16 rfl rfl)
theorem dX6_worstNow_41 : decode cX6_worstNow 41 = .ok (.iconst 0, 1) := dk_3 (dk_at dksX6_worstNow_1 17 rfl rfl)
theorem dX6_worstNow_42 : decode cX6_worstNow 42 = .ok (.istore 4, 2) := dk_54 4 (dk_at dksX6_worstNow_1 18 rfl rfl)
theorem dX6_worstNow_44 : decode cX6_worstNow 44 = .ok (.iload 4, 2) := dk_21 4 (dk_at dksX6_worstNow_1 20 rfl rfl)
theorem dX6_worstNow_46 : decode cX6_worstNow 46 = .ok (.bipush 8, 2) := dk_16 8 (dk_at dksX6_worstNow_1 22 rfl rfl)
theorem dX6_worstNow_48 : decode cX6_worstNow 48 = .ok (.if_icmp .ge 23, 3) := dk_162 0 23 (dk_at dksX6_worstNow_2 0 rfl rfl)
theorem dX6_worstNow_51 : decode cX6_worstNow 51 = .ok (.iload_n 3, 1) := dk_29 (dk_at dksX6_worstNow_2 3 rfl rfl)
theorem dX6_worstNow_52 : decode cX6_worstNow 52 = .ok (.aload_n 1, 1) := dk_43 (dk_at dksX6_worstNow_2 4 rfl rfl)
theorem dX6_worstNow_53 : decode cX6_worstNow 53 = .ok (.iload 4, 2) := dk_21 4 (dk_at dksX6_worstNow_2 5 rfl rfl)
theorem dX6_worstNow_55 : decode cX6_worstNow 55 = .ok (.invokestatic 196, 3) := dk_184 0 196 (dk_at dksX6_worstNow_2 7 rfl rfl)
theorem dX6_worstNow_58 : decode cX6_worstNow 58 = .ok (.invokestatic 93, 3) := dk_184 0 93 (dk_at dksX6_worstNow_2 10 rfl rfl)
theorem dX6_worstNow_61 : decode cX6_worstNow 61 = .ok (.invokestatic 289, 3) := dk_184 1 33 (dk_at dksX6_worstNow_2 13 rfl rfl)
theorem dX6_worstNow_64 : decode cX6_worstNow 64 = .ok (.istore_n 3, 1) := dk_62 (dk_at dksX6_worstNow_2 16 rfl rfl)
theorem dX6_worstNow_65 : decode cX6_worstNow 65 = .ok (.iinc 4 1, 3) := dk_132 4 1 (dk_at dksX6_worstNow_2 17 rfl rfl)
theorem dX6_worstNow_68 : decode cX6_worstNow 68 = .ok (.goto (-24), 3) := dk_167 255 232 (dk_at dksX6_worstNow_2 20 rfl rfl)
theorem dX6_worstNow_71 : decode cX6_worstNow 71 = .ok (.iload_n 3, 1) := dk_29 (dk_at dksX6_worstNow_2 23 rfl rfl)
theorem dX6_worstNow_72 : decode cX6_worstNow 72 = .ok (.ireturn, 1) := dk_172 (dk_at dksX6_worstNow_3 0 rfl rfl)
abbrev cX6_best : ByteArray := prog_13_method_65_code
def yX6_best : MethodName := ⟨RX6, "best", "(I)I"⟩
def dkwX6_best_1 : List UInt8 := [182, 0, 152, 192, 0, 72, 182, 1, 39, 172]
abbrev dktX6_best_1 : List UInt8 := dkwX6_best_1 ++ []
def dkwX6_best_0 : List UInt8 := [42, 42, 27, 182, 0, 149, 4, 182, 0, 83, 153, 0, 7, 3, 167, 0, 18, 42, 42, 180, 0, 31, 27]
abbrev dktX6_best_0 : List UInt8 := dkwX6_best_0 ++ dktX6_best_1
theorem dksX6_best_0 : cX6_best.data.toList.drop 0 = dktX6_best_0 := by decide +kernel
theorem dksX6_best_1 : cX6_best.data.toList.drop 23 = dktX6_best_1 := dk_seg dksX6_best_0 23 rfl rfl
theorem dX6_best_0 : decode cX6_best 0 = .ok (.aload_n 0, 1) := dk_42 (dk_at dksX6_best_0 0 rfl rfl)
theorem dX6_best_1 : decode cX6_best 1 = .ok (.aload_n 0, 1) := dk_42 (dk_at dksX6_best_0 1 rfl rfl)
theorem dX6_best_2 : decode cX6_best 2 = .ok (.iload_n 1, 1) := dk_27 (dk_at dksX6_best_0 2 rfl rfl)
theorem dX6_best_3 : decode cX6_best 3 = .ok (.invokevirtual 149, 3) := dk_182 0 149 (dk_at dksX6_best_0 3 rfl rfl)
theorem dX6_best_6 : decode cX6_best 6 = .ok (.iconst 1, 1) := dk_4 (dk_at dksX6_best_0 6 rfl rfl)
theorem dX6_best_7 : decode cX6_best 7 = .ok (.invokevirtual 83, 3) := dk_182 0 83 (dk_at dksX6_best_0 7 rfl rfl)
theorem dX6_best_10 : decode cX6_best 10 = .ok (.ifCond .eq 7, 3) := dk_153 0 7 (dk_at dksX6_best_0 10 rfl rfl)
theorem dX6_best_13 : decode cX6_best 13 = .ok (.iconst 0, 1) := dk_3 (dk_at dksX6_best_0 13 rfl rfl)
theorem dX6_best_14 : decode cX6_best 14 = .ok (.goto 18, 3) := dk_167 0 18 (dk_at dksX6_best_0 14 rfl rfl)
theorem dX6_best_17 : decode cX6_best 17 = .ok (.aload_n 0, 1) := dk_42 (dk_at dksX6_best_0 17 rfl rfl)
theorem dX6_best_18 : decode cX6_best 18 = .ok (.aload_n 0, 1) := dk_42 (dk_at dksX6_best_0 18 rfl rfl)
theorem dX6_best_19 : decode cX6_best 19 = .ok (.getfield 31, 3) := dk_180 0 31 (dk_at dksX6_best_0 19 rfl rfl)
theorem dX6_best_22 : decode cX6_best 22 = .ok (.iload_n 1, 1) := dk_27 (dk_at dksX6_best_0 22 rfl rfl)
theorem dX6_best_23 : decode cX6_best 23 = .ok (.invokevirtual 152, 3) := dk_182 0 152 (dk_at dksX6_best_1 0 rfl rfl)
theorem dX6_best_26 : decode cX6_best 26 = .ok (.checkcast 72, 3) := dk_192 0 72 (dk_at dksX6_best_1 3 rfl rfl)
theorem dX6_best_29 : decode cX6_best 29 = .ok (.invokevirtual 295, 3) := dk_182 1 39 (dk_at dksX6_best_1 6 rfl rfl)
theorem dX6_best_32 : decode cX6_best 32 = .ok (.ireturn, 1) := dk_172 (dk_at dksX6_best_1 9 rfl rfl)
abbrev cX6_bestNow : ByteArray := prog_13_method_64_code
def yX6_bestNow : MethodName := ⟨RX6, "bestNow", "(LBumpwardModel$Walker;)I"⟩
def dkwX6_bestNow_1 : List UInt8 := [29, 61, 132, 3, 1, 167, 255, 231, 28, 172]
abbrev dktX6_bestNow_1 : List UInt8 := dkwX6_bestNow_1 ++ []
def dkwX6_bestNow_0 : List UInt8 := [3, 61, 4, 62, 29, 7, 162, 0, 26, 42, 43, 29, 182, 1, 36, 42, 43, 28, 182, 1, 36, 162, 0, 5]
abbrev dktX6_bestNow_0 : List UInt8 := dkwX6_bestNow_0 ++ dktX6_bestNow_1
theorem dksX6_bestNow_0 : cX6_bestNow.data.toList.drop 0 = dktX6_bestNow_0 := by decide +kernel
theorem dksX6_bestNow_1 : cX6_bestNow.data.toList.drop 24 = dktX6_bestNow_1 := dk_seg dksX6_bestNow_0 24 rfl rfl
theorem dX6_bestNow_0 : decode cX6_bestNow 0 = .ok (.iconst 0, 1) := dk_3 (dk_at dksX6_bestNow_0 0 rfl rfl)
theorem dX6_bestNow_1 : decode cX6_bestNow 1 = .ok (.istore_n 2, 1) := dk_61 (dk_at dksX6_bestNow_0 1 rfl rfl)
theorem dX6_bestNow_2 : decode cX6_bestNow 2 = .ok (.iconst 1, 1) := dk_4 (dk_at dksX6_bestNow_0 2 rfl rfl)
theorem dX6_bestNow_3 : decode cX6_bestNow 3 = .ok (.istore_n 3, 1) := dk_62 (dk_at dksX6_bestNow_0 3 rfl rfl)
theorem dX6_bestNow_4 : decode cX6_bestNow 4 = .ok (.iload_n 3, 1) := dk_29 (dk_at dksX6_bestNow_0 4 rfl rfl)
theorem dX6_bestNow_5 : decode cX6_bestNow 5 = .ok (.iconst 4, 1) := dk_7 (dk_at dksX6_bestNow_0 5 rfl rfl)
theorem dX6_bestNow_6 : decode cX6_bestNow 6 = .ok (.if_icmp .ge 26, 3) := dk_162 0 26 (dk_at dksX6_bestNow_0 6 rfl rfl)
theorem dX6_bestNow_9 : decode cX6_bestNow 9 = .ok (.aload_n 0, 1) := dk_42 (dk_at dksX6_bestNow_0 9 rfl rfl)
theorem dX6_bestNow_10 : decode cX6_bestNow 10 = .ok (.aload_n 1, 1) := dk_43 (dk_at dksX6_bestNow_0 10 rfl rfl)
theorem dX6_bestNow_11 : decode cX6_bestNow 11 = .ok (.iload_n 3, 1) := dk_29 (dk_at dksX6_bestNow_0 11 rfl rfl)
theorem dX6_bestNow_12 : decode cX6_bestNow 12 = .ok (.invokevirtual 292, 3) := dk_182 1 36 (dk_at dksX6_bestNow_0 12 rfl rfl)
theorem dX6_bestNow_15 : decode cX6_bestNow 15 = .ok (.aload_n 0, 1) := dk_42 (dk_at dksX6_bestNow_0 15 rfl rfl)
theorem dX6_bestNow_16 : decode cX6_bestNow 16 = .ok (.aload_n 1, 1) := dk_43 (dk_at dksX6_bestNow_0 16 rfl rfl)
theorem dX6_bestNow_17 : decode cX6_bestNow 17 = .ok (.iload_n 2, 1) := dk_28 (dk_at dksX6_bestNow_0 17 rfl rfl)
theorem dX6_bestNow_18 : decode cX6_bestNow 18 = .ok (.invokevirtual 292, 3) := dk_182 1 36 (dk_at dksX6_bestNow_0 18 rfl rfl)
theorem dX6_bestNow_21 : decode cX6_bestNow 21 = .ok (.if_icmp .ge 5, 3) := dk_162 0 5 (dk_at dksX6_bestNow_0 21 rfl rfl)
theorem dX6_bestNow_24 : decode cX6_bestNow 24 = .ok (.iload_n 3, 1) := dk_29 (dk_at dksX6_bestNow_1 0 rfl rfl)
theorem dX6_bestNow_25 : decode cX6_bestNow 25 = .ok (.istore_n 2, 1) := dk_61 (dk_at dksX6_bestNow_1 1 rfl rfl)
theorem dX6_bestNow_26 : decode cX6_bestNow 26 = .ok (.iinc 3 1, 3) := dk_132 3 1 (dk_at dksX6_bestNow_1 2 rfl rfl)
theorem dX6_bestNow_29 : decode cX6_bestNow 29 = .ok (.goto (-25), 3) := dk_167 255 231 (dk_at dksX6_bestNow_1 5 rfl rfl)
theorem dX6_bestNow_32 : decode cX6_bestNow 32 = .ok (.iload_n 2, 1) := dk_28 (dk_at dksX6_bestNow_1 8 rfl rfl)
theorem dX6_bestNow_33 : decode cX6_bestNow 33 = .ok (.ireturn, 1) := dk_172 (dk_at dksX6_bestNow_1 9 rfl rfl)
abbrev cX6_wouldFeel : ByteArray := prog_13_method_66_code
def yX6_wouldFeel : MethodName := ⟨RX6, "wouldFeel", "(II)I"⟩
def dkwX6_wouldFeel_2 : List UInt8 := [192, 0, 72, 28, 184, 0, 196, 184, 0, 93, 172]
abbrev dktX6_wouldFeel_2 : List UInt8 := dkwX6_wouldFeel_2 ++ []
def dkwX6_wouldFeel_1 : List UInt8 := [4, 167, 0, 4, 3, 5, 182, 0, 38, 153, 0, 7, 3, 167, 0, 21, 42, 180, 0, 31, 27, 182, 0, 152]
abbrev dktX6_wouldFeel_1 : List UInt8 := dkwX6_wouldFeel_1 ++ dktX6_wouldFeel_2
def dkwX6_wouldFeel_0 : List UInt8 := [42, 42, 27, 182, 0, 149, 4, 182, 0, 83, 154, 0, 26, 42, 28, 3, 16, 7, 184, 0, 42, 154, 0, 7]
abbrev dktX6_wouldFeel_0 : List UInt8 := dkwX6_wouldFeel_0 ++ dktX6_wouldFeel_1
theorem dksX6_wouldFeel_0 : cX6_wouldFeel.data.toList.drop 0 = dktX6_wouldFeel_0 := by decide +kernel
theorem dksX6_wouldFeel_1 : cX6_wouldFeel.data.toList.drop 24 = dktX6_wouldFeel_1 := dk_seg dksX6_wouldFeel_0 24 rfl rfl
theorem dksX6_wouldFeel_2 : cX6_wouldFeel.data.toList.drop 48 = dktX6_wouldFeel_2 := dk_seg dksX6_wouldFeel_1 24 rfl rfl
theorem dX6_wouldFeel_0 : decode cX6_wouldFeel 0 = .ok (.aload_n 0, 1) := dk_42 (dk_at dksX6_wouldFeel_0 0 rfl rfl)
theorem dX6_wouldFeel_1 : decode cX6_wouldFeel 1 = .ok (.aload_n 0, 1) := dk_42 (dk_at dksX6_wouldFeel_0 1 rfl rfl)
theorem dX6_wouldFeel_2 : decode cX6_wouldFeel 2 = .ok (.iload_n 1, 1) := dk_27 (dk_at dksX6_wouldFeel_0 2 rfl rfl)
theorem dX6_wouldFeel_3 : decode cX6_wouldFeel 3 = .ok (.invokevirtual 149, 3) := dk_182 0 149 (dk_at dksX6_wouldFeel_0 3 rfl rfl)
theorem dX6_wouldFeel_6 : decode cX6_wouldFeel 6 = .ok (.iconst 1, 1) := dk_4 (dk_at dksX6_wouldFeel_0 6 rfl rfl)
theorem dX6_wouldFeel_7 : decode cX6_wouldFeel 7 = .ok (.invokevirtual 83, 3) := dk_182 0 83 (dk_at dksX6_wouldFeel_0 7 rfl rfl)
theorem dX6_wouldFeel_10 : decode cX6_wouldFeel 10 = .ok (.ifCond .ne 26, 3) := dk_154 0 26 (dk_at dksX6_wouldFeel_0 10 rfl rfl)
theorem dX6_wouldFeel_13 : decode cX6_wouldFeel 13 = .ok (.aload_n 0, 1) := dk_42 (dk_at dksX6_wouldFeel_0 13 rfl rfl)
theorem dX6_wouldFeel_14 : decode cX6_wouldFeel 14 = .ok (.iload_n 2, 1) := dk_28 (dk_at dksX6_wouldFeel_0 14 rfl rfl)
theorem dX6_wouldFeel_15 : decode cX6_wouldFeel 15 = .ok (.iconst 0, 1) := dk_3 (dk_at dksX6_wouldFeel_0 15 rfl rfl)
theorem dX6_wouldFeel_16 : decode cX6_wouldFeel 16 = .ok (.bipush 7, 2) := dk_16 7 (dk_at dksX6_wouldFeel_0 16 rfl rfl)
theorem dX6_wouldFeel_18 : decode cX6_wouldFeel 18 = .ok (.invokestatic 42, 3) := dk_184 0 42 (dk_at dksX6_wouldFeel_0 18 rfl rfl)
theorem dX6_wouldFeel_21 : decode cX6_wouldFeel 21 = .ok (.ifCond .ne 7, 3) := dk_154 0 7 (dk_at dksX6_wouldFeel_0 21 rfl rfl)
theorem dX6_wouldFeel_24 : decode cX6_wouldFeel 24 = .ok (.iconst 1, 1) := dk_4 (dk_at dksX6_wouldFeel_1 0 rfl rfl)
theorem dX6_wouldFeel_25 : decode cX6_wouldFeel 25 = .ok (.goto 4, 3) := dk_167 0 4 (dk_at dksX6_wouldFeel_1 1 rfl rfl)
theorem dX6_wouldFeel_28 : decode cX6_wouldFeel 28 = .ok (.iconst 0, 1) := dk_3 (dk_at dksX6_wouldFeel_1 4 rfl rfl)
theorem dX6_wouldFeel_29 : decode cX6_wouldFeel 29 = .ok (.iconst 2, 1) := dk_5 (dk_at dksX6_wouldFeel_1 5 rfl rfl)
theorem dX6_wouldFeel_30 : decode cX6_wouldFeel 30 = .ok (.invokevirtual 38, 3) := dk_182 0 38 (dk_at dksX6_wouldFeel_1 6 rfl rfl)
theorem dX6_wouldFeel_33 : decode cX6_wouldFeel 33 = .ok (.ifCond .eq 7, 3) := dk_153 0 7 (dk_at dksX6_wouldFeel_1 9 rfl rfl)
theorem dX6_wouldFeel_36 : decode cX6_wouldFeel 36 = .ok (.iconst 0, 1) := dk_3 (dk_at dksX6_wouldFeel_1 12 rfl rfl)
theorem dX6_wouldFeel_37 : decode cX6_wouldFeel 37 = .ok (.goto 21, 3) := dk_167 0 21 (dk_at dksX6_wouldFeel_1 13 rfl rfl)
theorem dX6_wouldFeel_40 : decode cX6_wouldFeel 40 = .ok (.aload_n 0, 1) := dk_42 (dk_at dksX6_wouldFeel_1 16 rfl rfl)
theorem dX6_wouldFeel_41 : decode cX6_wouldFeel 41 = .ok (.getfield 31, 3) := dk_180 0 31 (dk_at dksX6_wouldFeel_1 17 rfl rfl)
theorem dX6_wouldFeel_44 : decode cX6_wouldFeel 44 = .ok (.iload_n 1, 1) := dk_27 (dk_at dksX6_wouldFeel_1 20 rfl rfl)
theorem dX6_wouldFeel_45 : decode cX6_wouldFeel 45 = .ok (.invokevirtual 152, 3) := dk_182 0 152 (dk_at dksX6_wouldFeel_1 21 rfl rfl)
theorem dX6_wouldFeel_48 : decode cX6_wouldFeel 48 = .ok (.checkcast 72, 3) := dk_192 0 72 (dk_at dksX6_wouldFeel_2 0 rfl rfl)
theorem dX6_wouldFeel_51 : decode cX6_wouldFeel 51 = .ok (.iload_n 2, 1) := dk_28 (dk_at dksX6_wouldFeel_2 3 rfl rfl)
theorem dX6_wouldFeel_52 : decode cX6_wouldFeel 52 = .ok (.invokestatic 196, 3) := dk_184 0 196 (dk_at dksX6_wouldFeel_2 4 rfl rfl)
theorem dX6_wouldFeel_55 : decode cX6_wouldFeel 55 = .ok (.invokestatic 93, 3) := dk_184 0 93 (dk_at dksX6_wouldFeel_2 7 rfl rfl)
theorem dX6_wouldFeel_58 : decode cX6_wouldFeel 58 = .ok (.ireturn, 1) := dk_172 (dk_at dksX6_wouldFeel_2 10 rfl rfl)
abbrev cX6_wouldBe : ByteArray := prog_13_method_67_code
def yX6_wouldBe : MethodName := ⟨RX6, "wouldBe", "(II)I"⟩
def dkwX6_wouldBe_1 : List UInt8 := [3, 167, 0, 9, 42, 27, 28, 182, 0, 193, 172]
abbrev dktX6_wouldBe_1 : List UInt8 := dkwX6_wouldBe_1 ++ []
def dkwX6_wouldBe_0 : List UInt8 := [42, 27, 184, 0, 76, 4, 182, 0, 83, 154, 0, 15, 42, 28, 184, 0, 80, 5, 182, 0, 38, 153, 0, 7]
abbrev dktX6_wouldBe_0 : List UInt8 := dkwX6_wouldBe_0 ++ dktX6_wouldBe_1
theorem dksX6_wouldBe_0 : cX6_wouldBe.data.toList.drop 0 = dktX6_wouldBe_0 := by decide +kernel
theorem dksX6_wouldBe_1 : cX6_wouldBe.data.toList.drop 24 = dktX6_wouldBe_1 := dk_seg dksX6_wouldBe_0 24 rfl rfl
theorem dX6_wouldBe_0 : decode cX6_wouldBe 0 = .ok (.aload_n 0, 1) := dk_42 (dk_at dksX6_wouldBe_0 0 rfl rfl)
theorem dX6_wouldBe_1 : decode cX6_wouldBe 1 = .ok (.iload_n 1, 1) := dk_27 (dk_at dksX6_wouldBe_0 1 rfl rfl)
theorem dX6_wouldBe_2 : decode cX6_wouldBe 2 = .ok (.invokestatic 76, 3) := dk_184 0 76 (dk_at dksX6_wouldBe_0 2 rfl rfl)
theorem dX6_wouldBe_5 : decode cX6_wouldBe 5 = .ok (.iconst 1, 1) := dk_4 (dk_at dksX6_wouldBe_0 5 rfl rfl)
theorem dX6_wouldBe_6 : decode cX6_wouldBe 6 = .ok (.invokevirtual 83, 3) := dk_182 0 83 (dk_at dksX6_wouldBe_0 6 rfl rfl)
theorem dX6_wouldBe_9 : decode cX6_wouldBe 9 = .ok (.ifCond .ne 15, 3) := dk_154 0 15 (dk_at dksX6_wouldBe_0 9 rfl rfl)
theorem dX6_wouldBe_12 : decode cX6_wouldBe 12 = .ok (.aload_n 0, 1) := dk_42 (dk_at dksX6_wouldBe_0 12 rfl rfl)
theorem dX6_wouldBe_13 : decode cX6_wouldBe 13 = .ok (.iload_n 2, 1) := dk_28 (dk_at dksX6_wouldBe_0 13 rfl rfl)
theorem dX6_wouldBe_14 : decode cX6_wouldBe 14 = .ok (.invokestatic 80, 3) := dk_184 0 80 (dk_at dksX6_wouldBe_0 14 rfl rfl)
theorem dX6_wouldBe_17 : decode cX6_wouldBe 17 = .ok (.iconst 2, 1) := dk_5 (dk_at dksX6_wouldBe_0 17 rfl rfl)
theorem dX6_wouldBe_18 : decode cX6_wouldBe 18 = .ok (.invokevirtual 38, 3) := dk_182 0 38 (dk_at dksX6_wouldBe_0 18 rfl rfl)
theorem dX6_wouldBe_21 : decode cX6_wouldBe 21 = .ok (.ifCond .eq 7, 3) := dk_153 0 7 (dk_at dksX6_wouldBe_0 21 rfl rfl)
theorem dX6_wouldBe_24 : decode cX6_wouldBe 24 = .ok (.iconst 0, 1) := dk_3 (dk_at dksX6_wouldBe_1 0 rfl rfl)
theorem dX6_wouldBe_25 : decode cX6_wouldBe 25 = .ok (.goto 9, 3) := dk_167 0 9 (dk_at dksX6_wouldBe_1 1 rfl rfl)
theorem dX6_wouldBe_28 : decode cX6_wouldBe 28 = .ok (.aload_n 0, 1) := dk_42 (dk_at dksX6_wouldBe_1 4 rfl rfl)
theorem dX6_wouldBe_29 : decode cX6_wouldBe 29 = .ok (.iload_n 1, 1) := dk_27 (dk_at dksX6_wouldBe_1 5 rfl rfl)
theorem dX6_wouldBe_30 : decode cX6_wouldBe 30 = .ok (.iload_n 2, 1) := dk_28 (dk_at dksX6_wouldBe_1 6 rfl rfl)
theorem dX6_wouldBe_31 : decode cX6_wouldBe 31 = .ok (.invokevirtual 193, 3) := dk_182 0 193 (dk_at dksX6_wouldBe_1 7 rfl rfl)
theorem dX6_wouldBe_34 : decode cX6_wouldBe 34 = .ok (.ireturn, 1) := dk_172 (dk_at dksX6_wouldBe_1 10 rfl rfl)
abbrev cX6_isSound : ByteArray := prog_13_method_69_code
def yX6_isSound : MethodName := ⟨RX6, "isSound", "()Z"⟩
def dkwX6_isSound_0 : List UInt8 := [42, 3, 181, 0, 35, 42, 182, 1, 42, 172]
abbrev dktX6_isSound_0 : List UInt8 := dkwX6_isSound_0 ++ []
theorem dksX6_isSound_0 : cX6_isSound.data.toList.drop 0 = dktX6_isSound_0 := by decide +kernel
theorem dX6_isSound_0 : decode cX6_isSound 0 = .ok (.aload_n 0, 1) := dk_42 (dk_at dksX6_isSound_0 0 rfl rfl)
theorem dX6_isSound_1 : decode cX6_isSound 1 = .ok (.iconst 0, 1) := dk_3 (dk_at dksX6_isSound_0 1 rfl rfl)
theorem dX6_isSound_2 : decode cX6_isSound 2 = .ok (.putfield 35, 3) := dk_181 0 35 (dk_at dksX6_isSound_0 2 rfl rfl)
theorem dX6_isSound_5 : decode cX6_isSound 5 = .ok (.aload_n 0, 1) := dk_42 (dk_at dksX6_isSound_0 5 rfl rfl)
theorem dX6_isSound_6 : decode cX6_isSound 6 = .ok (.invokevirtual 298, 3) := dk_182 1 42 (dk_at dksX6_isSound_0 6 rfl rfl)
theorem dX6_isSound_9 : decode cX6_isSound 9 = .ok (.ireturn, 1) := dk_172 (dk_at dksX6_isSound_0 9 rfl rfl)
abbrev cX6_isSoundNow : ByteArray := prog_13_method_68_code
def yX6_isSoundNow : MethodName := ⟨RX6, "isSoundNow", "()Z"⟩
def dkwX6_isSoundNow_5 : List UInt8 := [42, 44, 16, 6, 182, 0, 232, 96, 159, 0, 5, 3, 172, 167, 255, 135, 4, 172]
abbrev dktX6_isSoundNow_5 : List UInt8 := dkwX6_isSoundNow_5 ++ []
def dkwX6_isSoundNow_4 : List UInt8 := [153, 0, 35, 42, 44, 16, 7, 182, 0, 232, 42, 44, 16, 8, 182, 0, 232, 96, 42, 44, 8, 182, 0, 232]
abbrev dktX6_isSoundNow_4 : List UInt8 := dkwX6_isSoundNow_4 ++ dktX6_isSoundNow_5
def dkwX6_isSoundNow_3 : List UInt8 := [180, 0, 140, 44, 180, 0, 172, 44, 180, 0, 169, 96, 161, 0, 7, 4, 167, 0, 4, 3, 62, 29]
abbrev dktX6_isSoundNow_3 : List UInt8 := dkwX6_isSoundNow_3 ++ dktX6_isSoundNow_4
def dkwX6_isSoundNow_2 : List UInt8 := [17, 1, 244, 184, 0, 42, 153, 0, 37, 44, 180, 0, 101, 3, 17, 0, 143, 184, 0, 42, 153, 0, 23, 44]
abbrev dktX6_isSoundNow_2 : List UInt8 := dkwX6_isSoundNow_2 ++ dktX6_isSoundNow_3
def dkwX6_isSoundNow_1 : List UInt8 := [192, 0, 72, 77, 44, 182, 0, 143, 4, 17, 0, 144, 184, 0, 42, 153, 0, 51, 44, 180, 0, 107, 3]
abbrev dktX6_isSoundNow_1 : List UInt8 := dkwX6_isSoundNow_1 ++ dktX6_isSoundNow_2
def dkwX6_isSoundNow_0 : List UInt8 := [42, 180, 0, 31, 182, 0, 200, 76, 43, 185, 0, 204, 1, 0, 153, 0, 118, 43, 185, 0, 210, 1, 0]
abbrev dktX6_isSoundNow_0 : List UInt8 := dkwX6_isSoundNow_0 ++ dktX6_isSoundNow_1
theorem dksX6_isSoundNow_0 : cX6_isSoundNow.data.toList.drop 0 = dktX6_isSoundNow_0 := by decide +kernel
theorem dksX6_isSoundNow_1 : cX6_isSoundNow.data.toList.drop 23 = dktX6_isSoundNow_1 := dk_seg dksX6_isSoundNow_0 23 rfl rfl
theorem dksX6_isSoundNow_2 : cX6_isSoundNow.data.toList.drop 46 = dktX6_isSoundNow_2 := dk_seg dksX6_isSoundNow_1 23 rfl rfl
theorem dksX6_isSoundNow_3 : cX6_isSoundNow.data.toList.drop 70 = dktX6_isSoundNow_3 := dk_seg dksX6_isSoundNow_2 24 rfl rfl
theorem dksX6_isSoundNow_4 : cX6_isSoundNow.data.toList.drop 92 = dktX6_isSoundNow_4 := dk_seg dksX6_isSoundNow_3 22 rfl rfl
theorem dksX6_isSoundNow_5 : cX6_isSoundNow.data.toList.drop 116 = dktX6_isSoundNow_5 := dk_seg dksX6_isSoundNow_4 24 rfl rfl
theorem dX6_isSoundNow_0 : decode cX6_isSoundNow 0 = .ok (.aload_n 0, 1) := dk_42 (dk_at dksX6_isSoundNow_0 0 rfl rfl)
theorem dX6_isSoundNow_1 : decode cX6_isSoundNow 1 = .ok (.getfield 31, 3) := dk_180 0 31 (dk_at dksX6_isSoundNow_0 1 rfl rfl)
theorem dX6_isSoundNow_4 : decode cX6_isSoundNow 4 = .ok (.invokevirtual 200, 3) := dk_182 0 200 (dk_at dksX6_isSoundNow_0 4 rfl rfl)
theorem dX6_isSoundNow_7 : decode cX6_isSoundNow 7 = .ok (.astore_n 1, 1) := dk_76 (dk_at dksX6_isSoundNow_0 7 rfl rfl)
theorem dX6_isSoundNow_8 : decode cX6_isSoundNow 8 = .ok (.aload_n 1, 1) := dk_43 (dk_at dksX6_isSoundNow_0 8 rfl rfl)
theorem dX6_isSoundNow_9 : decode cX6_isSoundNow 9 = .ok (.invokeinterface 204 1, 5) := by decide +kernel
theorem dX6_isSoundNow_14 : decode cX6_isSoundNow 14 = .ok (.ifCond .eq 118, 3) := dk_153 0 118 (dk_at dksX6_isSoundNow_0 14 rfl rfl)
theorem dX6_isSoundNow_17 : decode cX6_isSoundNow 17 = .ok (.aload_n 1, 1) := dk_43 (dk_at dksX6_isSoundNow_0 17 rfl rfl)
theorem dX6_isSoundNow_18 : decode cX6_isSoundNow 18 = .ok (.invokeinterface 210 1, 5) := by decide +kernel
theorem dX6_isSoundNow_23 : decode cX6_isSoundNow 23 = .ok (.checkcast 72, 3) := dk_192 0 72 (dk_at dksX6_isSoundNow_1 0 rfl rfl)
theorem dX6_isSoundNow_26 : decode cX6_isSoundNow 26 = .ok (.astore_n 2, 1) := dk_77 (dk_at dksX6_isSoundNow_1 3 rfl rfl)
theorem dX6_isSoundNow_27 : decode cX6_isSoundNow 27 = .ok (.aload_n 2, 1) := dk_44 (dk_at dksX6_isSoundNow_1 4 rfl rfl)
theorem dX6_isSoundNow_28 : decode cX6_isSoundNow 28 = .ok (.invokevirtual 143, 3) := dk_182 0 143 (dk_at dksX6_isSoundNow_1 5 rfl rfl)
theorem dX6_isSoundNow_31 : decode cX6_isSoundNow 31 = .ok (.iconst 1, 1) := dk_4 (dk_at dksX6_isSoundNow_1 8 rfl rfl)
theorem dX6_isSoundNow_32 : decode cX6_isSoundNow 32 = .ok (.sipush 144, 3) := dk_17 0 144 (dk_at dksX6_isSoundNow_1 9 rfl rfl)
theorem dX6_isSoundNow_35 : decode cX6_isSoundNow 35 = .ok (.invokestatic 42, 3) := dk_184 0 42 (dk_at dksX6_isSoundNow_1 12 rfl rfl)
theorem dX6_isSoundNow_38 : decode cX6_isSoundNow 38 = .ok (.ifCond .eq 51, 3) := dk_153 0 51 (dk_at dksX6_isSoundNow_1 15 rfl rfl)
theorem dX6_isSoundNow_41 : decode cX6_isSoundNow 41 = .ok (.aload_n 2, 1) := dk_44 (dk_at dksX6_isSoundNow_1 18 rfl rfl)
theorem dX6_isSoundNow_42 : decode cX6_isSoundNow 42 = .ok (.getfield 107, 3) := dk_180 0 107 (dk_at dksX6_isSoundNow_1 19 rfl rfl)
theorem dX6_isSoundNow_45 : decode cX6_isSoundNow 45 = .ok (.iconst 0, 1) := dk_3 (dk_at dksX6_isSoundNow_1 22 rfl rfl)
theorem dX6_isSoundNow_46 : decode cX6_isSoundNow 46 = .ok (.sipush 500, 3) := dk_17 1 244 (dk_at dksX6_isSoundNow_2 0 rfl rfl)
theorem dX6_isSoundNow_49 : decode cX6_isSoundNow 49 = .ok (.invokestatic 42, 3) := dk_184 0 42 (dk_at dksX6_isSoundNow_2 3 rfl rfl)
theorem dX6_isSoundNow_52 : decode cX6_isSoundNow 52 = .ok (.ifCond .eq 37, 3) := dk_153 0 37 (dk_at dksX6_isSoundNow_2 6 rfl rfl)
theorem dX6_isSoundNow_55 : decode cX6_isSoundNow 55 = .ok (.aload_n 2, 1) := dk_44 (dk_at dksX6_isSoundNow_2 9 rfl rfl)
theorem dX6_isSoundNow_56 : decode cX6_isSoundNow 56 = .ok (.getfield 101, 3) := dk_180 0 101 (dk_at dksX6_isSoundNow_2 10 rfl rfl)
theorem dX6_isSoundNow_59 : decode cX6_isSoundNow 59 = .ok (.iconst 0, 1) := dk_3 (dk_at dksX6_isSoundNow_2 13 rfl rfl)
theorem dX6_isSoundNow_60 : decode cX6_isSoundNow 60 = .ok (.sipush 143, 3) := dk_17 0 143 (dk_at dksX6_isSoundNow_2 14 rfl rfl)
theorem dX6_isSoundNow_63 : decode cX6_isSoundNow 63 = .ok (.invokestatic 42, 3) := dk_184 0 42 (dk_at dksX6_isSoundNow_2 17 rfl rfl)
theorem dX6_isSoundNow_66 : decode cX6_isSoundNow 66 = .ok (.ifCond .eq 23, 3) := dk_153 0 23 (dk_at dksX6_isSoundNow_2 20 rfl rfl)
theorem dX6_isSoundNow_69 : decode cX6_isSoundNow 69 = .ok (.aload_n 2, 1) := dk_44 (dk_at dksX6_isSoundNow_2 23 rfl rfl)
theorem dX6_isSoundNow_70 : decode cX6_isSoundNow 70 = .ok (.getfield 140, 3) := dk_180 0 140 (dk_at dksX6_isSoundNow_3 0 rfl rfl)
theorem dX6_isSoundNow_73 : decode cX6_isSoundNow 73 = .ok (.aload_n 2, 1) := dk_44 (dk_at dksX6_isSoundNow_3 3 rfl rfl)
theorem dX6_isSoundNow_74 : decode cX6_isSoundNow 74 = .ok (.getfield 172, 3) := dk_180 0 172 (dk_at dksX6_isSoundNow_3 4 rfl rfl)
theorem dX6_isSoundNow_77 : decode cX6_isSoundNow 77 = .ok (.aload_n 2, 1) := dk_44 (dk_at dksX6_isSoundNow_3 7 rfl rfl)
theorem dX6_isSoundNow_78 : decode cX6_isSoundNow 78 = .ok (.getfield 169, 3) := dk_180 0 169 (dk_at dksX6_isSoundNow_3 8 rfl rfl)
theorem dX6_isSoundNow_81 : decode cX6_isSoundNow 81 = .ok (.iadd, 1) := dk_96 (dk_at dksX6_isSoundNow_3 11 rfl rfl)
theorem dX6_isSoundNow_82 : decode cX6_isSoundNow 82 = .ok (.if_icmp .lt 7, 3) := dk_161 0 7 (dk_at dksX6_isSoundNow_3 12 rfl rfl)
theorem dX6_isSoundNow_85 : decode cX6_isSoundNow 85 = .ok (.iconst 1, 1) := dk_4 (dk_at dksX6_isSoundNow_3 15 rfl rfl)
theorem dX6_isSoundNow_86 : decode cX6_isSoundNow 86 = .ok (.goto 4, 3) := dk_167 0 4 (dk_at dksX6_isSoundNow_3 16 rfl rfl)
theorem dX6_isSoundNow_89 : decode cX6_isSoundNow 89 = .ok (.iconst 0, 1) := dk_3 (dk_at dksX6_isSoundNow_3 19 rfl rfl)
theorem dX6_isSoundNow_90 : decode cX6_isSoundNow 90 = .ok (.istore_n 3, 1) := dk_62 (dk_at dksX6_isSoundNow_3 20 rfl rfl)
theorem dX6_isSoundNow_91 : decode cX6_isSoundNow 91 = .ok (.iload_n 3, 1) := dk_29 (dk_at dksX6_isSoundNow_3 21 rfl rfl)
theorem dX6_isSoundNow_92 : decode cX6_isSoundNow 92 = .ok (.ifCond .eq 35, 3) := dk_153 0 35 (dk_at dksX6_isSoundNow_4 0 rfl rfl)
theorem dX6_isSoundNow_95 : decode cX6_isSoundNow 95 = .ok (.aload_n 0, 1) := dk_42 (dk_at dksX6_isSoundNow_4 3 rfl rfl)
theorem dX6_isSoundNow_96 : decode cX6_isSoundNow 96 = .ok (.aload_n 2, 1) := dk_44 (dk_at dksX6_isSoundNow_4 4 rfl rfl)
theorem dX6_isSoundNow_97 : decode cX6_isSoundNow 97 = .ok (.bipush 7, 2) := dk_16 7 (dk_at dksX6_isSoundNow_4 5 rfl rfl)
theorem dX6_isSoundNow_99 : decode cX6_isSoundNow 99 = .ok (.invokevirtual 232, 3) := dk_182 0 232 (dk_at dksX6_isSoundNow_4 7 rfl rfl)
theorem dX6_isSoundNow_102 : decode cX6_isSoundNow 102 = .ok (.aload_n 0, 1) := dk_42 (dk_at dksX6_isSoundNow_4 10 rfl rfl)
theorem dX6_isSoundNow_103 : decode cX6_isSoundNow 103 = .ok (.aload_n 2, 1) := dk_44 (dk_at dksX6_isSoundNow_4 11 rfl rfl)
theorem dX6_isSoundNow_104 : decode cX6_isSoundNow 104 = .ok (.bipush 8, 2) := dk_16 8 (dk_at dksX6_isSoundNow_4 12 rfl rfl)
theorem dX6_isSoundNow_106 : decode cX6_isSoundNow 106 = .ok (.invokevirtual 232, 3) := dk_182 0 232 (dk_at dksX6_isSoundNow_4 14 rfl rfl)
theorem dX6_isSoundNow_109 : decode cX6_isSoundNow 109 = .ok (.iadd, 1) := dk_96 (dk_at dksX6_isSoundNow_4 17 rfl rfl)
theorem dX6_isSoundNow_110 : decode cX6_isSoundNow 110 = .ok (.aload_n 0, 1) := dk_42 (dk_at dksX6_isSoundNow_4 18 rfl rfl)
theorem dX6_isSoundNow_111 : decode cX6_isSoundNow 111 = .ok (.aload_n 2, 1) := dk_44 (dk_at dksX6_isSoundNow_4 19 rfl rfl)
theorem dX6_isSoundNow_112 : decode cX6_isSoundNow 112 = .ok (.iconst 5, 1) := dk_8 (dk_at dksX6_isSoundNow_4 20 rfl rfl)
theorem dX6_isSoundNow_113 : decode cX6_isSoundNow 113 = .ok (.invokevirtual 232, 3) := dk_182 0 232 (dk_at dksX6_isSoundNow_4 21 rfl rfl)
theorem dX6_isSoundNow_116 : decode cX6_isSoundNow 116 = .ok (.aload_n 0, 1) := dk_42 (dk_at dksX6_isSoundNow_5 0 rfl rfl)
theorem dX6_isSoundNow_117 : decode cX6_isSoundNow 117 = .ok (.aload_n 2, 1) := dk_44 (dk_at dksX6_isSoundNow_5 1 rfl rfl)
theorem dX6_isSoundNow_118 : decode cX6_isSoundNow 118 = .ok (.bipush 6, 2) := dk_16 6 (dk_at dksX6_isSoundNow_5 2 rfl rfl)
theorem dX6_isSoundNow_120 : decode cX6_isSoundNow 120 = .ok (.invokevirtual 232, 3) := dk_182 0 232 (dk_at dksX6_isSoundNow_5 4 rfl rfl)
theorem dX6_isSoundNow_123 : decode cX6_isSoundNow 123 = .ok (.iadd, 1) := dk_96 (dk_at dksX6_isSoundNow_5 7 rfl rfl)
theorem dX6_isSoundNow_124 : decode cX6_isSoundNow 124 = .ok (.if_icmp .eq 5, 3) := dk_159 0 5 (dk_at dksX6_isSoundNow_5 8 rfl rfl)
theorem dX6_isSoundNow_127 : decode cX6_isSoundNow 127 = .ok (.iconst 0, 1) := dk_3 (dk_at dksX6_isSoundNow_5 11 rfl rfl)
theorem dX6_isSoundNow_128 : decode cX6_isSoundNow 128 = .ok (.ireturn, 1) := dk_172 (dk_at dksX6_isSoundNow_5 12 rfl rfl)
theorem dX6_isSoundNow_129 : decode cX6_isSoundNow 129 = .ok (.goto (-121), 3) := dk_167 255 135 (dk_at dksX6_isSoundNow_5 13 rfl rfl)
theorem dX6_isSoundNow_132 : decode cX6_isSoundNow 132 = .ok (.iconst 1, 1) := dk_4 (dk_at dksX6_isSoundNow_5 16 rfl rfl)
theorem dX6_isSoundNow_133 : decode cX6_isSoundNow 133 = .ok (.ireturn, 1) := dk_172 (dk_at dksX6_isSoundNow_5 17 rfl rfl)
abbrev cX6_digest : ByteArray := prog_13_method_70_code
def yX6_digest : MethodName := ⟨RX6, "digest", "()J"⟩
def dkwX6_digest_14 : List UInt8 := [167, 255, 32, 31, 20, 1, 47, 105, 42, 182, 1, 42, 153, 0, 7, 4, 167, 0, 4, 3, 133, 97, 173]
abbrev dktX6_digest_14 : List UInt8 := dkwX6_digest_14 ++ []
def dkwX6_digest_13 : List UInt8 := [25, 4, 21, 5, 21, 6, 184, 0, 118, 133, 97, 64, 132, 6, 1, 167, 255, 230, 132, 5, 1, 167, 255, 214]
abbrev dktX6_digest_13 : List UInt8 := dkwX6_digest_13 ++ dktX6_digest_14
def dkwX6_digest_12 : List UInt8 := [3, 54, 5, 21, 5, 16, 36, 162, 0, 41, 4, 54, 6, 21, 6, 5, 163, 0, 26, 31, 20, 1, 47, 105]
abbrev dktX6_digest_12 : List UInt8 := dkwX6_digest_12 ++ dktX6_digest_13
def dkwX6_digest_11 : List UInt8 := [182, 1, 39, 133, 97, 64, 31, 20, 1, 47, 105, 20, 1, 49, 42, 25, 4, 182, 1, 29, 107, 143, 97, 64]
abbrev dktX6_digest_11 : List UInt8 := dkwX6_digest_11 ++ dktX6_digest_12
def dkwX6_digest_10 : List UInt8 := [21, 5, 182, 1, 36, 133, 97, 64, 132, 5, 1, 167, 255, 231, 31, 20, 1, 47, 105, 42, 25, 4]
abbrev dktX6_digest_10 : List UInt8 := dkwX6_digest_10 ++ dktX6_digest_11
def dkwX6_digest_9 : List UInt8 := [64, 132, 5, 1, 167, 255, 231, 3, 54, 5, 21, 5, 6, 163, 0, 25, 31, 20, 1, 47, 105, 42, 25, 4]
abbrev dktX6_digest_9 : List UInt8 := dkwX6_digest_9 ++ dktX6_digest_10
def dkwX6_digest_8 : List UInt8 := [3, 54, 5, 21, 5, 6, 163, 0, 25, 31, 20, 1, 47, 105, 42, 25, 4, 21, 5, 182, 1, 24, 133, 97]
abbrev dktX6_digest_8 : List UInt8 := dkwX6_digest_8 ++ dktX6_digest_9
def dkwX6_digest_7 : List UInt8 := [162, 0, 24, 31, 20, 1, 47, 105, 42, 25, 4, 21, 5, 182, 1, 17, 97, 64, 132, 5, 1, 167, 255, 232]
abbrev dktX6_digest_7 : List UInt8 := dkwX6_digest_7 ++ dktX6_digest_8
def dkwX6_digest_6 : List UInt8 := [105, 42, 25, 4, 21, 5, 182, 0, 232, 133, 97, 64, 132, 5, 1, 167, 255, 230, 3, 54, 5, 21, 5, 7]
abbrev dktX6_digest_6 : List UInt8 := dkwX6_digest_6 ++ dktX6_digest_7
def dkwX6_digest_5 : List UInt8 := [185, 0, 210, 1, 0, 192, 0, 72, 58, 4, 3, 54, 5, 21, 5, 16, 12, 163, 0, 25, 31, 20, 1, 47]
abbrev dktX6_digest_5 : List UInt8 := dkwX6_digest_5 ++ dktX6_digest_6
def dkwX6_digest_4 : List UInt8 := [167, 255, 200, 42, 180, 0, 31, 182, 0, 200, 78, 45, 185, 0, 204, 1, 0, 153, 0, 221, 45]
abbrev dktX6_digest_4 : List UInt8 := dkwX6_digest_4 ++ dktX6_digest_5
def dkwX6_digest_3 : List UInt8 := [21, 5, 182, 0, 228, 133, 97, 64, 132, 5, 1, 167, 255, 230, 132, 4, 1, 167, 255, 215, 132, 3, 1]
abbrev dktX6_digest_3 : List UInt8 := dkwX6_digest_3 ++ dktX6_digest_4
def dkwX6_digest_2 : List UInt8 := [21, 4, 5, 163, 0, 41, 3, 54, 5, 21, 5, 4, 163, 0, 26, 31, 20, 1, 47, 105, 42, 29, 21, 4]
abbrev dktX6_digest_2 : List UInt8 := dkwX6_digest_2 ++ dktX6_digest_3
def dkwX6_digest_1 : List UInt8 := [182, 0, 236, 133, 97, 64, 132, 3, 1, 167, 255, 234, 3, 62, 29, 16, 36, 162, 0, 56, 4, 54, 4]
abbrev dktX6_digest_1 : List UInt8 := dkwX6_digest_1 ++ dktX6_digest_2
def dkwX6_digest_0 : List UInt8 := [42, 3, 181, 0, 35, 20, 1, 45, 64, 3, 62, 29, 16, 11, 163, 0, 22, 31, 20, 1, 47, 105, 42, 29]
abbrev dktX6_digest_0 : List UInt8 := dkwX6_digest_0 ++ dktX6_digest_1
theorem dksX6_digest_0 : cX6_digest.data.toList.drop 0 = dktX6_digest_0 := by decide +kernel
theorem dksX6_digest_1 : cX6_digest.data.toList.drop 24 = dktX6_digest_1 := dk_seg dksX6_digest_0 24 rfl rfl
theorem dksX6_digest_2 : cX6_digest.data.toList.drop 47 = dktX6_digest_2 := dk_seg dksX6_digest_1 23 rfl rfl
theorem dksX6_digest_3 : cX6_digest.data.toList.drop 71 = dktX6_digest_3 := dk_seg dksX6_digest_2 24 rfl rfl
theorem dksX6_digest_4 : cX6_digest.data.toList.drop 94 = dktX6_digest_4 := dk_seg dksX6_digest_3 23 rfl rfl
theorem dksX6_digest_5 : cX6_digest.data.toList.drop 115 = dktX6_digest_5 := dk_seg dksX6_digest_4 21 rfl rfl
theorem dksX6_digest_6 : cX6_digest.data.toList.drop 139 = dktX6_digest_6 := dk_seg dksX6_digest_5 24 rfl rfl
theorem dksX6_digest_7 : cX6_digest.data.toList.drop 163 = dktX6_digest_7 := dk_seg dksX6_digest_6 24 rfl rfl
theorem dksX6_digest_8 : cX6_digest.data.toList.drop 187 = dktX6_digest_8 := dk_seg dksX6_digest_7 24 rfl rfl
theorem dksX6_digest_9 : cX6_digest.data.toList.drop 211 = dktX6_digest_9 := dk_seg dksX6_digest_8 24 rfl rfl
theorem dksX6_digest_10 : cX6_digest.data.toList.drop 235 = dktX6_digest_10 := dk_seg dksX6_digest_9 24 rfl rfl
theorem dksX6_digest_11 : cX6_digest.data.toList.drop 257 = dktX6_digest_11 := dk_seg dksX6_digest_10 22 rfl rfl
theorem dksX6_digest_12 : cX6_digest.data.toList.drop 281 = dktX6_digest_12 := dk_seg dksX6_digest_11 24 rfl rfl
theorem dksX6_digest_13 : cX6_digest.data.toList.drop 305 = dktX6_digest_13 := dk_seg dksX6_digest_12 24 rfl rfl
theorem dksX6_digest_14 : cX6_digest.data.toList.drop 329 = dktX6_digest_14 := dk_seg dksX6_digest_13 24 rfl rfl
theorem dX6_digest_0 : decode cX6_digest 0 = .ok (.aload_n 0, 1) := dk_42 (dk_at dksX6_digest_0 0 rfl rfl)
theorem dX6_digest_1 : decode cX6_digest 1 = .ok (.iconst 0, 1) := dk_3 (dk_at dksX6_digest_0 1 rfl rfl)
theorem dX6_digest_2 : decode cX6_digest 2 = .ok (.putfield 35, 3) := dk_181 0 35 (dk_at dksX6_digest_0 2 rfl rfl)
theorem dX6_digest_5 : decode cX6_digest 5 = .ok (.ldc2_w 301, 3) := dk_20 1 45 (dk_at dksX6_digest_0 5 rfl rfl)
theorem dX6_digest_8 : decode cX6_digest 8 = .ok (.lstore_n 1, 1) := dk_64 (dk_at dksX6_digest_0 8 rfl rfl)
theorem dX6_digest_9 : decode cX6_digest 9 = .ok (.iconst 0, 1) := dk_3 (dk_at dksX6_digest_0 9 rfl rfl)
theorem dX6_digest_10 : decode cX6_digest 10 = .ok (.istore_n 3, 1) := dk_62 (dk_at dksX6_digest_0 10 rfl rfl)
theorem dX6_digest_11 : decode cX6_digest 11 = .ok (.iload_n 3, 1) := dk_29 (dk_at dksX6_digest_0 11 rfl rfl)
theorem dX6_digest_12 : decode cX6_digest 12 = .ok (.bipush 11, 2) := dk_16 11 (dk_at dksX6_digest_0 12 rfl rfl)
theorem dX6_digest_14 : decode cX6_digest 14 = .ok (.if_icmp .gt 22, 3) := dk_163 0 22 (dk_at dksX6_digest_0 14 rfl rfl)
theorem dX6_digest_17 : decode cX6_digest 17 = .ok (.lload_n 1, 1) := dk_31 (dk_at dksX6_digest_0 17 rfl rfl)
theorem dX6_digest_18 : decode cX6_digest 18 = .ok (.ldc2_w 303, 3) := dk_20 1 47 (dk_at dksX6_digest_0 18 rfl rfl)
theorem dX6_digest_21 : decode cX6_digest 21 = .ok (.lmul, 1) := dk_105 (dk_at dksX6_digest_0 21 rfl rfl)
theorem dX6_digest_22 : decode cX6_digest 22 = .ok (.aload_n 0, 1) := dk_42 (dk_at dksX6_digest_0 22 rfl rfl)
theorem dX6_digest_23 : decode cX6_digest 23 = .ok (.iload_n 3, 1) := dk_29 (dk_at dksX6_digest_0 23 rfl rfl)
theorem dX6_digest_24 : decode cX6_digest 24 = .ok (.invokevirtual 236, 3) := dk_182 0 236 (dk_at dksX6_digest_1 0 rfl rfl)
theorem dX6_digest_27 : decode cX6_digest 27 = .ok (.i2l, 1) := dk_133 (dk_at dksX6_digest_1 3 rfl rfl)
theorem dX6_digest_28 : decode cX6_digest 28 = .ok (.ladd, 1) := dk_97 (dk_at dksX6_digest_1 4 rfl rfl)
theorem dX6_digest_29 : decode cX6_digest 29 = .ok (.lstore_n 1, 1) := dk_64 (dk_at dksX6_digest_1 5 rfl rfl)
theorem dX6_digest_30 : decode cX6_digest 30 = .ok (.iinc 3 1, 3) := dk_132 3 1 (dk_at dksX6_digest_1 6 rfl rfl)
theorem dX6_digest_33 : decode cX6_digest 33 = .ok (.goto (-22), 3) := dk_167 255 234 (dk_at dksX6_digest_1 9 rfl rfl)
theorem dX6_digest_36 : decode cX6_digest 36 = .ok (.iconst 0, 1) := dk_3 (dk_at dksX6_digest_1 12 rfl rfl)
theorem dX6_digest_37 : decode cX6_digest 37 = .ok (.istore_n 3, 1) := dk_62 (dk_at dksX6_digest_1 13 rfl rfl)
theorem dX6_digest_38 : decode cX6_digest 38 = .ok (.iload_n 3, 1) := dk_29 (dk_at dksX6_digest_1 14 rfl rfl)
theorem dX6_digest_39 : decode cX6_digest 39 = .ok (.bipush 36, 2) := dk_16 36 (dk_at dksX6_digest_1 15 rfl rfl)
theorem dX6_digest_41 : decode cX6_digest 41 = .ok (.if_icmp .ge 56, 3) := dk_162 0 56 (dk_at dksX6_digest_1 17 rfl rfl)
theorem dX6_digest_44 : decode cX6_digest 44 = .ok (.iconst 1, 1) := dk_4 (dk_at dksX6_digest_1 20 rfl rfl)
theorem dX6_digest_45 : decode cX6_digest 45 = .ok (.istore 4, 2) := dk_54 4 (dk_at dksX6_digest_1 21 rfl rfl)
theorem dX6_digest_47 : decode cX6_digest 47 = .ok (.iload 4, 2) := dk_21 4 (dk_at dksX6_digest_2 0 rfl rfl)
theorem dX6_digest_49 : decode cX6_digest 49 = .ok (.iconst 2, 1) := dk_5 (dk_at dksX6_digest_2 2 rfl rfl)
theorem dX6_digest_50 : decode cX6_digest 50 = .ok (.if_icmp .gt 41, 3) := dk_163 0 41 (dk_at dksX6_digest_2 3 rfl rfl)
theorem dX6_digest_53 : decode cX6_digest 53 = .ok (.iconst 0, 1) := dk_3 (dk_at dksX6_digest_2 6 rfl rfl)
theorem dX6_digest_54 : decode cX6_digest 54 = .ok (.istore 5, 2) := dk_54 5 (dk_at dksX6_digest_2 7 rfl rfl)
theorem dX6_digest_56 : decode cX6_digest 56 = .ok (.iload 5, 2) := dk_21 5 (dk_at dksX6_digest_2 9 rfl rfl)
theorem dX6_digest_58 : decode cX6_digest 58 = .ok (.iconst 1, 1) := dk_4 (dk_at dksX6_digest_2 11 rfl rfl)
theorem dX6_digest_59 : decode cX6_digest 59 = .ok (.if_icmp .gt 26, 3) := dk_163 0 26 (dk_at dksX6_digest_2 12 rfl rfl)
theorem dX6_digest_62 : decode cX6_digest 62 = .ok (.lload_n 1, 1) := dk_31 (dk_at dksX6_digest_2 15 rfl rfl)
theorem dX6_digest_63 : decode cX6_digest 63 = .ok (.ldc2_w 303, 3) := dk_20 1 47 (dk_at dksX6_digest_2 16 rfl rfl)
theorem dX6_digest_66 : decode cX6_digest 66 = .ok (.lmul, 1) := dk_105 (dk_at dksX6_digest_2 19 rfl rfl)
theorem dX6_digest_67 : decode cX6_digest 67 = .ok (.aload_n 0, 1) := dk_42 (dk_at dksX6_digest_2 20 rfl rfl)
theorem dX6_digest_68 : decode cX6_digest 68 = .ok (.iload_n 3, 1) := dk_29 (dk_at dksX6_digest_2 21 rfl rfl)
theorem dX6_digest_69 : decode cX6_digest 69 = .ok (.iload 4, 2) := dk_21 4 (dk_at dksX6_digest_2 22 rfl rfl)
theorem dX6_digest_71 : decode cX6_digest 71 = .ok (.iload 5, 2) := dk_21 5 (dk_at dksX6_digest_3 0 rfl rfl)
theorem dX6_digest_73 : decode cX6_digest 73 = .ok (.invokevirtual 228, 3) := dk_182 0 228 (dk_at dksX6_digest_3 2 rfl rfl)
theorem dX6_digest_76 : decode cX6_digest 76 = .ok (.i2l, 1) := dk_133 (dk_at dksX6_digest_3 5 rfl rfl)
theorem dX6_digest_77 : decode cX6_digest 77 = .ok (.ladd, 1) := dk_97 (dk_at dksX6_digest_3 6 rfl rfl)
theorem dX6_digest_78 : decode cX6_digest 78 = .ok (.lstore_n 1, 1) := dk_64 (dk_at dksX6_digest_3 7 rfl rfl)
theorem dX6_digest_79 : decode cX6_digest 79 = .ok (.iinc 5 1, 3) := dk_132 5 1 (dk_at dksX6_digest_3 8 rfl rfl)
theorem dX6_digest_82 : decode cX6_digest 82 = .ok (.goto (-26), 3) := dk_167 255 230 (dk_at dksX6_digest_3 11 rfl rfl)
theorem dX6_digest_85 : decode cX6_digest 85 = .ok (.iinc 4 1, 3) := dk_132 4 1 (dk_at dksX6_digest_3 14 rfl rfl)
theorem dX6_digest_88 : decode cX6_digest 88 = .ok (.goto (-41), 3) := dk_167 255 215 (dk_at dksX6_digest_3 17 rfl rfl)
theorem dX6_digest_91 : decode cX6_digest 91 = .ok (.iinc 3 1, 3) := dk_132 3 1 (dk_at dksX6_digest_3 20 rfl rfl)
theorem dX6_digest_94 : decode cX6_digest 94 = .ok (.goto (-56), 3) := dk_167 255 200 (dk_at dksX6_digest_4 0 rfl rfl)
theorem dX6_digest_97 : decode cX6_digest 97 = .ok (.aload_n 0, 1) := dk_42 (dk_at dksX6_digest_4 3 rfl rfl)
theorem dX6_digest_98 : decode cX6_digest 98 = .ok (.getfield 31, 3) := dk_180 0 31 (dk_at dksX6_digest_4 4 rfl rfl)
theorem dX6_digest_101 : decode cX6_digest 101 = .ok (.invokevirtual 200, 3) := dk_182 0 200 (dk_at dksX6_digest_4 7 rfl rfl)
theorem dX6_digest_104 : decode cX6_digest 104 = .ok (.astore_n 3, 1) := dk_78 (dk_at dksX6_digest_4 10 rfl rfl)
theorem dX6_digest_105 : decode cX6_digest 105 = .ok (.aload_n 3, 1) := dk_45 (dk_at dksX6_digest_4 11 rfl rfl)
theorem dX6_digest_106 : decode cX6_digest 106 = .ok (.invokeinterface 204 1, 5) := by decide +kernel
theorem dX6_digest_111 : decode cX6_digest 111 = .ok (.ifCond .eq 221, 3) := dk_153 0 221 (dk_at dksX6_digest_4 17 rfl rfl)
theorem dX6_digest_114 : decode cX6_digest 114 = .ok (.aload_n 3, 1) := dk_45 (dk_at dksX6_digest_4 20 rfl rfl)
theorem dX6_digest_115 : decode cX6_digest 115 = .ok (.invokeinterface 210 1, 5) := by decide +kernel
theorem dX6_digest_120 : decode cX6_digest 120 = .ok (.checkcast 72, 3) := dk_192 0 72 (dk_at dksX6_digest_5 5 rfl rfl)
theorem dX6_digest_123 : decode cX6_digest 123 = .ok (.astore 4, 2) := dk_58 4 (dk_at dksX6_digest_5 8 rfl rfl)
theorem dX6_digest_125 : decode cX6_digest 125 = .ok (.iconst 0, 1) := dk_3 (dk_at dksX6_digest_5 10 rfl rfl)
theorem dX6_digest_126 : decode cX6_digest 126 = .ok (.istore 5, 2) := dk_54 5 (dk_at dksX6_digest_5 11 rfl rfl)
theorem dX6_digest_128 : decode cX6_digest 128 = .ok (.iload 5, 2) := dk_21 5 (dk_at dksX6_digest_5 13 rfl rfl)
theorem dX6_digest_130 : decode cX6_digest 130 = .ok (.bipush 12, 2) := dk_16 12 (dk_at dksX6_digest_5 15 rfl rfl)
theorem dX6_digest_132 : decode cX6_digest 132 = .ok (.if_icmp .gt 25, 3) := dk_163 0 25 (dk_at dksX6_digest_5 17 rfl rfl)
theorem dX6_digest_135 : decode cX6_digest 135 = .ok (.lload_n 1, 1) := dk_31 (dk_at dksX6_digest_5 20 rfl rfl)
theorem dX6_digest_136 : decode cX6_digest 136 = .ok (.ldc2_w 303, 3) := dk_20 1 47 (dk_at dksX6_digest_5 21 rfl rfl)
theorem dX6_digest_139 : decode cX6_digest 139 = .ok (.lmul, 1) := dk_105 (dk_at dksX6_digest_6 0 rfl rfl)
theorem dX6_digest_140 : decode cX6_digest 140 = .ok (.aload_n 0, 1) := dk_42 (dk_at dksX6_digest_6 1 rfl rfl)
theorem dX6_digest_141 : decode cX6_digest 141 = .ok (.aload 4, 2) := dk_25 4 (dk_at dksX6_digest_6 2 rfl rfl)
theorem dX6_digest_143 : decode cX6_digest 143 = .ok (.iload 5, 2) := dk_21 5 (dk_at dksX6_digest_6 4 rfl rfl)
theorem dX6_digest_145 : decode cX6_digest 145 = .ok (.invokevirtual 232, 3) := dk_182 0 232 (dk_at dksX6_digest_6 6 rfl rfl)
theorem dX6_digest_148 : decode cX6_digest 148 = .ok (.i2l, 1) := dk_133 (dk_at dksX6_digest_6 9 rfl rfl)
theorem dX6_digest_149 : decode cX6_digest 149 = .ok (.ladd, 1) := dk_97 (dk_at dksX6_digest_6 10 rfl rfl)
theorem dX6_digest_150 : decode cX6_digest 150 = .ok (.lstore_n 1, 1) := dk_64 (dk_at dksX6_digest_6 11 rfl rfl)
theorem dX6_digest_151 : decode cX6_digest 151 = .ok (.iinc 5 1, 3) := dk_132 5 1 (dk_at dksX6_digest_6 12 rfl rfl)
theorem dX6_digest_154 : decode cX6_digest 154 = .ok (.goto (-26), 3) := dk_167 255 230 (dk_at dksX6_digest_6 15 rfl rfl)
theorem dX6_digest_157 : decode cX6_digest 157 = .ok (.iconst 0, 1) := dk_3 (dk_at dksX6_digest_6 18 rfl rfl)
theorem dX6_digest_158 : decode cX6_digest 158 = .ok (.istore 5, 2) := dk_54 5 (dk_at dksX6_digest_6 19 rfl rfl)
theorem dX6_digest_160 : decode cX6_digest 160 = .ok (.iload 5, 2) := dk_21 5 (dk_at dksX6_digest_6 21 rfl rfl)
theorem dX6_digest_162 : decode cX6_digest 162 = .ok (.iconst 4, 1) := dk_7 (dk_at dksX6_digest_6 23 rfl rfl)
theorem dX6_digest_163 : decode cX6_digest 163 = .ok (.if_icmp .ge 24, 3) := dk_162 0 24 (dk_at dksX6_digest_7 0 rfl rfl)
theorem dX6_digest_166 : decode cX6_digest 166 = .ok (.lload_n 1, 1) := dk_31 (dk_at dksX6_digest_7 3 rfl rfl)
theorem dX6_digest_167 : decode cX6_digest 167 = .ok (.ldc2_w 303, 3) := dk_20 1 47 (dk_at dksX6_digest_7 4 rfl rfl)
theorem dX6_digest_170 : decode cX6_digest 170 = .ok (.lmul, 1) := dk_105 (dk_at dksX6_digest_7 7 rfl rfl)
theorem dX6_digest_171 : decode cX6_digest 171 = .ok (.aload_n 0, 1) := dk_42 (dk_at dksX6_digest_7 8 rfl rfl)
theorem dX6_digest_172 : decode cX6_digest 172 = .ok (.aload 4, 2) := dk_25 4 (dk_at dksX6_digest_7 9 rfl rfl)
theorem dX6_digest_174 : decode cX6_digest 174 = .ok (.iload 5, 2) := dk_21 5 (dk_at dksX6_digest_7 11 rfl rfl)
theorem dX6_digest_176 : decode cX6_digest 176 = .ok (.invokevirtual 273, 3) := dk_182 1 17 (dk_at dksX6_digest_7 13 rfl rfl)
theorem dX6_digest_179 : decode cX6_digest 179 = .ok (.ladd, 1) := dk_97 (dk_at dksX6_digest_7 16 rfl rfl)
theorem dX6_digest_180 : decode cX6_digest 180 = .ok (.lstore_n 1, 1) := dk_64 (dk_at dksX6_digest_7 17 rfl rfl)
theorem dX6_digest_181 : decode cX6_digest 181 = .ok (.iinc 5 1, 3) := dk_132 5 1 (dk_at dksX6_digest_7 18 rfl rfl)
theorem dX6_digest_184 : decode cX6_digest 184 = .ok (.goto (-24), 3) := dk_167 255 232 (dk_at dksX6_digest_7 21 rfl rfl)
theorem dX6_digest_187 : decode cX6_digest 187 = .ok (.iconst 0, 1) := dk_3 (dk_at dksX6_digest_8 0 rfl rfl)
theorem dX6_digest_188 : decode cX6_digest 188 = .ok (.istore 5, 2) := dk_54 5 (dk_at dksX6_digest_8 1 rfl rfl)
theorem dX6_digest_190 : decode cX6_digest 190 = .ok (.iload 5, 2) := dk_21 5 (dk_at dksX6_digest_8 3 rfl rfl)
theorem dX6_digest_192 : decode cX6_digest 192 = .ok (.iconst 3, 1) := dk_6 (dk_at dksX6_digest_8 5 rfl rfl)
theorem dX6_digest_193 : decode cX6_digest 193 = .ok (.if_icmp .gt 25, 3) := dk_163 0 25 (dk_at dksX6_digest_8 6 rfl rfl)
theorem dX6_digest_196 : decode cX6_digest 196 = .ok (.lload_n 1, 1) := dk_31 (dk_at dksX6_digest_8 9 rfl rfl)
theorem dX6_digest_197 : decode cX6_digest 197 = .ok (.ldc2_w 303, 3) := dk_20 1 47 (dk_at dksX6_digest_8 10 rfl rfl)
theorem dX6_digest_200 : decode cX6_digest 200 = .ok (.lmul, 1) := dk_105 (dk_at dksX6_digest_8 13 rfl rfl)
theorem dX6_digest_201 : decode cX6_digest 201 = .ok (.aload_n 0, 1) := dk_42 (dk_at dksX6_digest_8 14 rfl rfl)
theorem dX6_digest_202 : decode cX6_digest 202 = .ok (.aload 4, 2) := dk_25 4 (dk_at dksX6_digest_8 15 rfl rfl)
theorem dX6_digest_204 : decode cX6_digest 204 = .ok (.iload 5, 2) := dk_21 5 (dk_at dksX6_digest_8 17 rfl rfl)
theorem dX6_digest_206 : decode cX6_digest 206 = .ok (.invokevirtual 280, 3) := dk_182 1 24 (dk_at dksX6_digest_8 19 rfl rfl)
theorem dX6_digest_209 : decode cX6_digest 209 = .ok (.i2l, 1) := dk_133 (dk_at dksX6_digest_8 22 rfl rfl)
theorem dX6_digest_210 : decode cX6_digest 210 = .ok (.ladd, 1) := dk_97 (dk_at dksX6_digest_8 23 rfl rfl)
theorem dX6_digest_211 : decode cX6_digest 211 = .ok (.lstore_n 1, 1) := dk_64 (dk_at dksX6_digest_9 0 rfl rfl)
theorem dX6_digest_212 : decode cX6_digest 212 = .ok (.iinc 5 1, 3) := dk_132 5 1 (dk_at dksX6_digest_9 1 rfl rfl)
theorem dX6_digest_215 : decode cX6_digest 215 = .ok (.goto (-25), 3) := dk_167 255 231 (dk_at dksX6_digest_9 4 rfl rfl)
theorem dX6_digest_218 : decode cX6_digest 218 = .ok (.iconst 0, 1) := dk_3 (dk_at dksX6_digest_9 7 rfl rfl)
theorem dX6_digest_219 : decode cX6_digest 219 = .ok (.istore 5, 2) := dk_54 5 (dk_at dksX6_digest_9 8 rfl rfl)
theorem dX6_digest_221 : decode cX6_digest 221 = .ok (.iload 5, 2) := dk_21 5 (dk_at dksX6_digest_9 10 rfl rfl)
theorem dX6_digest_223 : decode cX6_digest 223 = .ok (.iconst 3, 1) := dk_6 (dk_at dksX6_digest_9 12 rfl rfl)
theorem dX6_digest_224 : decode cX6_digest 224 = .ok (.if_icmp .gt 25, 3) := dk_163 0 25 (dk_at dksX6_digest_9 13 rfl rfl)
theorem dX6_digest_227 : decode cX6_digest 227 = .ok (.lload_n 1, 1) := dk_31 (dk_at dksX6_digest_9 16 rfl rfl)
theorem dX6_digest_228 : decode cX6_digest 228 = .ok (.ldc2_w 303, 3) := dk_20 1 47 (dk_at dksX6_digest_9 17 rfl rfl)
theorem dX6_digest_231 : decode cX6_digest 231 = .ok (.lmul, 1) := dk_105 (dk_at dksX6_digest_9 20 rfl rfl)
theorem dX6_digest_232 : decode cX6_digest 232 = .ok (.aload_n 0, 1) := dk_42 (dk_at dksX6_digest_9 21 rfl rfl)
theorem dX6_digest_233 : decode cX6_digest 233 = .ok (.aload 4, 2) := dk_25 4 (dk_at dksX6_digest_9 22 rfl rfl)
theorem dX6_digest_235 : decode cX6_digest 235 = .ok (.iload 5, 2) := dk_21 5 (dk_at dksX6_digest_10 0 rfl rfl)
theorem dX6_digest_237 : decode cX6_digest 237 = .ok (.invokevirtual 292, 3) := dk_182 1 36 (dk_at dksX6_digest_10 2 rfl rfl)
theorem dX6_digest_240 : decode cX6_digest 240 = .ok (.i2l, 1) := dk_133 (dk_at dksX6_digest_10 5 rfl rfl)
theorem dX6_digest_241 : decode cX6_digest 241 = .ok (.ladd, 1) := dk_97 (dk_at dksX6_digest_10 6 rfl rfl)
theorem dX6_digest_242 : decode cX6_digest 242 = .ok (.lstore_n 1, 1) := dk_64 (dk_at dksX6_digest_10 7 rfl rfl)
theorem dX6_digest_243 : decode cX6_digest 243 = .ok (.iinc 5 1, 3) := dk_132 5 1 (dk_at dksX6_digest_10 8 rfl rfl)
theorem dX6_digest_246 : decode cX6_digest 246 = .ok (.goto (-25), 3) := dk_167 255 231 (dk_at dksX6_digest_10 11 rfl rfl)
theorem dX6_digest_249 : decode cX6_digest 249 = .ok (.lload_n 1, 1) := dk_31 (dk_at dksX6_digest_10 14 rfl rfl)
theorem dX6_digest_250 : decode cX6_digest 250 = .ok (.ldc2_w 303, 3) := dk_20 1 47 (dk_at dksX6_digest_10 15 rfl rfl)
theorem dX6_digest_253 : decode cX6_digest 253 = .ok (.lmul, 1) := dk_105 (dk_at dksX6_digest_10 18 rfl rfl)
theorem dX6_digest_254 : decode cX6_digest 254 = .ok (.aload_n 0, 1) := dk_42 (dk_at dksX6_digest_10 19 rfl rfl)
theorem dX6_digest_255 : decode cX6_digest 255 = .ok (.aload 4, 2) := dk_25 4 (dk_at dksX6_digest_10 20 rfl rfl)
theorem dX6_digest_257 : decode cX6_digest 257 = .ok (.invokevirtual 295, 3) := dk_182 1 39 (dk_at dksX6_digest_11 0 rfl rfl)
theorem dX6_digest_260 : decode cX6_digest 260 = .ok (.i2l, 1) := dk_133 (dk_at dksX6_digest_11 3 rfl rfl)
theorem dX6_digest_261 : decode cX6_digest 261 = .ok (.ladd, 1) := dk_97 (dk_at dksX6_digest_11 4 rfl rfl)
theorem dX6_digest_262 : decode cX6_digest 262 = .ok (.lstore_n 1, 1) := dk_64 (dk_at dksX6_digest_11 5 rfl rfl)
theorem dX6_digest_263 : decode cX6_digest 263 = .ok (.lload_n 1, 1) := dk_31 (dk_at dksX6_digest_11 6 rfl rfl)
theorem dX6_digest_264 : decode cX6_digest 264 = .ok (.ldc2_w 303, 3) := dk_20 1 47 (dk_at dksX6_digest_11 7 rfl rfl)
theorem dX6_digest_267 : decode cX6_digest 267 = .ok (.lmul, 1) := dk_105 (dk_at dksX6_digest_11 10 rfl rfl)
theorem dX6_digest_268 : decode cX6_digest 268 = .ok (.ldc2_w 305, 3) := dk_20 1 49 (dk_at dksX6_digest_11 11 rfl rfl)
theorem dX6_digest_271 : decode cX6_digest 271 = .ok (.aload_n 0, 1) := dk_42 (dk_at dksX6_digest_11 14 rfl rfl)
theorem dX6_digest_272 : decode cX6_digest 272 = .ok (.aload 4, 2) := dk_25 4 (dk_at dksX6_digest_11 15 rfl rfl)
theorem dX6_digest_274 : decode cX6_digest 274 = .ok (.invokevirtual 285, 3) := dk_182 1 29 (dk_at dksX6_digest_11 17 rfl rfl)
theorem dX6_digest_277 : decode cX6_digest 277 = .ok (.dmul, 1) := dk_107 (dk_at dksX6_digest_11 20 rfl rfl)
theorem dX6_digest_278 : decode cX6_digest 278 = .ok (.d2l, 1) := dk_143 (dk_at dksX6_digest_11 21 rfl rfl)
theorem dX6_digest_279 : decode cX6_digest 279 = .ok (.ladd, 1) := dk_97 (dk_at dksX6_digest_11 22 rfl rfl)
theorem dX6_digest_280 : decode cX6_digest 280 = .ok (.lstore_n 1, 1) := dk_64 (dk_at dksX6_digest_11 23 rfl rfl)
theorem dX6_digest_281 : decode cX6_digest 281 = .ok (.iconst 0, 1) := dk_3 (dk_at dksX6_digest_12 0 rfl rfl)
theorem dX6_digest_282 : decode cX6_digest 282 = .ok (.istore 5, 2) := dk_54 5 (dk_at dksX6_digest_12 1 rfl rfl)
theorem dX6_digest_284 : decode cX6_digest 284 = .ok (.iload 5, 2) := dk_21 5 (dk_at dksX6_digest_12 3 rfl rfl)
theorem dX6_digest_286 : decode cX6_digest 286 = .ok (.bipush 36, 2) := dk_16 36 (dk_at dksX6_digest_12 5 rfl rfl)
theorem dX6_digest_288 : decode cX6_digest 288 = .ok (.if_icmp .ge 41, 3) := dk_162 0 41 (dk_at dksX6_digest_12 7 rfl rfl)
theorem dX6_digest_291 : decode cX6_digest 291 = .ok (.iconst 1, 1) := dk_4 (dk_at dksX6_digest_12 10 rfl rfl)
theorem dX6_digest_292 : decode cX6_digest 292 = .ok (.istore 6, 2) := dk_54 6 (dk_at dksX6_digest_12 11 rfl rfl)
theorem dX6_digest_294 : decode cX6_digest 294 = .ok (.iload 6, 2) := dk_21 6 (dk_at dksX6_digest_12 13 rfl rfl)
theorem dX6_digest_296 : decode cX6_digest 296 = .ok (.iconst 2, 1) := dk_5 (dk_at dksX6_digest_12 15 rfl rfl)
theorem dX6_digest_297 : decode cX6_digest 297 = .ok (.if_icmp .gt 26, 3) := dk_163 0 26 (dk_at dksX6_digest_12 16 rfl rfl)
theorem dX6_digest_300 : decode cX6_digest 300 = .ok (.lload_n 1, 1) := dk_31 (dk_at dksX6_digest_12 19 rfl rfl)
theorem dX6_digest_301 : decode cX6_digest 301 = .ok (.ldc2_w 303, 3) := dk_20 1 47 (dk_at dksX6_digest_12 20 rfl rfl)
theorem dX6_digest_304 : decode cX6_digest 304 = .ok (.lmul, 1) := dk_105 (dk_at dksX6_digest_12 23 rfl rfl)
theorem dX6_digest_305 : decode cX6_digest 305 = .ok (.aload 4, 2) := dk_25 4 (dk_at dksX6_digest_13 0 rfl rfl)
theorem dX6_digest_307 : decode cX6_digest 307 = .ok (.iload 5, 2) := dk_21 5 (dk_at dksX6_digest_13 2 rfl rfl)
theorem dX6_digest_309 : decode cX6_digest 309 = .ok (.iload 6, 2) := dk_21 6 (dk_at dksX6_digest_13 4 rfl rfl)
theorem dX6_digest_311 : decode cX6_digest 311 = .ok (.invokestatic 118, 3) := dk_184 0 118 (dk_at dksX6_digest_13 6 rfl rfl)
theorem dX6_digest_314 : decode cX6_digest 314 = .ok (.i2l, 1) := dk_133 (dk_at dksX6_digest_13 9 rfl rfl)
theorem dX6_digest_315 : decode cX6_digest 315 = .ok (.ladd, 1) := dk_97 (dk_at dksX6_digest_13 10 rfl rfl)
theorem dX6_digest_316 : decode cX6_digest 316 = .ok (.lstore_n 1, 1) := dk_64 (dk_at dksX6_digest_13 11 rfl rfl)
theorem dX6_digest_317 : decode cX6_digest 317 = .ok (.iinc 6 1, 3) := dk_132 6 1 (dk_at dksX6_digest_13 12 rfl rfl)
theorem dX6_digest_320 : decode cX6_digest 320 = .ok (.goto (-26), 3) := dk_167 255 230 (dk_at dksX6_digest_13 15 rfl rfl)
theorem dX6_digest_323 : decode cX6_digest 323 = .ok (.iinc 5 1, 3) := dk_132 5 1 (dk_at dksX6_digest_13 18 rfl rfl)
theorem dX6_digest_326 : decode cX6_digest 326 = .ok (.goto (-42), 3) := dk_167 255 214 (dk_at dksX6_digest_13 21 rfl rfl)
theorem dX6_digest_329 : decode cX6_digest 329 = .ok (.goto (-224), 3) := dk_167 255 32 (dk_at dksX6_digest_14 0 rfl rfl)
theorem dX6_digest_332 : decode cX6_digest 332 = .ok (.lload_n 1, 1) := dk_31 (dk_at dksX6_digest_14 3 rfl rfl)
theorem dX6_digest_333 : decode cX6_digest 333 = .ok (.ldc2_w 303, 3) := dk_20 1 47 (dk_at dksX6_digest_14 4 rfl rfl)
theorem dX6_digest_336 : decode cX6_digest 336 = .ok (.lmul, 1) := dk_105 (dk_at dksX6_digest_14 7 rfl rfl)
theorem dX6_digest_337 : decode cX6_digest 337 = .ok (.aload_n 0, 1) := dk_42 (dk_at dksX6_digest_14 8 rfl rfl)
theorem dX6_digest_338 : decode cX6_digest 338 = .ok (.invokevirtual 298, 3) := dk_182 1 42 (dk_at dksX6_digest_14 9 rfl rfl)
theorem dX6_digest_341 : decode cX6_digest 341 = .ok (.ifCond .eq 7, 3) := dk_153 0 7 (dk_at dksX6_digest_14 12 rfl rfl)
theorem dX6_digest_344 : decode cX6_digest 344 = .ok (.iconst 1, 1) := dk_4 (dk_at dksX6_digest_14 15 rfl rfl)
theorem dX6_digest_345 : decode cX6_digest 345 = .ok (.goto 4, 3) := dk_167 0 4 (dk_at dksX6_digest_14 16 rfl rfl)
theorem dX6_digest_348 : decode cX6_digest 348 = .ok (.iconst 0, 1) := dk_3 (dk_at dksX6_digest_14 19 rfl rfl)
theorem dX6_digest_349 : decode cX6_digest 349 = .ok (.i2l, 1) := dk_133 (dk_at dksX6_digest_14 20 rfl rfl)
theorem dX6_digest_350 : decode cX6_digest 350 = .ok (.ladd, 1) := dk_97 (dk_at dksX6_digest_14 21 rfl rfl)
theorem dX6_digest_351 : decode cX6_digest 351 = .ok (.lreturn, 1) := dk_173 (dk_at dksX6_digest_14 22 rfl rfl)
theorem q58 : (Jvm.Cond.initialized "BumpwardModel") ∈ lw_all := lw_g (lw_at lw_m1 10 rfl) rfl
theorem q838 : (Jvm.Cond.selects "BumpwardModel" ({ cls := "java/lang/Object", name := "getClass", desc := "()Ljava/lang/Class;" } : Jvm.MethodName) ({ cls := "java/lang/Object", name := "getClass", desc := "()Ljava/lang/Class;" } : Jvm.MethodName)) ∈ lw_all := lw_g (lw_at lw_m4 70 rfl) rfl
theorem q1360 : (Jvm.Cond.instantiable "BumpwardModel" (12 : Nat)) ∈ lw_all := lw_g (lw_at lw_m6 112 rfl) rfl
theorem q1362 : (Jvm.Cond.instanceMethod ({ cls := "BumpwardModel", name := "<init>", desc := "()V" } : Jvm.MethodName)) ∈ lw_all := lw_g (lw_at lw_m6 114 rfl) rfl
theorem q1363 : (Jvm.Cond.code ({ cls := "BumpwardModel", name := "<init>", desc := "()V" } : Jvm.MethodName) prog_13_method_1_code (1 : Nat) (Option.none : Option Jvm.ClassFile.FieldType)) ∈ lw_all := lw_g (lw_at lw_m6 115 rfl) rfl
theorem q1364 : (Jvm.Cond.methodLink "BumpwardModel" (1 : Nat) ({ cls := "java/lang/Object", name := "<init>", desc := "()V" } : Jvm.MethodName)) ∈ lw_all := lw_g (lw_at lw_m6 116 rfl) rfl
theorem q1365 : (Jvm.Cond.classLink "BumpwardModel" (13 : Nat) "[[I") ∈ lw_all := lw_g (lw_at lw_m6 117 rfl) rfl
theorem q1367 : (Jvm.Cond.classLink "BumpwardModel" (28 : Nat) "java/util/ArrayList") ∈ lw_all := lw_g (lw_at lw_m6 119 rfl) rfl
theorem q1368 : (Jvm.Cond.methodLink "BumpwardModel" (30 : Nat) ({ cls := "java/util/ArrayList", name := "<init>", desc := "()V" } : Jvm.MethodName)) ∈ lw_all := lw_g (lw_at lw_m6 120 rfl) rfl
theorem q1369 : (Jvm.Cond.fieldLink "BumpwardModel" (35 : Nat) "BumpwardModel" "thrown" "I") ∈ lw_all := lw_g (lw_at lw_m6 121 rfl) rfl
theorem q1370 : (Jvm.Cond.fieldLink "BumpwardModel" (54 : Nat) "BumpwardModel" "minute" "I") ∈ lw_all := lw_g (lw_at lw_m6 122 rfl) rfl
theorem q1371 : (Jvm.Cond.fieldLink "BumpwardModel" (7 : Nat) "BumpwardModel" "drawn" "I") ∈ lw_all := lw_g (lw_at lw_m6 123 rfl) rfl
theorem q1372 : (Jvm.Cond.fieldLink "BumpwardModel" (166 : Nat) "BumpwardModel" "draws" "I") ∈ lw_all := lw_g (lw_at lw_m6 124 rfl) rfl
theorem q1373 : (Jvm.Cond.fieldLink "BumpwardModel" (222 : Nat) "BumpwardModel" "meetings" "I") ∈ lw_all := lw_g (lw_at lw_m6 125 rfl) rfl
theorem q1374 : (Jvm.Cond.fieldLink "BumpwardModel" (219 : Nat) "BumpwardModel" "disputes" "I") ∈ lw_all := lw_g (lw_at lw_m6 126 rfl) rfl
theorem q1375 : (Jvm.Cond.fieldLink "BumpwardModel" (225 : Nat) "BumpwardModel" "refused" "I") ∈ lw_all := lw_g (lw_at lw_m6 127 rfl) rfl
theorem q1376 : (Jvm.Cond.fieldLink "BumpwardModel" (15 : Nat) "BumpwardModel" "kind" "[[I") ∈ lw_all := lw_g (lw_at lw_m6 128 rfl) rfl
theorem q1377 : (Jvm.Cond.fieldLink "BumpwardModel" (18 : Nat) "BumpwardModel" "hours" "[[I") ∈ lw_all := lw_g (lw_at lw_m6 129 rfl) rfl
theorem q1378 : (Jvm.Cond.fieldLink "BumpwardModel" (21 : Nat) "BumpwardModel" "isCarpet" "[Z") ∈ lw_all := lw_g (lw_at lw_m6 130 rfl) rfl
theorem q1379 : (Jvm.Cond.fieldLink "BumpwardModel" (25 : Nat) "BumpwardModel" "isBarred" "[Z") ∈ lw_all := lw_g (lw_at lw_m6 131 rfl) rfl
theorem q1380 : (Jvm.Cond.fieldLink "BumpwardModel" (31 : Nat) "BumpwardModel" "walkers" "Ljava/util/ArrayList;") ∈ lw_all := lw_g (lw_at lw_m6 132 rfl) rfl
theorem q1381 : (Jvm.Cond.lays "BumpwardModel" "BumpwardModel" "thrown" "I") ∈ lw_all := lw_g (lw_at lw_m6 133 rfl) rfl
theorem q1382 : (Jvm.Cond.soleField "BumpwardModel" "thrown") ∈ lw_all := lw_g (lw_at lw_m6 134 rfl) rfl
theorem q1383 : (Jvm.Cond.lays "BumpwardModel" "BumpwardModel" "minute" "I") ∈ lw_all := lw_g (lw_at lw_m6 135 rfl) rfl
theorem q1384 : (Jvm.Cond.soleField "BumpwardModel" "minute") ∈ lw_all := lw_g (lw_at lw_m6 136 rfl) rfl
theorem q1385 : (Jvm.Cond.lays "BumpwardModel" "BumpwardModel" "drawn" "I") ∈ lw_all := lw_g (lw_at lw_m6 137 rfl) rfl
theorem q1386 : (Jvm.Cond.soleField "BumpwardModel" "drawn") ∈ lw_all := lw_g (lw_at lw_m6 138 rfl) rfl
theorem q1387 : (Jvm.Cond.lays "BumpwardModel" "BumpwardModel" "draws" "I") ∈ lw_all := lw_g (lw_at lw_m6 139 rfl) rfl
theorem q1388 : (Jvm.Cond.soleField "BumpwardModel" "draws") ∈ lw_all := lw_g (lw_at lw_m6 140 rfl) rfl
theorem q1389 : (Jvm.Cond.lays "BumpwardModel" "BumpwardModel" "meetings" "I") ∈ lw_all := lw_g (lw_at lw_m6 141 rfl) rfl
theorem q1390 : (Jvm.Cond.soleField "BumpwardModel" "meetings") ∈ lw_all := lw_g (lw_at lw_m6 142 rfl) rfl
theorem q1391 : (Jvm.Cond.lays "BumpwardModel" "BumpwardModel" "disputes" "I") ∈ lw_all := lw_g (lw_at lw_m6 143 rfl) rfl
theorem q1392 : (Jvm.Cond.soleField "BumpwardModel" "disputes") ∈ lw_all := lw_g (lw_at lw_m6 144 rfl) rfl
theorem q1393 : (Jvm.Cond.lays "BumpwardModel" "BumpwardModel" "refused" "I") ∈ lw_all := lw_g (lw_at lw_m6 145 rfl) rfl
theorem q1394 : (Jvm.Cond.soleField "BumpwardModel" "refused") ∈ lw_all := lw_g (lw_at lw_m6 146 rfl) rfl
theorem q1395 : (Jvm.Cond.laysFinal "BumpwardModel" "BumpwardModel" "kind" "[[I") ∈ lw_all := lw_g (lw_at lw_m6 147 rfl) rfl
theorem q1396 : (Jvm.Cond.soleField "BumpwardModel" "kind") ∈ lw_all := lw_g (lw_at lw_m6 148 rfl) rfl
theorem q1397 : (Jvm.Cond.laysFinal "BumpwardModel" "BumpwardModel" "hours" "[[I") ∈ lw_all := lw_g (lw_at lw_m6 149 rfl) rfl
theorem q1398 : (Jvm.Cond.soleField "BumpwardModel" "hours") ∈ lw_all := lw_g (lw_at lw_m6 150 rfl) rfl
theorem q1399 : (Jvm.Cond.laysFinal "BumpwardModel" "BumpwardModel" "isCarpet" "[Z") ∈ lw_all := lw_g (lw_at lw_m6 151 rfl) rfl
theorem q1400 : (Jvm.Cond.soleField "BumpwardModel" "isCarpet") ∈ lw_all := lw_g (lw_at lw_m6 152 rfl) rfl
theorem q1401 : (Jvm.Cond.laysFinal "BumpwardModel" "BumpwardModel" "isBarred" "[Z") ∈ lw_all := lw_g (lw_at lw_m6 153 rfl) rfl
theorem q1402 : (Jvm.Cond.soleField "BumpwardModel" "isBarred") ∈ lw_all := lw_g (lw_at lw_m6 154 rfl) rfl
theorem q1403 : (Jvm.Cond.laysFinal "BumpwardModel" "BumpwardModel" "walkers" "Ljava/util/ArrayList;") ∈ lw_all := lw_g (lw_at lw_m6 155 rfl) rfl
theorem q1404 : (Jvm.Cond.soleField "BumpwardModel" "walkers") ∈ lw_all := lw_g (lw_at lw_m6 156 rfl) rfl
theorem q1405 : (Jvm.Cond.superclass "BumpwardModel" "java/lang/Object") ∈ lw_all := lw_g (lw_at lw_m6 157 rfl) rfl
theorem q1407 : (Jvm.Cond.instanceMethod ({ cls := "BumpwardModel", name := "thrown", desc := "()I" } : Jvm.MethodName)) ∈ lw_all := lw_g (lw_at lw_m6 159 rfl) rfl
theorem q1408 : (Jvm.Cond.selects "BumpwardModel" ({ cls := "BumpwardModel", name := "thrown", desc := "()I" } : Jvm.MethodName) ({ cls := "BumpwardModel", name := "thrown", desc := "()I" } : Jvm.MethodName)) ∈ lw_all := lw_g (lw_at lw_m6 160 rfl) rfl
theorem q1409 : (Jvm.Cond.code ({ cls := "BumpwardModel", name := "thrown", desc := "()I" } : Jvm.MethodName) prog_13_method_2_code (1 : Nat) (Option.some Jvm.ClassFile.FieldType.int)) ∈ lw_all := lw_g (lw_at lw_m6 161 rfl) rfl
theorem q1411 : (Jvm.Cond.instanceMethod ({ cls := "BumpwardModel", name := "edge", desc := "(IIII)I" } : Jvm.MethodName)) ∈ lw_all := lw_g (lw_at lw_m6 163 rfl) rfl
theorem q1412 : (Jvm.Cond.selects "BumpwardModel" ({ cls := "BumpwardModel", name := "edge", desc := "(IIII)I" } : Jvm.MethodName) ({ cls := "BumpwardModel", name := "edge", desc := "(IIII)I" } : Jvm.MethodName)) ∈ lw_all := lw_g (lw_at lw_m6 164 rfl) rfl
theorem q1413 : (Jvm.Cond.code ({ cls := "BumpwardModel", name := "edge", desc := "(IIII)I" } : Jvm.MethodName) prog_13_method_19_code (7 : Nat) (Option.some Jvm.ClassFile.FieldType.int)) ∈ lw_all := lw_g (lw_at lw_m6 165 rfl) rfl
theorem q1414 : (Jvm.Cond.methodLink "BumpwardModel" (76 : Nat) ({ cls := "BumpwardModel", name := "isNoCell", desc := "(I)Z" } : Jvm.MethodName)) ∈ lw_all := lw_g (lw_at lw_m6 166 rfl) rfl
theorem q1415 : (Jvm.Cond.static ({ cls := "BumpwardModel", name := "isNoCell", desc := "(I)Z" } : Jvm.MethodName)) ∈ lw_all := lw_g (lw_at lw_m6 167 rfl) rfl
theorem q1416 : (Jvm.Cond.code ({ cls := "BumpwardModel", name := "isNoCell", desc := "(I)Z" } : Jvm.MethodName) prog_13_method_6_code (1 : Nat) (Option.some Jvm.ClassFile.FieldType.boolean)) ∈ lw_all := lw_g (lw_at lw_m6 168 rfl) rfl
theorem q1417 : (Jvm.Cond.methodLink "BumpwardModel" (42 : Nat) ({ cls := "BumpwardModel", name := "isIn", desc := "(III)Z" } : Jvm.MethodName)) ∈ lw_all := lw_g (lw_at lw_m6 169 rfl) rfl
theorem q1418 : (Jvm.Cond.static ({ cls := "BumpwardModel", name := "isIn", desc := "(III)Z" } : Jvm.MethodName)) ∈ lw_all := lw_g (lw_at lw_m6 170 rfl) rfl
theorem q1419 : (Jvm.Cond.code ({ cls := "BumpwardModel", name := "isIn", desc := "(III)Z" } : Jvm.MethodName) prog_13_method_3_code (3 : Nat) (Option.some Jvm.ClassFile.FieldType.boolean)) ∈ lw_all := lw_g (lw_at lw_m6 171 rfl) rfl
theorem q1420 : (Jvm.Cond.methodLink "BumpwardModel" (80 : Nat) ({ cls := "BumpwardModel", name := "isNoSide", desc := "(I)Z" } : Jvm.MethodName)) ∈ lw_all := lw_g (lw_at lw_m6 172 rfl) rfl
theorem q1421 : (Jvm.Cond.static ({ cls := "BumpwardModel", name := "isNoSide", desc := "(I)Z" } : Jvm.MethodName)) ∈ lw_all := lw_g (lw_at lw_m6 173 rfl) rfl
theorem q1422 : (Jvm.Cond.code ({ cls := "BumpwardModel", name := "isNoSide", desc := "(I)Z" } : Jvm.MethodName) prog_13_method_7_code (1 : Nat) (Option.some Jvm.ClassFile.FieldType.boolean)) ∈ lw_all := lw_g (lw_at lw_m6 174 rfl) rfl
theorem q1423 : (Jvm.Cond.methodLink "BumpwardModel" (83 : Nat) ({ cls := "BumpwardModel", name := "start", desc := "(ZI)Z" } : Jvm.MethodName)) ∈ lw_all := lw_g (lw_at lw_m6 175 rfl) rfl
theorem q1424 : (Jvm.Cond.privateMethod ({ cls := "BumpwardModel", name := "start", desc := "(ZI)Z" } : Jvm.MethodName)) ∈ lw_tbl := lw_at lw_m6 176 rfl
theorem q1425 : (Jvm.Cond.instanceMethod ({ cls := "BumpwardModel", name := "start", desc := "(ZI)Z" } : Jvm.MethodName)) ∈ lw_all := lw_g (lw_at lw_m6 177 rfl) rfl
theorem q1426 : (Jvm.Cond.code ({ cls := "BumpwardModel", name := "start", desc := "(ZI)Z" } : Jvm.MethodName) prog_13_method_5_code (3 : Nat) (Option.some Jvm.ClassFile.FieldType.boolean)) ∈ lw_all := lw_g (lw_at lw_m6 178 rfl) rfl
theorem q1427 : (Jvm.Cond.methodLink "BumpwardModel" (38 : Nat) ({ cls := "BumpwardModel", name := "refuse", desc := "(ZI)Z" } : Jvm.MethodName)) ∈ lw_all := lw_g (lw_at lw_m6 179 rfl) rfl
theorem q1428 : (Jvm.Cond.privateMethod ({ cls := "BumpwardModel", name := "refuse", desc := "(ZI)Z" } : Jvm.MethodName)) ∈ lw_tbl := lw_at lw_m6 180 rfl
theorem q1429 : (Jvm.Cond.instanceMethod ({ cls := "BumpwardModel", name := "refuse", desc := "(ZI)Z" } : Jvm.MethodName)) ∈ lw_all := lw_g (lw_at lw_m6 181 rfl) rfl
theorem q1430 : (Jvm.Cond.code ({ cls := "BumpwardModel", name := "refuse", desc := "(ZI)Z" } : Jvm.MethodName) prog_13_method_4_code (3 : Nat) (Option.some Jvm.ClassFile.FieldType.boolean)) ∈ lw_all := lw_g (lw_at lw_m6 182 rfl) rfl
theorem q1431 : (Jvm.Cond.methodLink "BumpwardModel" (50 : Nat) ({ cls := "BumpwardModel", name := "beyond", desc := "(II)I" } : Jvm.MethodName)) ∈ lw_all := lw_g (lw_at lw_m6 183 rfl) rfl
theorem q1432 : (Jvm.Cond.static ({ cls := "BumpwardModel", name := "beyond", desc := "(II)I" } : Jvm.MethodName)) ∈ lw_all := lw_g (lw_at lw_m6 184 rfl) rfl
theorem q1433 : (Jvm.Cond.code ({ cls := "BumpwardModel", name := "beyond", desc := "(II)I" } : Jvm.MethodName) prog_13_method_9_code (4 : Nat) (Option.some Jvm.ClassFile.FieldType.int)) ∈ lw_all := lw_g (lw_at lw_m6 185 rfl) rfl
theorem q1434 : (Jvm.Cond.constant "BumpwardModel" (86 : Nat) (16777215 : Int32)) ∈ lw_all := lw_g (lw_at lw_m6 186 rfl) rfl
theorem q1435 : (Jvm.Cond.methodLink "BumpwardModel" (61 : Nat) ({ cls := "BumpwardModel", name := "keeper", desc := "(II)I" } : Jvm.MethodName)) ∈ lw_all := lw_g (lw_at lw_m6 187 rfl) rfl
theorem q1436 : (Jvm.Cond.static ({ cls := "BumpwardModel", name := "keeper", desc := "(II)I" } : Jvm.MethodName)) ∈ lw_all := lw_g (lw_at lw_m6 188 rfl) rfl
theorem q1437 : (Jvm.Cond.code ({ cls := "BumpwardModel", name := "keeper", desc := "(II)I" } : Jvm.MethodName) prog_13_method_10_code (2 : Nat) (Option.some Jvm.ClassFile.FieldType.int)) ∈ lw_all := lw_g (lw_at lw_m6 189 rfl) rfl
theorem q1438 : (Jvm.Cond.methodLink "BumpwardModel" (64 : Nat) ({ cls := "BumpwardModel", name := "way", desc := "(I)I" } : Jvm.MethodName)) ∈ lw_all := lw_g (lw_at lw_m6 190 rfl) rfl
theorem q1439 : (Jvm.Cond.static ({ cls := "BumpwardModel", name := "way", desc := "(I)I" } : Jvm.MethodName)) ∈ lw_all := lw_g (lw_at lw_m6 191 rfl) rfl
theorem q1440 : (Jvm.Cond.code ({ cls := "BumpwardModel", name := "way", desc := "(I)I" } : Jvm.MethodName) prog_13_method_11_code (1 : Nat) (Option.some Jvm.ClassFile.FieldType.int)) ∈ lw_all := lw_g (lw_at lw_m6 192 rfl) rfl
theorem q1442 : (Jvm.Cond.instanceMethod ({ cls := "BumpwardModel", name := "lay", desc := "(I)I" } : Jvm.MethodName)) ∈ lw_all := lw_g (lw_at lw_m6 194 rfl) rfl
theorem q1443 : (Jvm.Cond.selects "BumpwardModel" ({ cls := "BumpwardModel", name := "lay", desc := "(I)I" } : Jvm.MethodName) ({ cls := "BumpwardModel", name := "lay", desc := "(I)I" } : Jvm.MethodName)) ∈ lw_all := lw_g (lw_at lw_m6 195 rfl) rfl
theorem q1444 : (Jvm.Cond.code ({ cls := "BumpwardModel", name := "lay", desc := "(I)I" } : Jvm.MethodName) prog_13_method_21_code (5 : Nat) (Option.some Jvm.ClassFile.FieldType.int)) ∈ lw_all := lw_g (lw_at lw_m6 196 rfl) rfl
theorem q1445 : (Jvm.Cond.methodLink "BumpwardModel" (87 : Nat) ({ cls := "BumpwardModel", name := "isWithin", desc := "(II)Z" } : Jvm.MethodName)) ∈ lw_all := lw_g (lw_at lw_m6 197 rfl) rfl
theorem q1446 : (Jvm.Cond.static ({ cls := "BumpwardModel", name := "isWithin", desc := "(II)Z" } : Jvm.MethodName)) ∈ lw_all := lw_g (lw_at lw_m6 198 rfl) rfl
theorem q1447 : (Jvm.Cond.code ({ cls := "BumpwardModel", name := "isWithin", desc := "(II)Z" } : Jvm.MethodName) prog_13_method_17_code (2 : Nat) (Option.some Jvm.ClassFile.FieldType.boolean)) ∈ lw_all := lw_g (lw_at lw_m6 199 rfl) rfl
theorem q1448 : (Jvm.Cond.methodLink "BumpwardModel" (90 : Nat) ({ cls := "BumpwardModel", name := "kinds", desc := "(I)I" } : Jvm.MethodName)) ∈ lw_all := lw_g (lw_at lw_m6 200 rfl) rfl
theorem q1449 : (Jvm.Cond.privateMethod ({ cls := "BumpwardModel", name := "kinds", desc := "(I)I" } : Jvm.MethodName)) ∈ lw_tbl := lw_at lw_m6 201 rfl
theorem q1450 : (Jvm.Cond.instanceMethod ({ cls := "BumpwardModel", name := "kinds", desc := "(I)I" } : Jvm.MethodName)) ∈ lw_all := lw_g (lw_at lw_m6 202 rfl) rfl
theorem q1451 : (Jvm.Cond.code ({ cls := "BumpwardModel", name := "kinds", desc := "(I)I" } : Jvm.MethodName) prog_13_method_20_code (5 : Nat) (Option.some Jvm.ClassFile.FieldType.int)) ∈ lw_all := lw_g (lw_at lw_m6 203 rfl) rfl
theorem q1453 : (Jvm.Cond.instanceMethod ({ cls := "BumpwardModel", name := "cell", desc := "(IZZ)I" } : Jvm.MethodName)) ∈ lw_all := lw_g (lw_at lw_m6 205 rfl) rfl
theorem q1454 : (Jvm.Cond.selects "BumpwardModel" ({ cls := "BumpwardModel", name := "cell", desc := "(IZZ)I" } : Jvm.MethodName) ({ cls := "BumpwardModel", name := "cell", desc := "(IZZ)I" } : Jvm.MethodName)) ∈ lw_all := lw_g (lw_at lw_m6 206 rfl) rfl
theorem q1455 : (Jvm.Cond.code ({ cls := "BumpwardModel", name := "cell", desc := "(IZZ)I" } : Jvm.MethodName) prog_13_method_23_code (4 : Nat) (Option.some Jvm.ClassFile.FieldType.int)) ∈ lw_all := lw_g (lw_at lw_m6 207 rfl) rfl
theorem q1456 : (Jvm.Cond.methodLink "BumpwardModel" (93 : Nat) ({ cls := "BumpwardModel", name := "all", desc := "([Z)I" } : Jvm.MethodName)) ∈ lw_all := lw_g (lw_at lw_m6 208 rfl) rfl
theorem q1457 : (Jvm.Cond.static ({ cls := "BumpwardModel", name := "all", desc := "([Z)I" } : Jvm.MethodName)) ∈ lw_all := lw_g (lw_at lw_m6 209 rfl) rfl
theorem q1458 : (Jvm.Cond.code ({ cls := "BumpwardModel", name := "all", desc := "([Z)I" } : Jvm.MethodName) prog_13_method_22_code (6 : Nat) (Option.some Jvm.ClassFile.FieldType.int)) ∈ lw_all := lw_g (lw_at lw_m6 210 rfl) rfl
theorem q1460 : (Jvm.Cond.instanceMethod ({ cls := "BumpwardModel", name := "walker", desc := "(IIIZ)I" } : Jvm.MethodName)) ∈ lw_all := lw_g (lw_at lw_m6 212 rfl) rfl
theorem q1461 : (Jvm.Cond.selects "BumpwardModel" ({ cls := "BumpwardModel", name := "walker", desc := "(IIIZ)I" } : Jvm.MethodName) ({ cls := "BumpwardModel", name := "walker", desc := "(IIIZ)I" } : Jvm.MethodName)) ∈ lw_all := lw_g (lw_at lw_m6 213 rfl) rfl
theorem q1462 : (Jvm.Cond.code ({ cls := "BumpwardModel", name := "walker", desc := "(IIIZ)I" } : Jvm.MethodName) prog_13_method_25_code (6 : Nat) (Option.some Jvm.ClassFile.FieldType.int)) ∈ lw_all := lw_g (lw_at lw_m6 214 rfl) rfl
theorem q1463 : (Jvm.Cond.methodLink "BumpwardModel" (46 : Nat) ({ cls := "java/util/ArrayList", name := "size", desc := "()I" } : Jvm.MethodName)) ∈ lw_all := lw_g (lw_at lw_m6 215 rfl) rfl
theorem q1464 : (Jvm.Cond.classLink "BumpwardModel" (72 : Nat) "BumpwardModel$Walker") ∈ lw_all := lw_g (lw_at lw_m6 216 rfl) rfl
theorem q1466 : (Jvm.Cond.methodLinkNest "BumpwardModel" (100 : Nat) ({ cls := "BumpwardModel$Walker", name := "<init>", desc := "()V" } : Jvm.MethodName) "BumpwardModel") ∈ lw_tbl := lw_at lw_m6 218 rfl
theorem q1472 : (Jvm.Cond.fieldLink "BumpwardModel" (101 : Nat) "BumpwardModel$Walker" "pose" "I") ∈ lw_all := lw_g (lw_at lw_m6 224 rfl) rfl
theorem q1473 : (Jvm.Cond.fieldLink "BumpwardModel" (104 : Nat) "BumpwardModel$Walker" "home" "I") ∈ lw_all := lw_g (lw_at lw_m6 225 rfl) rfl
theorem q1474 : (Jvm.Cond.fieldLink "BumpwardModel" (107 : Nat) "BumpwardModel$Walker" "charge" "I") ∈ lw_all := lw_g (lw_at lw_m6 226 rfl) rfl
theorem q1476 : (Jvm.Cond.fieldLink "BumpwardModel" (97 : Nat) "BumpwardModel$Walker" "may" "[Z") ∈ lw_all := lw_g (lw_at lw_m6 228 rfl) rfl
theorem q1478 : (Jvm.Cond.fieldLink "BumpwardModel" (71 : Nat) "BumpwardModel$Walker" "map" "[[I") ∈ lw_all := lw_g (lw_at lw_m6 230 rfl) rfl
theorem q1479 : (Jvm.Cond.fieldLink "BumpwardModel" (146 : Nat) "BumpwardModel$Walker" "lost" "I") ∈ lw_all := lw_g (lw_at lw_m6 231 rfl) rfl
theorem q1480 : (Jvm.Cond.fieldLink "BumpwardModel" (140 : Nat) "BumpwardModel$Walker" "acts" "I") ∈ lw_all := lw_g (lw_at lw_m6 232 rfl) rfl
theorem q1481 : (Jvm.Cond.fieldLink "BumpwardModel" (172 : Nat) "BumpwardModel$Walker" "bumps" "I") ∈ lw_all := lw_g (lw_at lw_m6 233 rfl) rfl
theorem q1482 : (Jvm.Cond.fieldLink "BumpwardModel" (169 : Nat) "BumpwardModel$Walker" "slips" "I") ∈ lw_all := lw_g (lw_at lw_m6 234 rfl) rfl
theorem q1502 : (Jvm.Cond.methodLink "BumpwardModel" (110 : Nat) ({ cls := "BumpwardModel", name := "fill", desc := "(LBumpwardModel$Walker;)V" } : Jvm.MethodName)) ∈ lw_all := lw_g (lw_at lw_m7 14 rfl) rfl
theorem q1503 : (Jvm.Cond.static ({ cls := "BumpwardModel", name := "fill", desc := "(LBumpwardModel$Walker;)V" } : Jvm.MethodName)) ∈ lw_all := lw_g (lw_at lw_m7 15 rfl) rfl
theorem q1504 : (Jvm.Cond.code ({ cls := "BumpwardModel", name := "fill", desc := "(LBumpwardModel$Walker;)V" } : Jvm.MethodName) prog_13_method_24_code (2 : Nat) (Option.none : Option Jvm.ClassFile.FieldType)) ∈ lw_all := lw_g (lw_at lw_m7 16 rfl) rfl
theorem q1505 : (Jvm.Cond.methodLink "BumpwardModel" (114 : Nat) ({ cls := "java/util/ArrayList", name := "add", desc := "(Ljava/lang/Object;)Z" } : Jvm.MethodName)) ∈ lw_all := lw_g (lw_at lw_m7 17 rfl) rfl
theorem q1507 : (Jvm.Cond.instanceMethod ({ cls := "BumpwardModel", name := "forward", desc := "(IZ)Z" } : Jvm.MethodName)) ∈ lw_all := lw_g (lw_at lw_m7 19 rfl) rfl
theorem q1508 : (Jvm.Cond.selects "BumpwardModel" ({ cls := "BumpwardModel", name := "forward", desc := "(IZ)Z" } : Jvm.MethodName) ({ cls := "BumpwardModel", name := "forward", desc := "(IZ)Z" } : Jvm.MethodName)) ∈ lw_all := lw_g (lw_at lw_m7 20 rfl) rfl
theorem q1509 : (Jvm.Cond.code ({ cls := "BumpwardModel", name := "forward", desc := "(IZ)Z" } : Jvm.MethodName) prog_13_method_34_code (10 : Nat) (Option.some Jvm.ClassFile.FieldType.boolean)) ∈ lw_all := lw_g (lw_at lw_m7 21 rfl) rfl
theorem q1510 : (Jvm.Cond.methodLink "BumpwardModel" (149 : Nat) ({ cls := "BumpwardModel", name := "isNoWalker", desc := "(I)Z" } : Jvm.MethodName)) ∈ lw_all := lw_g (lw_at lw_m7 22 rfl) rfl
theorem q1511 : (Jvm.Cond.privateMethod ({ cls := "BumpwardModel", name := "isNoWalker", desc := "(I)Z" } : Jvm.MethodName)) ∈ lw_tbl := lw_at lw_m7 23 rfl
theorem q1512 : (Jvm.Cond.instanceMethod ({ cls := "BumpwardModel", name := "isNoWalker", desc := "(I)Z" } : Jvm.MethodName)) ∈ lw_all := lw_g (lw_at lw_m7 24 rfl) rfl
theorem q1513 : (Jvm.Cond.code ({ cls := "BumpwardModel", name := "isNoWalker", desc := "(I)Z" } : Jvm.MethodName) prog_13_method_8_code (2 : Nat) (Option.some Jvm.ClassFile.FieldType.boolean)) ∈ lw_all := lw_g (lw_at lw_m7 25 rfl) rfl
theorem q1514 : (Jvm.Cond.methodLink "BumpwardModel" (152 : Nat) ({ cls := "java/util/ArrayList", name := "get", desc := "(I)Ljava/lang/Object;" } : Jvm.MethodName)) ∈ lw_all := lw_g (lw_at lw_m7 26 rfl) rfl
theorem q1515 : (Jvm.Cond.methodLink "BumpwardModel" (122 : Nat) ({ cls := "BumpwardModel$Walker", name := "sure", desc := "()I" } : Jvm.MethodName)) ∈ lw_all := lw_g (lw_at lw_m7 27 rfl) rfl
theorem q1523 : (Jvm.Cond.methodLink "BumpwardModel" (156 : Nat) ({ cls := "BumpwardModel", name := "isRefused", desc := "(LBumpwardModel$Walker;Z)Z" } : Jvm.MethodName)) ∈ lw_all := lw_g (lw_at lw_m7 35 rfl) rfl
theorem q1524 : (Jvm.Cond.privateMethod ({ cls := "BumpwardModel", name := "isRefused", desc := "(LBumpwardModel$Walker;Z)Z" } : Jvm.MethodName)) ∈ lw_tbl := lw_at lw_m7 36 rfl
theorem q1525 : (Jvm.Cond.instanceMethod ({ cls := "BumpwardModel", name := "isRefused", desc := "(LBumpwardModel$Walker;Z)Z" } : Jvm.MethodName)) ∈ lw_all := lw_g (lw_at lw_m7 37 rfl) rfl
theorem q1526 : (Jvm.Cond.code ({ cls := "BumpwardModel", name := "isRefused", desc := "(LBumpwardModel$Walker;Z)Z" } : Jvm.MethodName) prog_13_method_30_code (3 : Nat) (Option.some Jvm.ClassFile.FieldType.boolean)) ∈ lw_all := lw_g (lw_at lw_m7 38 rfl) rfl
theorem q1527 : (Jvm.Cond.methodLink "BumpwardModel" (136 : Nat) ({ cls := "BumpwardModel", name := "isSafe", desc := "(LBumpwardModel$Walker;)Z" } : Jvm.MethodName)) ∈ lw_all := lw_g (lw_at lw_m7 39 rfl) rfl
theorem q1528 : (Jvm.Cond.privateMethod ({ cls := "BumpwardModel", name := "isSafe", desc := "(LBumpwardModel$Walker;)Z" } : Jvm.MethodName)) ∈ lw_tbl := lw_at lw_m7 40 rfl
theorem q1529 : (Jvm.Cond.instanceMethod ({ cls := "BumpwardModel", name := "isSafe", desc := "(LBumpwardModel$Walker;)Z" } : Jvm.MethodName)) ∈ lw_all := lw_g (lw_at lw_m7 41 rfl) rfl
theorem q1530 : (Jvm.Cond.code ({ cls := "BumpwardModel", name := "isSafe", desc := "(LBumpwardModel$Walker;)Z" } : Jvm.MethodName) prog_13_method_29_code (2 : Nat) (Option.some Jvm.ClassFile.FieldType.boolean)) ∈ lw_all := lw_g (lw_at lw_m7 42 rfl) rfl
theorem q1531 : (Jvm.Cond.methodLink "BumpwardModel" (133 : Nat) ({ cls := "BumpwardModel", name := "costOf", desc := "(LBumpwardModel$Walker;)I" } : Jvm.MethodName)) ∈ lw_all := lw_g (lw_at lw_m7 43 rfl) rfl
theorem q1532 : (Jvm.Cond.privateMethod ({ cls := "BumpwardModel", name := "costOf", desc := "(LBumpwardModel$Walker;)I" } : Jvm.MethodName)) ∈ lw_tbl := lw_at lw_m7 44 rfl
theorem q1533 : (Jvm.Cond.instanceMethod ({ cls := "BumpwardModel", name := "costOf", desc := "(LBumpwardModel$Walker;)I" } : Jvm.MethodName)) ∈ lw_all := lw_g (lw_at lw_m7 45 rfl) rfl
theorem q1534 : (Jvm.Cond.code ({ cls := "BumpwardModel", name := "costOf", desc := "(LBumpwardModel$Walker;)I" } : Jvm.MethodName) prog_13_method_28_code (2 : Nat) (Option.some Jvm.ClassFile.FieldType.int)) ∈ lw_all := lw_g (lw_at lw_m7 46 rfl) rfl
theorem q1535 : (Jvm.Cond.methodLink "BumpwardModel" (129 : Nat) ({ cls := "BumpwardModel", name := "returnOf", desc := "(LBumpwardModel$Walker;)I" } : Jvm.MethodName)) ∈ lw_all := lw_g (lw_at lw_m7 47 rfl) rfl
theorem q1536 : (Jvm.Cond.privateMethod ({ cls := "BumpwardModel", name := "returnOf", desc := "(LBumpwardModel$Walker;)I" } : Jvm.MethodName)) ∈ lw_tbl := lw_at lw_m7 48 rfl
theorem q1537 : (Jvm.Cond.instanceMethod ({ cls := "BumpwardModel", name := "returnOf", desc := "(LBumpwardModel$Walker;)I" } : Jvm.MethodName)) ∈ lw_all := lw_g (lw_at lw_m7 49 rfl) rfl
theorem q1538 : (Jvm.Cond.code ({ cls := "BumpwardModel", name := "returnOf", desc := "(LBumpwardModel$Walker;)I" } : Jvm.MethodName) prog_13_method_27_code (2 : Nat) (Option.some Jvm.ClassFile.FieldType.int)) ∈ lw_all := lw_g (lw_at lw_m7 50 rfl) rfl
theorem q1539 : (Jvm.Cond.methodLink "BumpwardModel" (125 : Nat) ({ cls := "BumpwardModel", name := "fars", desc := "(LBumpwardModel$Walker;I)[I" } : Jvm.MethodName)) ∈ lw_all := lw_g (lw_at lw_m7 51 rfl) rfl
theorem q1540 : (Jvm.Cond.privateMethod ({ cls := "BumpwardModel", name := "fars", desc := "(LBumpwardModel$Walker;I)[I" } : Jvm.MethodName)) ∈ lw_tbl := lw_at lw_m7 52 rfl
theorem q1541 : (Jvm.Cond.instanceMethod ({ cls := "BumpwardModel", name := "fars", desc := "(LBumpwardModel$Walker;I)[I" } : Jvm.MethodName)) ∈ lw_all := lw_g (lw_at lw_m7 53 rfl) rfl
theorem q1542 : (Jvm.Cond.code ({ cls := "BumpwardModel", name := "fars", desc := "(LBumpwardModel$Walker;I)[I" } : Jvm.MethodName) prog_13_method_26_code (7 : Nat) (Option.some (Jvm.ClassFile.FieldType.array Jvm.ClassFile.FieldType.int))) ∈ lw_all := lw_g (lw_at lw_m7 54 rfl) rfl
theorem q1543 : (Jvm.Cond.methodLink "BumpwardModel" (118 : Nat) ({ cls := "BumpwardModel", name := "known", desc := "(LBumpwardModel$Walker;II)I" } : Jvm.MethodName)) ∈ lw_all := lw_g (lw_at lw_m7 55 rfl) rfl
theorem q1544 : (Jvm.Cond.static ({ cls := "BumpwardModel", name := "known", desc := "(LBumpwardModel$Walker;II)I" } : Jvm.MethodName)) ∈ lw_all := lw_g (lw_at lw_m7 56 rfl) rfl
theorem q1545 : (Jvm.Cond.code ({ cls := "BumpwardModel", name := "known", desc := "(LBumpwardModel$Walker;II)I" } : Jvm.MethodName) prog_13_method_15_code (3 : Nat) (Option.some Jvm.ClassFile.FieldType.int)) ∈ lw_all := lw_g (lw_at lw_m7 57 rfl) rfl
theorem q1546 : (Jvm.Cond.methodLink "BumpwardModel" (160 : Nat) ({ cls := "BumpwardModel$Walker", name := "cell", desc := "()I" } : Jvm.MethodName)) ∈ lw_all := lw_g (lw_at lw_m7 58 rfl) rfl
theorem q1550 : (Jvm.Cond.methodLink "BumpwardModel" (163 : Nat) ({ cls := "BumpwardModel", name := "isWallNow", desc := "(II)Z" } : Jvm.MethodName)) ∈ lw_all := lw_g (lw_at lw_m7 62 rfl) rfl
theorem q1551 : (Jvm.Cond.privateMethod ({ cls := "BumpwardModel", name := "isWallNow", desc := "(II)Z" } : Jvm.MethodName)) ∈ lw_tbl := lw_at lw_m7 63 rfl
theorem q1552 : (Jvm.Cond.instanceMethod ({ cls := "BumpwardModel", name := "isWallNow", desc := "(II)Z" } : Jvm.MethodName)) ∈ lw_all := lw_g (lw_at lw_m7 64 rfl) rfl
theorem q1553 : (Jvm.Cond.code ({ cls := "BumpwardModel", name := "isWallNow", desc := "(II)Z" } : Jvm.MethodName) prog_13_method_14_code (3 : Nat) (Option.some Jvm.ClassFile.FieldType.boolean)) ∈ lw_all := lw_g (lw_at lw_m7 65 rfl) rfl
theorem q1554 : (Jvm.Cond.methodLink "BumpwardModel" (68 : Nat) ({ cls := "BumpwardModel", name := "isWallBy", desc := "(II)Z" } : Jvm.MethodName)) ∈ lw_all := lw_g (lw_at lw_m7 66 rfl) rfl
theorem q1555 : (Jvm.Cond.privateMethod ({ cls := "BumpwardModel", name := "isWallBy", desc := "(II)Z" } : Jvm.MethodName)) ∈ lw_tbl := lw_at lw_m7 67 rfl
theorem q1556 : (Jvm.Cond.instanceMethod ({ cls := "BumpwardModel", name := "isWallBy", desc := "(II)Z" } : Jvm.MethodName)) ∈ lw_all := lw_g (lw_at lw_m7 68 rfl) rfl
theorem q1557 : (Jvm.Cond.code ({ cls := "BumpwardModel", name := "isWallBy", desc := "(II)Z" } : Jvm.MethodName) prog_13_method_13_code (3 : Nat) (Option.some Jvm.ClassFile.FieldType.boolean)) ∈ lw_all := lw_g (lw_at lw_m7 69 rfl) rfl
theorem q1558 : (Jvm.Cond.methodLink "BumpwardModel" (57 : Nat) ({ cls := "BumpwardModel", name := "isOpen", desc := "(II)Z" } : Jvm.MethodName)) ∈ lw_all := lw_g (lw_at lw_m7 70 rfl) rfl
theorem q1559 : (Jvm.Cond.privateMethod ({ cls := "BumpwardModel", name := "isOpen", desc := "(II)Z" } : Jvm.MethodName)) ∈ lw_tbl := lw_at lw_m7 71 rfl
theorem q1560 : (Jvm.Cond.instanceMethod ({ cls := "BumpwardModel", name := "isOpen", desc := "(II)Z" } : Jvm.MethodName)) ∈ lw_all := lw_g (lw_at lw_m7 72 rfl) rfl
theorem q1561 : (Jvm.Cond.code ({ cls := "BumpwardModel", name := "isOpen", desc := "(II)Z" } : Jvm.MethodName) prog_13_method_12_code (3 : Nat) (Option.some Jvm.ClassFile.FieldType.boolean)) ∈ lw_all := lw_g (lw_at lw_m7 73 rfl) rfl
theorem q1562 : (Jvm.Cond.methodLink "BumpwardModel" (175 : Nat) ({ cls := "BumpwardModel", name := "learn", desc := "(LBumpwardModel$Walker;IIZ)V" } : Jvm.MethodName)) ∈ lw_all := lw_g (lw_at lw_m7 74 rfl) rfl
theorem q1563 : (Jvm.Cond.static ({ cls := "BumpwardModel", name := "learn", desc := "(LBumpwardModel$Walker;IIZ)V" } : Jvm.MethodName)) ∈ lw_all := lw_g (lw_at lw_m7 75 rfl) rfl
theorem q1564 : (Jvm.Cond.code ({ cls := "BumpwardModel", name := "learn", desc := "(LBumpwardModel$Walker;IIZ)V" } : Jvm.MethodName) prog_13_method_16_code (4 : Nat) (Option.none : Option Jvm.ClassFile.FieldType)) ∈ lw_all := lw_g (lw_at lw_m7 76 rfl) rfl
theorem q1565 : (Jvm.Cond.methodLink "BumpwardModel" (179 : Nat) ({ cls := "BumpwardModel", name := "stepped", desc := "(LBumpwardModel$Walker;Z)[Z" } : Jvm.MethodName)) ∈ lw_all := lw_g (lw_at lw_m7 77 rfl) rfl
theorem q1566 : (Jvm.Cond.static ({ cls := "BumpwardModel", name := "stepped", desc := "(LBumpwardModel$Walker;Z)[Z" } : Jvm.MethodName)) ∈ lw_all := lw_g (lw_at lw_m7 78 rfl) rfl
theorem q1567 : (Jvm.Cond.code ({ cls := "BumpwardModel", name := "stepped", desc := "(LBumpwardModel$Walker;Z)[Z" } : Jvm.MethodName) prog_13_method_33_code (5 : Nat) (Option.some (Jvm.ClassFile.FieldType.array Jvm.ClassFile.FieldType.boolean))) ∈ lw_all := lw_g (lw_at lw_m7 79 rfl) rfl
theorem q1568 : (Jvm.Cond.methodLink "BumpwardModel" (183 : Nat) ({ cls := "BumpwardModel", name := "take", desc := "(LBumpwardModel$Walker;[Z)V" } : Jvm.MethodName)) ∈ lw_all := lw_g (lw_at lw_m7 80 rfl) rfl
theorem q1569 : (Jvm.Cond.static ({ cls := "BumpwardModel", name := "take", desc := "(LBumpwardModel$Walker;[Z)V" } : Jvm.MethodName)) ∈ lw_all := lw_g (lw_at lw_m7 81 rfl) rfl
theorem q1570 : (Jvm.Cond.code ({ cls := "BumpwardModel", name := "take", desc := "(LBumpwardModel$Walker;[Z)V" } : Jvm.MethodName) prog_13_method_32_code (2 : Nat) (Option.none : Option Jvm.ClassFile.FieldType)) ∈ lw_all := lw_g (lw_at lw_m7 82 rfl) rfl
theorem q1571 : (Jvm.Cond.methodLink "BumpwardModel" (143 : Nat) ({ cls := "BumpwardModel$Walker", name := "many", desc := "()I" } : Jvm.MethodName)) ∈ lw_all := lw_g (lw_at lw_m7 83 rfl) rfl
theorem q1572 : (Jvm.Cond.methodLink "BumpwardModel" (187 : Nat) ({ cls := "BumpwardModel", name := "act", desc := "(LBumpwardModel$Walker;)V" } : Jvm.MethodName)) ∈ lw_all := lw_g (lw_at lw_m7 84 rfl) rfl
theorem q1573 : (Jvm.Cond.privateMethod ({ cls := "BumpwardModel", name := "act", desc := "(LBumpwardModel$Walker;)V" } : Jvm.MethodName)) ∈ lw_tbl := lw_at lw_m7 85 rfl
theorem q1574 : (Jvm.Cond.instanceMethod ({ cls := "BumpwardModel", name := "act", desc := "(LBumpwardModel$Walker;)V" } : Jvm.MethodName)) ∈ lw_all := lw_g (lw_at lw_m7 86 rfl) rfl
theorem q1575 : (Jvm.Cond.code ({ cls := "BumpwardModel", name := "act", desc := "(LBumpwardModel$Walker;)V" } : Jvm.MethodName) prog_13_method_31_code (2 : Nat) (Option.none : Option Jvm.ClassFile.FieldType)) ∈ lw_all := lw_g (lw_at lw_m7 87 rfl) rfl
theorem q1577 : (Jvm.Cond.instanceMethod ({ cls := "BumpwardModel", name := "turn", desc := "(IZZ)I" } : Jvm.MethodName)) ∈ lw_all := lw_g (lw_at lw_m7 89 rfl) rfl
theorem q1578 : (Jvm.Cond.selects "BumpwardModel" ({ cls := "BumpwardModel", name := "turn", desc := "(IZZ)I" } : Jvm.MethodName) ({ cls := "BumpwardModel", name := "turn", desc := "(IZZ)I" } : Jvm.MethodName)) ∈ lw_all := lw_g (lw_at lw_m7 90 rfl) rfl
theorem q1579 : (Jvm.Cond.code ({ cls := "BumpwardModel", name := "turn", desc := "(IZZ)I" } : Jvm.MethodName) prog_13_method_35_code (8 : Nat) (Option.some Jvm.ClassFile.FieldType.int)) ∈ lw_all := lw_g (lw_at lw_m7 91 rfl) rfl
theorem q1580 : (Jvm.Cond.methodLink "BumpwardModel" (190 : Nat) ({ cls := "BumpwardModel", name := "turned", desc := "(II)I" } : Jvm.MethodName)) ∈ lw_all := lw_g (lw_at lw_m7 92 rfl) rfl
theorem q1581 : (Jvm.Cond.static ({ cls := "BumpwardModel", name := "turned", desc := "(II)I" } : Jvm.MethodName)) ∈ lw_all := lw_g (lw_at lw_m7 93 rfl) rfl
theorem q1582 : (Jvm.Cond.code ({ cls := "BumpwardModel", name := "turned", desc := "(II)I" } : Jvm.MethodName) prog_13_method_18_code (2 : Nat) (Option.some Jvm.ClassFile.FieldType.int)) ∈ lw_all := lw_g (lw_at lw_m7 94 rfl) rfl
theorem q1584 : (Jvm.Cond.instanceMethod ({ cls := "BumpwardModel", name := "feel", desc := "(IZ)I" } : Jvm.MethodName)) ∈ lw_all := lw_g (lw_at lw_m7 96 rfl) rfl
theorem q1585 : (Jvm.Cond.selects "BumpwardModel" ({ cls := "BumpwardModel", name := "feel", desc := "(IZ)I" } : Jvm.MethodName) ({ cls := "BumpwardModel", name := "feel", desc := "(IZ)I" } : Jvm.MethodName)) ∈ lw_all := lw_g (lw_at lw_m7 97 rfl) rfl
theorem q1586 : (Jvm.Cond.code ({ cls := "BumpwardModel", name := "feel", desc := "(IZ)I" } : Jvm.MethodName) prog_13_method_38_code (7 : Nat) (Option.some Jvm.ClassFile.FieldType.int)) ∈ lw_all := lw_g (lw_at lw_m7 98 rfl) rfl
theorem q1587 : (Jvm.Cond.methodLink "BumpwardModel" (193 : Nat) ({ cls := "BumpwardModel", name := "felt", desc := "(II)I" } : Jvm.MethodName)) ∈ lw_all := lw_g (lw_at lw_m7 99 rfl) rfl
theorem q1588 : (Jvm.Cond.privateMethod ({ cls := "BumpwardModel", name := "felt", desc := "(II)I" } : Jvm.MethodName)) ∈ lw_tbl := lw_at lw_m7 100 rfl
theorem q1589 : (Jvm.Cond.instanceMethod ({ cls := "BumpwardModel", name := "felt", desc := "(II)I" } : Jvm.MethodName)) ∈ lw_all := lw_g (lw_at lw_m7 101 rfl) rfl
theorem q1590 : (Jvm.Cond.code ({ cls := "BumpwardModel", name := "felt", desc := "(II)I" } : Jvm.MethodName) prog_13_method_36_code (5 : Nat) (Option.some Jvm.ClassFile.FieldType.int)) ∈ lw_all := lw_g (lw_at lw_m7 102 rfl) rfl
theorem q1591 : (Jvm.Cond.methodLink "BumpwardModel" (196 : Nat) ({ cls := "BumpwardModel", name := "feeling", desc := "(LBumpwardModel$Walker;I)[Z" } : Jvm.MethodName)) ∈ lw_all := lw_g (lw_at lw_m7 103 rfl) rfl
theorem q1592 : (Jvm.Cond.static ({ cls := "BumpwardModel", name := "feeling", desc := "(LBumpwardModel$Walker;I)[Z" } : Jvm.MethodName)) ∈ lw_all := lw_g (lw_at lw_m7 104 rfl) rfl
theorem q1593 : (Jvm.Cond.code ({ cls := "BumpwardModel", name := "feeling", desc := "(LBumpwardModel$Walker;I)[Z" } : Jvm.MethodName) prog_13_method_37_code (6 : Nat) (Option.some (Jvm.ClassFile.FieldType.array Jvm.ClassFile.FieldType.boolean))) ∈ lw_all := lw_g (lw_at lw_m7 105 rfl) rfl
theorem q1595 : (Jvm.Cond.instanceMethod ({ cls := "BumpwardModel", name := "listen", desc := "(IZ)I" } : Jvm.MethodName)) ∈ lw_all := lw_g (lw_at lw_m7 107 rfl) rfl
theorem q1596 : (Jvm.Cond.selects "BumpwardModel" ({ cls := "BumpwardModel", name := "listen", desc := "(IZ)I" } : Jvm.MethodName) ({ cls := "BumpwardModel", name := "listen", desc := "(IZ)I" } : Jvm.MethodName)) ∈ lw_all := lw_g (lw_at lw_m7 108 rfl) rfl
theorem q1597 : (Jvm.Cond.code ({ cls := "BumpwardModel", name := "listen", desc := "(IZ)I" } : Jvm.MethodName) prog_13_method_39_code (7 : Nat) (Option.some Jvm.ClassFile.FieldType.int)) ∈ lw_all := lw_g (lw_at lw_m7 109 rfl) rfl
theorem q1598 : (Jvm.Cond.methodLink "BumpwardModel" (200 : Nat) ({ cls := "java/util/ArrayList", name := "iterator", desc := "()Ljava/util/Iterator;" } : Jvm.MethodName)) ∈ lw_all := lw_g (lw_at lw_m7 110 rfl) rfl
theorem q1599 : (Jvm.Cond.interfaceEntry "BumpwardModel" (204 : Nat)) ∈ lw_tbl := lw_at lw_m7 111 rfl
theorem q1600 : (Jvm.Cond.methodLink "BumpwardModel" (204 : Nat) ({ cls := "java/util/Iterator", name := "hasNext", desc := "()Z" } : Jvm.MethodName)) ∈ lw_all := lw_g (lw_at lw_m7 112 rfl) rfl
theorem q1601 : (Jvm.Cond.interfaceEntry "BumpwardModel" (210 : Nat)) ∈ lw_tbl := lw_at lw_m7 113 rfl
theorem q1602 : (Jvm.Cond.methodLink "BumpwardModel" (210 : Nat) ({ cls := "java/util/Iterator", name := "next", desc := "()Ljava/lang/Object;" } : Jvm.MethodName)) ∈ lw_all := lw_g (lw_at lw_m7 114 rfl) rfl
theorem q1603 : (Jvm.Cond.methodLink "BumpwardModel" (214 : Nat) ({ cls := "java/lang/Math", name := "abs", desc := "(I)I" } : Jvm.MethodName)) ∈ lw_all := lw_g (lw_at lw_m7 115 rfl) rfl
theorem q1605 : (Jvm.Cond.instanceMethod ({ cls := "BumpwardModel", name := "charge", desc := "(II)I" } : Jvm.MethodName)) ∈ lw_all := lw_g (lw_at lw_m7 117 rfl) rfl
theorem q1606 : (Jvm.Cond.selects "BumpwardModel" ({ cls := "BumpwardModel", name := "charge", desc := "(II)I" } : Jvm.MethodName) ({ cls := "BumpwardModel", name := "charge", desc := "(II)I" } : Jvm.MethodName)) ∈ lw_all := lw_g (lw_at lw_m7 118 rfl) rfl
theorem q1607 : (Jvm.Cond.code ({ cls := "BumpwardModel", name := "charge", desc := "(II)I" } : Jvm.MethodName) prog_13_method_40_code (4 : Nat) (Option.some Jvm.ClassFile.FieldType.int)) ∈ lw_all := lw_g (lw_at lw_m7 119 rfl) rfl
theorem q1609 : (Jvm.Cond.instanceMethod ({ cls := "BumpwardModel", name := "tellPose", desc := "(I)I" } : Jvm.MethodName)) ∈ lw_all := lw_g (lw_at lw_m7 121 rfl) rfl
theorem q1610 : (Jvm.Cond.selects "BumpwardModel" ({ cls := "BumpwardModel", name := "tellPose", desc := "(I)I" } : Jvm.MethodName) ({ cls := "BumpwardModel", name := "tellPose", desc := "(I)I" } : Jvm.MethodName)) ∈ lw_all := lw_g (lw_at lw_m7 122 rfl) rfl
theorem q1611 : (Jvm.Cond.code ({ cls := "BumpwardModel", name := "tellPose", desc := "(I)I" } : Jvm.MethodName) prog_13_method_41_code (4 : Nat) (Option.some Jvm.ClassFile.FieldType.int)) ∈ lw_all := lw_g (lw_at lw_m7 123 rfl) rfl
theorem q1613 : (Jvm.Cond.instanceMethod ({ cls := "BumpwardModel", name := "meet", desc := "(II)I" } : Jvm.MethodName)) ∈ lw_all := lw_g (lw_at lw_m7 125 rfl) rfl
theorem q1614 : (Jvm.Cond.selects "BumpwardModel" ({ cls := "BumpwardModel", name := "meet", desc := "(II)I" } : Jvm.MethodName) ({ cls := "BumpwardModel", name := "meet", desc := "(II)I" } : Jvm.MethodName)) ∈ lw_all := lw_g (lw_at lw_m7 126 rfl) rfl
theorem q1615 : (Jvm.Cond.code ({ cls := "BumpwardModel", name := "meet", desc := "(II)I" } : Jvm.MethodName) prog_13_method_42_code (10 : Nat) (Option.some Jvm.ClassFile.FieldType.int)) ∈ lw_all := lw_g (lw_at lw_m7 127 rfl) rfl
theorem q1617 : (Jvm.Cond.instanceMethod ({ cls := "BumpwardModel", name := "pass", desc := "(I)I" } : Jvm.MethodName)) ∈ lw_all := lw_g (lw_at lw_m7 129 rfl) rfl
theorem q1618 : (Jvm.Cond.selects "BumpwardModel" ({ cls := "BumpwardModel", name := "pass", desc := "(I)I" } : Jvm.MethodName) ({ cls := "BumpwardModel", name := "pass", desc := "(I)I" } : Jvm.MethodName)) ∈ lw_all := lw_g (lw_at lw_m7 130 rfl) rfl
theorem q1619 : (Jvm.Cond.code ({ cls := "BumpwardModel", name := "pass", desc := "(I)I" } : Jvm.MethodName) prog_13_method_43_code (2 : Nat) (Option.some Jvm.ClassFile.FieldType.int)) ∈ lw_all := lw_g (lw_at lw_m7 131 rfl) rfl
theorem q1621 : (Jvm.Cond.instanceMethod ({ cls := "BumpwardModel", name := "call", desc := "()I" } : Jvm.MethodName)) ∈ lw_all := lw_g (lw_at lw_m7 133 rfl) rfl
theorem q1622 : (Jvm.Cond.selects "BumpwardModel" ({ cls := "BumpwardModel", name := "call", desc := "()I" } : Jvm.MethodName) ({ cls := "BumpwardModel", name := "call", desc := "()I" } : Jvm.MethodName)) ∈ lw_all := lw_g (lw_at lw_m7 134 rfl) rfl
theorem q1623 : (Jvm.Cond.code ({ cls := "BumpwardModel", name := "call", desc := "()I" } : Jvm.MethodName) prog_13_method_44_code (1 : Nat) (Option.some Jvm.ClassFile.FieldType.int)) ∈ lw_all := lw_g (lw_at lw_m7 135 rfl) rfl
theorem q1625 : (Jvm.Cond.instanceMethod ({ cls := "BumpwardModel", name := "ofEdge", desc := "(III)I" } : Jvm.MethodName)) ∈ lw_all := lw_g (lw_at lw_m7 137 rfl) rfl
theorem q1626 : (Jvm.Cond.selects "BumpwardModel" ({ cls := "BumpwardModel", name := "ofEdge", desc := "(III)I" } : Jvm.MethodName) ({ cls := "BumpwardModel", name := "ofEdge", desc := "(III)I" } : Jvm.MethodName)) ∈ lw_all := lw_g (lw_at lw_m7 138 rfl) rfl
theorem q1627 : (Jvm.Cond.code ({ cls := "BumpwardModel", name := "ofEdge", desc := "(III)I" } : Jvm.MethodName) prog_13_method_46_code (4 : Nat) (Option.some Jvm.ClassFile.FieldType.int)) ∈ lw_all := lw_g (lw_at lw_m7 139 rfl) rfl
theorem q1628 : (Jvm.Cond.methodLink "BumpwardModel" (228 : Nat) ({ cls := "BumpwardModel", name := "ofEdgeNow", desc := "(III)I" } : Jvm.MethodName)) ∈ lw_all := lw_g (lw_at lw_m7 140 rfl) rfl
theorem q1629 : (Jvm.Cond.privateMethod ({ cls := "BumpwardModel", name := "ofEdgeNow", desc := "(III)I" } : Jvm.MethodName)) ∈ lw_tbl := lw_at lw_m7 141 rfl
theorem q1630 : (Jvm.Cond.instanceMethod ({ cls := "BumpwardModel", name := "ofEdgeNow", desc := "(III)I" } : Jvm.MethodName)) ∈ lw_all := lw_g (lw_at lw_m7 142 rfl) rfl
theorem q1631 : (Jvm.Cond.code ({ cls := "BumpwardModel", name := "ofEdgeNow", desc := "(III)I" } : Jvm.MethodName) prog_13_method_45_code (6 : Nat) (Option.some Jvm.ClassFile.FieldType.int)) ∈ lw_all := lw_g (lw_at lw_m7 143 rfl) rfl
theorem q1633 : (Jvm.Cond.instanceMethod ({ cls := "BumpwardModel", name := "ofWalker", desc := "(II)I" } : Jvm.MethodName)) ∈ lw_all := lw_g (lw_at lw_m7 145 rfl) rfl
theorem q1634 : (Jvm.Cond.selects "BumpwardModel" ({ cls := "BumpwardModel", name := "ofWalker", desc := "(II)I" } : Jvm.MethodName) ({ cls := "BumpwardModel", name := "ofWalker", desc := "(II)I" } : Jvm.MethodName)) ∈ lw_all := lw_g (lw_at lw_m7 146 rfl) rfl
theorem q1635 : (Jvm.Cond.code ({ cls := "BumpwardModel", name := "ofWalker", desc := "(II)I" } : Jvm.MethodName) prog_13_method_48_code (3 : Nat) (Option.some Jvm.ClassFile.FieldType.int)) ∈ lw_all := lw_g (lw_at lw_m7 147 rfl) rfl
theorem q1636 : (Jvm.Cond.methodLink "BumpwardModel" (232 : Nat) ({ cls := "BumpwardModel", name := "ofWalkerNow", desc := "(LBumpwardModel$Walker;I)I" } : Jvm.MethodName)) ∈ lw_all := lw_g (lw_at lw_m7 148 rfl) rfl
theorem q1637 : (Jvm.Cond.privateMethod ({ cls := "BumpwardModel", name := "ofWalkerNow", desc := "(LBumpwardModel$Walker;I)I" } : Jvm.MethodName)) ∈ lw_tbl := lw_at lw_m7 149 rfl
theorem q1638 : (Jvm.Cond.instanceMethod ({ cls := "BumpwardModel", name := "ofWalkerNow", desc := "(LBumpwardModel$Walker;I)I" } : Jvm.MethodName)) ∈ lw_all := lw_g (lw_at lw_m7 150 rfl) rfl
theorem q1639 : (Jvm.Cond.code ({ cls := "BumpwardModel", name := "ofWalkerNow", desc := "(LBumpwardModel$Walker;I)I" } : Jvm.MethodName) prog_13_method_47_code (9 : Nat) (Option.some Jvm.ClassFile.FieldType.int)) ∈ lw_all := lw_g (lw_at lw_m7 151 rfl) rfl
theorem q1641 : (Jvm.Cond.instanceMethod ({ cls := "BumpwardModel", name := "house", desc := "(I)I" } : Jvm.MethodName)) ∈ lw_all := lw_g (lw_at lw_m7 153 rfl) rfl
theorem q1642 : (Jvm.Cond.selects "BumpwardModel" ({ cls := "BumpwardModel", name := "house", desc := "(I)I" } : Jvm.MethodName) ({ cls := "BumpwardModel", name := "house", desc := "(I)I" } : Jvm.MethodName)) ∈ lw_all := lw_g (lw_at lw_m7 154 rfl) rfl
theorem q1643 : (Jvm.Cond.code ({ cls := "BumpwardModel", name := "house", desc := "(I)I" } : Jvm.MethodName) prog_13_method_50_code (2 : Nat) (Option.some Jvm.ClassFile.FieldType.int)) ∈ lw_all := lw_g (lw_at lw_m7 155 rfl) rfl
theorem q1644 : (Jvm.Cond.methodLink "BumpwardModel" (236 : Nat) ({ cls := "BumpwardModel", name := "houseNow", desc := "(I)I" } : Jvm.MethodName)) ∈ lw_all := lw_g (lw_at lw_m7 156 rfl) rfl
theorem q1645 : (Jvm.Cond.privateMethod ({ cls := "BumpwardModel", name := "houseNow", desc := "(I)I" } : Jvm.MethodName)) ∈ lw_tbl := lw_at lw_m7 157 rfl
theorem q1646 : (Jvm.Cond.instanceMethod ({ cls := "BumpwardModel", name := "houseNow", desc := "(I)I" } : Jvm.MethodName)) ∈ lw_all := lw_g (lw_at lw_m7 158 rfl) rfl
theorem q1647 : (Jvm.Cond.code ({ cls := "BumpwardModel", name := "houseNow", desc := "(I)I" } : Jvm.MethodName) prog_13_method_49_code (5 : Nat) (Option.some Jvm.ClassFile.FieldType.int)) ∈ lw_all := lw_g (lw_at lw_m7 159 rfl) rfl
theorem q1649 : (Jvm.Cond.instanceMethod ({ cls := "BumpwardModel", name := "row", desc := "(I)Ljava/lang/String;" } : Jvm.MethodName)) ∈ lw_all := lw_g (lw_at lw_m7 161 rfl) rfl
theorem q1650 : (Jvm.Cond.selects "BumpwardModel" ({ cls := "BumpwardModel", name := "row", desc := "(I)Ljava/lang/String;" } : Jvm.MethodName) ({ cls := "BumpwardModel", name := "row", desc := "(I)Ljava/lang/String;" } : Jvm.MethodName)) ∈ lw_all := lw_g (lw_at lw_m7 162 rfl) rfl
theorem q1651 : (Jvm.Cond.code ({ cls := "BumpwardModel", name := "row", desc := "(I)Ljava/lang/String;" } : Jvm.MethodName) prog_13_method_51_code (6 : Nat) (Option.some (Jvm.ClassFile.FieldType.object "java/lang/String"))) ∈ lw_all := lw_g (lw_at lw_m7 163 rfl) rfl
theorem q1652 : (Jvm.Cond.stringRef "BumpwardModel" (239 : Nat) "") ∈ lw_tbl := lw_at lw_m7 164 rfl
theorem q1653 : (Jvm.Cond.classLink "BumpwardModel" (241 : Nat) "java/lang/StringBuilder") ∈ lw_all := lw_g (lw_at lw_m7 165 rfl) rfl
theorem q1654 : (Jvm.Cond.methodLink "BumpwardModel" (243 : Nat) ({ cls := "java/lang/StringBuilder", name := "<init>", desc := "()V" } : Jvm.MethodName)) ∈ lw_all := lw_g (lw_at lw_m7 166 rfl) rfl
theorem q1655 : (Jvm.Cond.methodLink "BumpwardModel" (244 : Nat) ({ cls := "java/lang/String", name := "valueOf", desc := "(I)Ljava/lang/String;" } : Jvm.MethodName)) ∈ lw_all := lw_g (lw_at lw_m7 167 rfl) rfl
theorem q1669 : (Jvm.Cond.stringRef "BumpwardModel" (250 : Nat) "x") ∈ lw_tbl := lw_at lw_m7 181 rfl
theorem q1670 : (Jvm.Cond.stringRef "BumpwardModel" (252 : Nat) "c") ∈ lw_tbl := lw_at lw_m7 182 rfl
theorem q1671 : (Jvm.Cond.stringRef "BumpwardModel" (254 : Nat) ".") ∈ lw_tbl := lw_at lw_m7 183 rfl
theorem q1672 : (Jvm.Cond.methodLink "BumpwardModel" (256 : Nat) ({ cls := "java/lang/StringBuilder", name := "append", desc := "(Ljava/lang/String;)Ljava/lang/StringBuilder;" } : Jvm.MethodName)) ∈ lw_all := lw_g (lw_at lw_m7 184 rfl) rfl
theorem q1673 : (Jvm.Cond.stringRef "BumpwardModel" (260 : Nat) " |/") ∈ lw_tbl := lw_at lw_m7 185 rfl
theorem q1674 : (Jvm.Cond.methodLink "BumpwardModel" (262 : Nat) ({ cls := "java/lang/String", name := "charAt", desc := "(I)C" } : Jvm.MethodName)) ∈ lw_all := lw_g (lw_at lw_m7 186 rfl) rfl
theorem q1689 : (Jvm.Cond.methodLink "BumpwardModel" (266 : Nat) ({ cls := "java/lang/StringBuilder", name := "append", desc := "(C)Ljava/lang/StringBuilder;" } : Jvm.MethodName)) ∈ lw_all := lw_g (lw_at lw_m7 201 rfl) rfl
theorem q1690 : (Jvm.Cond.methodLink "BumpwardModel" (269 : Nat) ({ cls := "java/lang/StringBuilder", name := "toString", desc := "()Ljava/lang/String;" } : Jvm.MethodName)) ∈ lw_all := lw_g (lw_at lw_m7 202 rfl) rfl
theorem q1692 : (Jvm.Cond.instanceMethod ({ cls := "BumpwardModel", name := "map", desc := "(III)I" } : Jvm.MethodName)) ∈ lw_all := lw_g (lw_at lw_m7 204 rfl) rfl
theorem q1693 : (Jvm.Cond.selects "BumpwardModel" ({ cls := "BumpwardModel", name := "map", desc := "(III)I" } : Jvm.MethodName) ({ cls := "BumpwardModel", name := "map", desc := "(III)I" } : Jvm.MethodName)) ∈ lw_all := lw_g (lw_at lw_m7 205 rfl) rfl
theorem q1694 : (Jvm.Cond.code ({ cls := "BumpwardModel", name := "map", desc := "(III)I" } : Jvm.MethodName) prog_13_method_52_code (4 : Nat) (Option.some Jvm.ClassFile.FieldType.int)) ∈ lw_all := lw_g (lw_at lw_m7 206 rfl) rfl
theorem q1696 : (Jvm.Cond.instanceMethod ({ cls := "BumpwardModel", name := "may", desc := "(II)Z" } : Jvm.MethodName)) ∈ lw_all := lw_g (lw_at lw_m7 208 rfl) rfl
theorem q1697 : (Jvm.Cond.selects "BumpwardModel" ({ cls := "BumpwardModel", name := "may", desc := "(II)Z" } : Jvm.MethodName) ({ cls := "BumpwardModel", name := "may", desc := "(II)Z" } : Jvm.MethodName)) ∈ lw_all := lw_g (lw_at lw_m7 209 rfl) rfl
theorem q1698 : (Jvm.Cond.code ({ cls := "BumpwardModel", name := "may", desc := "(II)Z" } : Jvm.MethodName) prog_13_method_53_code (3 : Nat) (Option.some Jvm.ClassFile.FieldType.boolean)) ∈ lw_all := lw_g (lw_at lw_m7 210 rfl) rfl
theorem q1700 : (Jvm.Cond.instanceMethod ({ cls := "BumpwardModel", name := "where", desc := "(II)J" } : Jvm.MethodName)) ∈ lw_all := lw_g (lw_at lw_m7 212 rfl) rfl
theorem q1701 : (Jvm.Cond.selects "BumpwardModel" ({ cls := "BumpwardModel", name := "where", desc := "(II)J" } : Jvm.MethodName) ({ cls := "BumpwardModel", name := "where", desc := "(II)J" } : Jvm.MethodName)) ∈ lw_all := lw_g (lw_at lw_m7 213 rfl) rfl
theorem q1702 : (Jvm.Cond.code ({ cls := "BumpwardModel", name := "where", desc := "(II)J" } : Jvm.MethodName) prog_13_method_55_code (3 : Nat) (Option.some Jvm.ClassFile.FieldType.long)) ∈ lw_all := lw_g (lw_at lw_m7 214 rfl) rfl
theorem q1703 : (Jvm.Cond.methodLink "BumpwardModel" (273 : Nat) ({ cls := "BumpwardModel", name := "whereNow", desc := "(LBumpwardModel$Walker;I)J" } : Jvm.MethodName)) ∈ lw_all := lw_g (lw_at lw_m7 215 rfl) rfl
theorem q1704 : (Jvm.Cond.privateMethod ({ cls := "BumpwardModel", name := "whereNow", desc := "(LBumpwardModel$Walker;I)J" } : Jvm.MethodName)) ∈ lw_tbl := lw_at lw_m7 216 rfl
theorem q1705 : (Jvm.Cond.instanceMethod ({ cls := "BumpwardModel", name := "whereNow", desc := "(LBumpwardModel$Walker;I)J" } : Jvm.MethodName)) ∈ lw_all := lw_g (lw_at lw_m7 217 rfl) rfl
theorem q1706 : (Jvm.Cond.code ({ cls := "BumpwardModel", name := "whereNow", desc := "(LBumpwardModel$Walker;I)J" } : Jvm.MethodName) prog_13_method_54_code (6 : Nat) (Option.some Jvm.ClassFile.FieldType.long)) ∈ lw_all := lw_g (lw_at lw_m7 218 rfl) rfl
theorem q1708 : (Jvm.Cond.instanceMethod ({ cls := "BumpwardModel", name := "way", desc := "(III)I" } : Jvm.MethodName)) ∈ lw_all := lw_g (lw_at lw_m7 220 rfl) rfl
theorem q1709 : (Jvm.Cond.selects "BumpwardModel" ({ cls := "BumpwardModel", name := "way", desc := "(III)I" } : Jvm.MethodName) ({ cls := "BumpwardModel", name := "way", desc := "(III)I" } : Jvm.MethodName)) ∈ lw_all := lw_g (lw_at lw_m7 221 rfl) rfl
theorem q1710 : (Jvm.Cond.code ({ cls := "BumpwardModel", name := "way", desc := "(III)I" } : Jvm.MethodName) prog_13_method_56_code (4 : Nat) (Option.some Jvm.ClassFile.FieldType.int)) ∈ lw_all := lw_g (lw_at lw_m7 222 rfl) rfl
theorem q1712 : (Jvm.Cond.instanceMethod ({ cls := "BumpwardModel", name := "safety", desc := "(II)I" } : Jvm.MethodName)) ∈ lw_all := lw_g (lw_at lw_m7 224 rfl) rfl
theorem q1713 : (Jvm.Cond.selects "BumpwardModel" ({ cls := "BumpwardModel", name := "safety", desc := "(II)I" } : Jvm.MethodName) ({ cls := "BumpwardModel", name := "safety", desc := "(II)I" } : Jvm.MethodName)) ∈ lw_all := lw_g (lw_at lw_m7 225 rfl) rfl
theorem q1714 : (Jvm.Cond.code ({ cls := "BumpwardModel", name := "safety", desc := "(II)I" } : Jvm.MethodName) prog_13_method_59_code (3 : Nat) (Option.some Jvm.ClassFile.FieldType.int)) ∈ lw_all := lw_g (lw_at lw_m7 226 rfl) rfl
theorem q1715 : (Jvm.Cond.methodLink "BumpwardModel" (280 : Nat) ({ cls := "BumpwardModel", name := "safetyNow", desc := "(LBumpwardModel$Walker;I)I" } : Jvm.MethodName)) ∈ lw_all := lw_g (lw_at lw_m7 227 rfl) rfl
theorem q1716 : (Jvm.Cond.privateMethod ({ cls := "BumpwardModel", name := "safetyNow", desc := "(LBumpwardModel$Walker;I)I" } : Jvm.MethodName)) ∈ lw_tbl := lw_at lw_m7 228 rfl
theorem q1717 : (Jvm.Cond.instanceMethod ({ cls := "BumpwardModel", name := "safetyNow", desc := "(LBumpwardModel$Walker;I)I" } : Jvm.MethodName)) ∈ lw_all := lw_g (lw_at lw_m7 229 rfl) rfl
theorem q1718 : (Jvm.Cond.code ({ cls := "BumpwardModel", name := "safetyNow", desc := "(LBumpwardModel$Walker;I)I" } : Jvm.MethodName) prog_13_method_58_code (3 : Nat) (Option.some Jvm.ClassFile.FieldType.int)) ∈ lw_all := lw_g (lw_at lw_m7 230 rfl) rfl
theorem q1719 : (Jvm.Cond.methodLink "BumpwardModel" (277 : Nat) ({ cls := "BumpwardModel", name := "goalOf", desc := "(LBumpwardModel$Walker;)I" } : Jvm.MethodName)) ∈ lw_all := lw_g (lw_at lw_m7 231 rfl) rfl
theorem q1720 : (Jvm.Cond.privateMethod ({ cls := "BumpwardModel", name := "goalOf", desc := "(LBumpwardModel$Walker;)I" } : Jvm.MethodName)) ∈ lw_tbl := lw_at lw_m7 232 rfl
theorem q1721 : (Jvm.Cond.instanceMethod ({ cls := "BumpwardModel", name := "goalOf", desc := "(LBumpwardModel$Walker;)I" } : Jvm.MethodName)) ∈ lw_all := lw_g (lw_at lw_m7 233 rfl) rfl
theorem q1722 : (Jvm.Cond.code ({ cls := "BumpwardModel", name := "goalOf", desc := "(LBumpwardModel$Walker;)I" } : Jvm.MethodName) prog_13_method_57_code (7 : Nat) (Option.some Jvm.ClassFile.FieldType.int)) ∈ lw_all := lw_g (lw_at lw_m7 234 rfl) rfl
theorem q1724 : (Jvm.Cond.instanceMethod ({ cls := "BumpwardModel", name := "doubt", desc := "(I)D" } : Jvm.MethodName)) ∈ lw_all := lw_g (lw_at lw_m7 236 rfl) rfl
theorem q1725 : (Jvm.Cond.selects "BumpwardModel" ({ cls := "BumpwardModel", name := "doubt", desc := "(I)D" } : Jvm.MethodName) ({ cls := "BumpwardModel", name := "doubt", desc := "(I)D" } : Jvm.MethodName)) ∈ lw_all := lw_g (lw_at lw_m7 237 rfl) rfl
theorem q1726 : (Jvm.Cond.code ({ cls := "BumpwardModel", name := "doubt", desc := "(I)D" } : Jvm.MethodName) prog_13_method_61_code (2 : Nat) (Option.some Jvm.ClassFile.FieldType.double)) ∈ lw_all := lw_g (lw_at lw_m7 238 rfl) rfl
theorem q1727 : (Jvm.Cond.methodLink "BumpwardModel" (285 : Nat) ({ cls := "BumpwardModel", name := "doubtNow", desc := "(LBumpwardModel$Walker;)D" } : Jvm.MethodName)) ∈ lw_all := lw_g (lw_at lw_m7 239 rfl) rfl
theorem q1728 : (Jvm.Cond.privateMethod ({ cls := "BumpwardModel", name := "doubtNow", desc := "(LBumpwardModel$Walker;)D" } : Jvm.MethodName)) ∈ lw_tbl := lw_at lw_m8 0 rfl
theorem q1729 : (Jvm.Cond.instanceMethod ({ cls := "BumpwardModel", name := "doubtNow", desc := "(LBumpwardModel$Walker;)D" } : Jvm.MethodName)) ∈ lw_all := lw_g (lw_at lw_m8 1 rfl) rfl
theorem q1730 : (Jvm.Cond.code ({ cls := "BumpwardModel", name := "doubtNow", desc := "(LBumpwardModel$Walker;)D" } : Jvm.MethodName) prog_13_method_60_code (4 : Nat) (Option.some Jvm.ClassFile.FieldType.double)) ∈ lw_all := lw_g (lw_at lw_m8 2 rfl) rfl
theorem q1731 : (Jvm.Cond.constantDouble "BumpwardModel" (283 : Nat) (4630263366890291200 : UInt64)) ∈ lw_all := lw_g (lw_at lw_m8 3 rfl) rfl
theorem q1733 : (Jvm.Cond.instanceMethod ({ cls := "BumpwardModel", name := "worst", desc := "(II)I" } : Jvm.MethodName)) ∈ lw_all := lw_g (lw_at lw_m8 5 rfl) rfl
theorem q1734 : (Jvm.Cond.selects "BumpwardModel" ({ cls := "BumpwardModel", name := "worst", desc := "(II)I" } : Jvm.MethodName) ({ cls := "BumpwardModel", name := "worst", desc := "(II)I" } : Jvm.MethodName)) ∈ lw_all := lw_g (lw_at lw_m8 6 rfl) rfl
theorem q1735 : (Jvm.Cond.code ({ cls := "BumpwardModel", name := "worst", desc := "(II)I" } : Jvm.MethodName) prog_13_method_63_code (3 : Nat) (Option.some Jvm.ClassFile.FieldType.int)) ∈ lw_all := lw_g (lw_at lw_m8 7 rfl) rfl
theorem q1736 : (Jvm.Cond.methodLink "BumpwardModel" (292 : Nat) ({ cls := "BumpwardModel", name := "worstNow", desc := "(LBumpwardModel$Walker;I)I" } : Jvm.MethodName)) ∈ lw_all := lw_g (lw_at lw_m8 8 rfl) rfl
theorem q1737 : (Jvm.Cond.privateMethod ({ cls := "BumpwardModel", name := "worstNow", desc := "(LBumpwardModel$Walker;I)I" } : Jvm.MethodName)) ∈ lw_tbl := lw_at lw_m8 9 rfl
theorem q1738 : (Jvm.Cond.instanceMethod ({ cls := "BumpwardModel", name := "worstNow", desc := "(LBumpwardModel$Walker;I)I" } : Jvm.MethodName)) ∈ lw_all := lw_g (lw_at lw_m8 10 rfl) rfl
theorem q1739 : (Jvm.Cond.code ({ cls := "BumpwardModel", name := "worstNow", desc := "(LBumpwardModel$Walker;I)I" } : Jvm.MethodName) prog_13_method_62_code (5 : Nat) (Option.some Jvm.ClassFile.FieldType.int)) ∈ lw_all := lw_g (lw_at lw_m8 11 rfl) rfl
theorem q1740 : (Jvm.Cond.methodLink "BumpwardModel" (289 : Nat) ({ cls := "java/lang/Math", name := "max", desc := "(II)I" } : Jvm.MethodName)) ∈ lw_all := lw_g (lw_at lw_m8 12 rfl) rfl
theorem q1742 : (Jvm.Cond.instanceMethod ({ cls := "BumpwardModel", name := "best", desc := "(I)I" } : Jvm.MethodName)) ∈ lw_all := lw_g (lw_at lw_m8 14 rfl) rfl
theorem q1743 : (Jvm.Cond.selects "BumpwardModel" ({ cls := "BumpwardModel", name := "best", desc := "(I)I" } : Jvm.MethodName) ({ cls := "BumpwardModel", name := "best", desc := "(I)I" } : Jvm.MethodName)) ∈ lw_all := lw_g (lw_at lw_m8 15 rfl) rfl
theorem q1744 : (Jvm.Cond.code ({ cls := "BumpwardModel", name := "best", desc := "(I)I" } : Jvm.MethodName) prog_13_method_65_code (2 : Nat) (Option.some Jvm.ClassFile.FieldType.int)) ∈ lw_all := lw_g (lw_at lw_m8 16 rfl) rfl
theorem q1745 : (Jvm.Cond.methodLink "BumpwardModel" (295 : Nat) ({ cls := "BumpwardModel", name := "bestNow", desc := "(LBumpwardModel$Walker;)I" } : Jvm.MethodName)) ∈ lw_all := lw_g (lw_at lw_m8 17 rfl) rfl
theorem q1746 : (Jvm.Cond.privateMethod ({ cls := "BumpwardModel", name := "bestNow", desc := "(LBumpwardModel$Walker;)I" } : Jvm.MethodName)) ∈ lw_tbl := lw_at lw_m8 18 rfl
theorem q1747 : (Jvm.Cond.instanceMethod ({ cls := "BumpwardModel", name := "bestNow", desc := "(LBumpwardModel$Walker;)I" } : Jvm.MethodName)) ∈ lw_all := lw_g (lw_at lw_m8 19 rfl) rfl
theorem q1748 : (Jvm.Cond.code ({ cls := "BumpwardModel", name := "bestNow", desc := "(LBumpwardModel$Walker;)I" } : Jvm.MethodName) prog_13_method_64_code (4 : Nat) (Option.some Jvm.ClassFile.FieldType.int)) ∈ lw_all := lw_g (lw_at lw_m8 20 rfl) rfl
theorem q1750 : (Jvm.Cond.instanceMethod ({ cls := "BumpwardModel", name := "wouldFeel", desc := "(II)I" } : Jvm.MethodName)) ∈ lw_all := lw_g (lw_at lw_m8 22 rfl) rfl
theorem q1751 : (Jvm.Cond.selects "BumpwardModel" ({ cls := "BumpwardModel", name := "wouldFeel", desc := "(II)I" } : Jvm.MethodName) ({ cls := "BumpwardModel", name := "wouldFeel", desc := "(II)I" } : Jvm.MethodName)) ∈ lw_all := lw_g (lw_at lw_m8 23 rfl) rfl
theorem q1752 : (Jvm.Cond.code ({ cls := "BumpwardModel", name := "wouldFeel", desc := "(II)I" } : Jvm.MethodName) prog_13_method_66_code (3 : Nat) (Option.some Jvm.ClassFile.FieldType.int)) ∈ lw_all := lw_g (lw_at lw_m8 24 rfl) rfl
theorem q1754 : (Jvm.Cond.instanceMethod ({ cls := "BumpwardModel", name := "wouldBe", desc := "(II)I" } : Jvm.MethodName)) ∈ lw_all := lw_g (lw_at lw_m8 26 rfl) rfl
theorem q1755 : (Jvm.Cond.selects "BumpwardModel" ({ cls := "BumpwardModel", name := "wouldBe", desc := "(II)I" } : Jvm.MethodName) ({ cls := "BumpwardModel", name := "wouldBe", desc := "(II)I" } : Jvm.MethodName)) ∈ lw_all := lw_g (lw_at lw_m8 27 rfl) rfl
theorem q1756 : (Jvm.Cond.code ({ cls := "BumpwardModel", name := "wouldBe", desc := "(II)I" } : Jvm.MethodName) prog_13_method_67_code (3 : Nat) (Option.some Jvm.ClassFile.FieldType.int)) ∈ lw_all := lw_g (lw_at lw_m8 28 rfl) rfl
theorem q1758 : (Jvm.Cond.instanceMethod ({ cls := "BumpwardModel", name := "isSound", desc := "()Z" } : Jvm.MethodName)) ∈ lw_all := lw_g (lw_at lw_m8 30 rfl) rfl
theorem q1759 : (Jvm.Cond.selects "BumpwardModel" ({ cls := "BumpwardModel", name := "isSound", desc := "()Z" } : Jvm.MethodName) ({ cls := "BumpwardModel", name := "isSound", desc := "()Z" } : Jvm.MethodName)) ∈ lw_all := lw_g (lw_at lw_m8 31 rfl) rfl
theorem q1760 : (Jvm.Cond.code ({ cls := "BumpwardModel", name := "isSound", desc := "()Z" } : Jvm.MethodName) prog_13_method_69_code (1 : Nat) (Option.some Jvm.ClassFile.FieldType.boolean)) ∈ lw_all := lw_g (lw_at lw_m8 32 rfl) rfl
theorem q1761 : (Jvm.Cond.methodLink "BumpwardModel" (298 : Nat) ({ cls := "BumpwardModel", name := "isSoundNow", desc := "()Z" } : Jvm.MethodName)) ∈ lw_all := lw_g (lw_at lw_m8 33 rfl) rfl
theorem q1762 : (Jvm.Cond.privateMethod ({ cls := "BumpwardModel", name := "isSoundNow", desc := "()Z" } : Jvm.MethodName)) ∈ lw_tbl := lw_at lw_m8 34 rfl
theorem q1763 : (Jvm.Cond.instanceMethod ({ cls := "BumpwardModel", name := "isSoundNow", desc := "()Z" } : Jvm.MethodName)) ∈ lw_all := lw_g (lw_at lw_m8 35 rfl) rfl
theorem q1764 : (Jvm.Cond.code ({ cls := "BumpwardModel", name := "isSoundNow", desc := "()Z" } : Jvm.MethodName) prog_13_method_68_code (4 : Nat) (Option.some Jvm.ClassFile.FieldType.boolean)) ∈ lw_all := lw_g (lw_at lw_m8 36 rfl) rfl
theorem q1766 : (Jvm.Cond.instanceMethod ({ cls := "BumpwardModel", name := "digest", desc := "()J" } : Jvm.MethodName)) ∈ lw_all := lw_g (lw_at lw_m8 38 rfl) rfl
theorem q1767 : (Jvm.Cond.selects "BumpwardModel" ({ cls := "BumpwardModel", name := "digest", desc := "()J" } : Jvm.MethodName) ({ cls := "BumpwardModel", name := "digest", desc := "()J" } : Jvm.MethodName)) ∈ lw_all := lw_g (lw_at lw_m8 39 rfl) rfl
theorem q1768 : (Jvm.Cond.code ({ cls := "BumpwardModel", name := "digest", desc := "()J" } : Jvm.MethodName) prog_13_method_70_code (7 : Nat) (Option.some Jvm.ClassFile.FieldType.long)) ∈ lw_all := lw_g (lw_at lw_m8 40 rfl) rfl
theorem q1769 : (Jvm.Cond.constantLong "BumpwardModel" (301 : Nat) (58286 : Int64)) ∈ lw_all := lw_g (lw_at lw_m8 41 rfl) rfl
theorem q1770 : (Jvm.Cond.constantLong "BumpwardModel" (303 : Nat) (31 : Int64)) ∈ lw_all := lw_g (lw_at lw_m8 42 rfl) rfl
theorem q1771 : (Jvm.Cond.constantDouble "BumpwardModel" (305 : Nat) (4634204016564240384 : UInt64)) ∈ lw_all := lw_g (lw_at lw_m8 43 rfl) rfl
theorem q1799 : (Jvm.Cond.castable "BumpwardModel" "java/lang/Object") ∈ lw_tbl := lw_at lw_m8 71 rfl
theorem in_X6 : ∀ w ∈ wsX60, w ∈ lw_all := lw_in wsX60 [1381, 1383, 1385, 1387, 1389, 1391, 1393, 1395, 1397, 1399, 1401, 1403] (by decide +kernel) (by decide +kernel)
