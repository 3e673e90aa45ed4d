/-! BumpwardLaw -/
set_option maxRecDepth 100000
def RX0 : String := "BumpwardLaw"
abbrev cX0_edge : ByteArray := method_2_code
def yX0_edge : MethodName := ⟨RX0, "edge", "(LBumpward;IIIILBumpwardLaw$Out;)I"⟩
def dkwX0_edge_1 : List UInt8 := [5, 172, 3, 172]
abbrev dktX0_edge_1 : List UInt8 := dkwX0_edge_1 ++ []
def dkwX0_edge_0 : List UInt8 := [25, 5, 42, 27, 28, 29, 21, 4, 182, 0, 7, 133, 181, 0, 13, 167, 0, 11, 58, 6, 4, 172, 58, 6]
abbrev dktX0_edge_0 : List UInt8 := dkwX0_edge_0 ++ dktX0_edge_1
theorem dksX0_edge_0 : cX0_edge.data.toList.drop 0 = dktX0_edge_0 := by decide +kernel
theorem dksX0_edge_1 : cX0_edge.data.toList.drop 24 = dktX0_edge_1 := dk_seg dksX0_edge_0 24 rfl rfl
theorem dX0_edge_0 : decode cX0_edge 0 = .ok (.aload 5, 2) := dk_25 5 (dk_at dksX0_edge_0 0 rfl rfl)
theorem dX0_edge_2 : decode cX0_edge 2 = .ok (.aload_n 0, 1) := dk_42 (dk_at dksX0_edge_0 2 rfl rfl)
theorem dX0_edge_3 : decode cX0_edge 3 = .ok (.iload_n 1, 1) := dk_27 (dk_at dksX0_edge_0 3 rfl rfl)
theorem dX0_edge_4 : decode cX0_edge 4 = .ok (.iload_n 2, 1) := dk_28 (dk_at dksX0_edge_0 4 rfl rfl)
theorem dX0_edge_5 : decode cX0_edge 5 = .ok (.iload_n 3, 1) := dk_29 (dk_at dksX0_edge_0 5 rfl rfl)
theorem dX0_edge_6 : decode cX0_edge 6 = .ok (.iload 4, 2) := dk_21 4 (dk_at dksX0_edge_0 6 rfl rfl)
theorem dX0_edge_8 : decode cX0_edge 8 = .ok (.invokevirtual 7, 3) := dk_182 0 7 (dk_at dksX0_edge_0 8 rfl rfl)
theorem dX0_edge_11 : decode cX0_edge 11 = .ok (.i2l, 1) := dk_133 (dk_at dksX0_edge_0 11 rfl rfl)
theorem dX0_edge_12 : decode cX0_edge 12 = .ok (.putfield 13, 3) := dk_181 0 13 (dk_at dksX0_edge_0 12 rfl rfl)
theorem dX0_edge_15 : decode cX0_edge 15 = .ok (.goto 11, 3) := dk_167 0 11 (dk_at dksX0_edge_0 15 rfl rfl)
theorem dX0_edge_18 : decode cX0_edge 18 = .ok (.astore 6, 2) := dk_58 6 (dk_at dksX0_edge_0 18 rfl rfl)
theorem dX0_edge_20 : decode cX0_edge 20 = .ok (.iconst 1, 1) := dk_4 (dk_at dksX0_edge_0 20 rfl rfl)
theorem dX0_edge_21 : decode cX0_edge 21 = .ok (.ireturn, 1) := dk_172 (dk_at dksX0_edge_0 21 rfl rfl)
theorem dX0_edge_22 : decode cX0_edge 22 = .ok (.astore 6, 2) := dk_58 6 (dk_at dksX0_edge_0 22 rfl rfl)
theorem dX0_edge_24 : decode cX0_edge 24 = .ok (.iconst 2, 1) := dk_5 (dk_at dksX0_edge_1 0 rfl rfl)
theorem dX0_edge_25 : decode cX0_edge 25 = .ok (.ireturn, 1) := dk_172 (dk_at dksX0_edge_1 1 rfl rfl)
theorem dX0_edge_26 : decode cX0_edge 26 = .ok (.iconst 0, 1) := dk_3 (dk_at dksX0_edge_1 2 rfl rfl)
theorem dX0_edge_27 : decode cX0_edge 27 = .ok (.ireturn, 1) := dk_172 (dk_at dksX0_edge_1 3 rfl rfl)
abbrev cX0_lay : ByteArray := method_3_code
def yX0_lay : MethodName := ⟨RX0, "lay", "(LBumpward;ILBumpwardLaw$Out;)I"⟩
def dkwX0_lay_0 : List UInt8 := [44, 42, 27, 182, 0, 23, 133, 181, 0, 13, 167, 0, 6, 78, 4, 172, 3, 172]
abbrev dktX0_lay_0 : List UInt8 := dkwX0_lay_0 ++ []
theorem dksX0_lay_0 : cX0_lay.data.toList.drop 0 = dktX0_lay_0 := by decide +kernel
theorem dX0_lay_0 : decode cX0_lay 0 = .ok (.aload_n 2, 1) := dk_44 (dk_at dksX0_lay_0 0 rfl rfl)
theorem dX0_lay_1 : decode cX0_lay 1 = .ok (.aload_n 0, 1) := dk_42 (dk_at dksX0_lay_0 1 rfl rfl)
theorem dX0_lay_2 : decode cX0_lay 2 = .ok (.iload_n 1, 1) := dk_27 (dk_at dksX0_lay_0 2 rfl rfl)
theorem dX0_lay_3 : decode cX0_lay 3 = .ok (.invokevirtual 23, 3) := dk_182 0 23 (dk_at dksX0_lay_0 3 rfl rfl)
theorem dX0_lay_6 : decode cX0_lay 6 = .ok (.i2l, 1) := dk_133 (dk_at dksX0_lay_0 6 rfl rfl)
theorem dX0_lay_7 : decode cX0_lay 7 = .ok (.putfield 13, 3) := dk_181 0 13 (dk_at dksX0_lay_0 7 rfl rfl)
theorem dX0_lay_10 : decode cX0_lay 10 = .ok (.goto 6, 3) := dk_167 0 6 (dk_at dksX0_lay_0 10 rfl rfl)
theorem dX0_lay_13 : decode cX0_lay 13 = .ok (.astore_n 3, 1) := dk_78 (dk_at dksX0_lay_0 13 rfl rfl)
theorem dX0_lay_14 : decode cX0_lay 14 = .ok (.iconst 1, 1) := dk_4 (dk_at dksX0_lay_0 14 rfl rfl)
theorem dX0_lay_15 : decode cX0_lay 15 = .ok (.ireturn, 1) := dk_172 (dk_at dksX0_lay_0 15 rfl rfl)
theorem dX0_lay_16 : decode cX0_lay 16 = .ok (.iconst 0, 1) := dk_3 (dk_at dksX0_lay_0 16 rfl rfl)
theorem dX0_lay_17 : decode cX0_lay 17 = .ok (.ireturn, 1) := dk_172 (dk_at dksX0_lay_0 17 rfl rfl)
abbrev cX0_cell : ByteArray := method_4_code
def yX0_cell : MethodName := ⟨RX0, "cell", "(LBumpward;IZZLBumpwardLaw$Out;)I"⟩
def dkwX0_cell_0 : List UInt8 := [25, 4, 42, 27, 28, 29, 182, 0, 27, 133, 181, 0, 13, 167, 0, 7, 58, 5, 4, 172, 3, 172]
abbrev dktX0_cell_0 : List UInt8 := dkwX0_cell_0 ++ []
theorem dksX0_cell_0 : cX0_cell.data.toList.drop 0 = dktX0_cell_0 := by decide +kernel
theorem dX0_cell_0 : decode cX0_cell 0 = .ok (.aload 4, 2) := dk_25 4 (dk_at dksX0_cell_0 0 rfl rfl)
theorem dX0_cell_2 : decode cX0_cell 2 = .ok (.aload_n 0, 1) := dk_42 (dk_at dksX0_cell_0 2 rfl rfl)
theorem dX0_cell_3 : decode cX0_cell 3 = .ok (.iload_n 1, 1) := dk_27 (dk_at dksX0_cell_0 3 rfl rfl)
theorem dX0_cell_4 : decode cX0_cell 4 = .ok (.iload_n 2, 1) := dk_28 (dk_at dksX0_cell_0 4 rfl rfl)
theorem dX0_cell_5 : decode cX0_cell 5 = .ok (.iload_n 3, 1) := dk_29 (dk_at dksX0_cell_0 5 rfl rfl)
theorem dX0_cell_6 : decode cX0_cell 6 = .ok (.invokevirtual 27, 3) := dk_182 0 27 (dk_at dksX0_cell_0 6 rfl rfl)
theorem dX0_cell_9 : decode cX0_cell 9 = .ok (.i2l, 1) := dk_133 (dk_at dksX0_cell_0 9 rfl rfl)
theorem dX0_cell_10 : decode cX0_cell 10 = .ok (.putfield 13, 3) := dk_181 0 13 (dk_at dksX0_cell_0 10 rfl rfl)
theorem dX0_cell_13 : decode cX0_cell 13 = .ok (.goto 7, 3) := dk_167 0 7 (dk_at dksX0_cell_0 13 rfl rfl)
theorem dX0_cell_16 : decode cX0_cell 16 = .ok (.astore 5, 2) := dk_58 5 (dk_at dksX0_cell_0 16 rfl rfl)
theorem dX0_cell_18 : decode cX0_cell 18 = .ok (.iconst 1, 1) := dk_4 (dk_at dksX0_cell_0 18 rfl rfl)
theorem dX0_cell_19 : decode cX0_cell 19 = .ok (.ireturn, 1) := dk_172 (dk_at dksX0_cell_0 19 rfl rfl)
theorem dX0_cell_20 : decode cX0_cell 20 = .ok (.iconst 0, 1) := dk_3 (dk_at dksX0_cell_0 20 rfl rfl)
theorem dX0_cell_21 : decode cX0_cell 21 = .ok (.ireturn, 1) := dk_172 (dk_at dksX0_cell_0 21 rfl rfl)
abbrev cX0_walker : ByteArray := method_5_code
def yX0_walker : MethodName := ⟨RX0, "walker", "(LBumpward;IIIZLBumpwardLaw$Out;)I"⟩
def dkwX0_walker_1 : List UInt8 := [5, 172, 58, 6, 6, 172, 3, 172]
abbrev dktX0_walker_1 : List UInt8 := dkwX0_walker_1 ++ []
def dkwX0_walker_0 : List UInt8 := [25, 5, 42, 27, 28, 29, 21, 4, 182, 0, 31, 133, 181, 0, 13, 167, 0, 15, 58, 6, 4, 172, 58, 6]
abbrev dktX0_walker_0 : List UInt8 := dkwX0_walker_0 ++ dktX0_walker_1
theorem dksX0_walker_0 : cX0_walker.data.toList.drop 0 = dktX0_walker_0 := by decide +kernel
theorem dksX0_walker_1 : cX0_walker.data.toList.drop 24 = dktX0_walker_1 := dk_seg dksX0_walker_0 24 rfl rfl
theorem dX0_walker_0 : decode cX0_walker 0 = .ok (.aload 5, 2) := dk_25 5 (dk_at dksX0_walker_0 0 rfl rfl)
theorem dX0_walker_2 : decode cX0_walker 2 = .ok (.aload_n 0, 1) := dk_42 (dk_at dksX0_walker_0 2 rfl rfl)
theorem dX0_walker_3 : decode cX0_walker 3 = .ok (.iload_n 1, 1) := dk_27 (dk_at dksX0_walker_0 3 rfl rfl)
theorem dX0_walker_4 : decode cX0_walker 4 = .ok (.iload_n 2, 1) := dk_28 (dk_at dksX0_walker_0 4 rfl rfl)
theorem dX0_walker_5 : decode cX0_walker 5 = .ok (.iload_n 3, 1) := dk_29 (dk_at dksX0_walker_0 5 rfl rfl)
theorem dX0_walker_6 : decode cX0_walker 6 = .ok (.iload 4, 2) := dk_21 4 (dk_at dksX0_walker_0 6 rfl rfl)
theorem dX0_walker_8 : decode cX0_walker 8 = .ok (.invokevirtual 31, 3) := dk_182 0 31 (dk_at dksX0_walker_0 8 rfl rfl)
theorem dX0_walker_11 : decode cX0_walker 11 = .ok (.i2l, 1) := dk_133 (dk_at dksX0_walker_0 11 rfl rfl)
theorem dX0_walker_12 : decode cX0_walker 12 = .ok (.putfield 13, 3) := dk_181 0 13 (dk_at dksX0_walker_0 12 rfl rfl)
theorem dX0_walker_15 : decode cX0_walker 15 = .ok (.goto 15, 3) := dk_167 0 15 (dk_at dksX0_walker_0 15 rfl rfl)
theorem dX0_walker_18 : decode cX0_walker 18 = .ok (.astore 6, 2) := dk_58 6 (dk_at dksX0_walker_0 18 rfl rfl)
theorem dX0_walker_20 : decode cX0_walker 20 = .ok (.iconst 1, 1) := dk_4 (dk_at dksX0_walker_0 20 rfl rfl)
theorem dX0_walker_21 : decode cX0_walker 21 = .ok (.ireturn, 1) := dk_172 (dk_at dksX0_walker_0 21 rfl rfl)
theorem dX0_walker_22 : decode cX0_walker 22 = .ok (.astore 6, 2) := dk_58 6 (dk_at dksX0_walker_0 22 rfl rfl)
theorem dX0_walker_24 : decode cX0_walker 24 = .ok (.iconst 2, 1) := dk_5 (dk_at dksX0_walker_1 0 rfl rfl)
theorem dX0_walker_25 : decode cX0_walker 25 = .ok (.ireturn, 1) := dk_172 (dk_at dksX0_walker_1 1 rfl rfl)
theorem dX0_walker_26 : decode cX0_walker 26 = .ok (.astore 6, 2) := dk_58 6 (dk_at dksX0_walker_1 2 rfl rfl)
theorem dX0_walker_28 : decode cX0_walker 28 = .ok (.iconst 3, 1) := dk_6 (dk_at dksX0_walker_1 4 rfl rfl)
theorem dX0_walker_29 : decode cX0_walker 29 = .ok (.ireturn, 1) := dk_172 (dk_at dksX0_walker_1 5 rfl rfl)
theorem dX0_walker_30 : decode cX0_walker 30 = .ok (.iconst 0, 1) := dk_3 (dk_at dksX0_walker_1 6 rfl rfl)
theorem dX0_walker_31 : decode cX0_walker 31 = .ok (.ireturn, 1) := dk_172 (dk_at dksX0_walker_1 7 rfl rfl)
abbrev cX0_forward : ByteArray := method_6_code
def yX0_forward : MethodName := ⟨RX0, "forward", "(LBumpward;IZLBumpwardLaw$Out;)I"⟩
def dkwX0_forward_1 : List UInt8 := [172, 58, 4, 5, 172, 3, 172]
abbrev dktX0_forward_1 : List UInt8 := dkwX0_forward_1 ++ []
def dkwX0_forward_0 : List UInt8 := [45, 42, 27, 28, 182, 0, 37, 153, 0, 7, 10, 167, 0, 4, 9, 181, 0, 13, 167, 0, 11, 58, 4, 4]
abbrev dktX0_forward_0 : List UInt8 := dkwX0_forward_0 ++ dktX0_forward_1
theorem dksX0_forward_0 : cX0_forward.data.toList.drop 0 = dktX0_forward_0 := by decide +kernel
theorem dksX0_forward_1 : cX0_forward.data.toList.drop 24 = dktX0_forward_1 := dk_seg dksX0_forward_0 24 rfl rfl
theorem dX0_forward_0 : decode cX0_forward 0 = .ok (.aload_n 3, 1) := dk_45 (dk_at dksX0_forward_0 0 rfl rfl)
theorem dX0_forward_1 : decode cX0_forward 1 = .ok (.aload_n 0, 1) := dk_42 (dk_at dksX0_forward_0 1 rfl rfl)
theorem dX0_forward_2 : decode cX0_forward 2 = .ok (.iload_n 1, 1) := dk_27 (dk_at dksX0_forward_0 2 rfl rfl)
theorem dX0_forward_3 : decode cX0_forward 3 = .ok (.iload_n 2, 1) := dk_28 (dk_at dksX0_forward_0 3 rfl rfl)
theorem dX0_forward_4 : decode cX0_forward 4 = .ok (.invokevirtual 37, 3) := dk_182 0 37 (dk_at dksX0_forward_0 4 rfl rfl)
theorem dX0_forward_7 : decode cX0_forward 7 = .ok (.ifCond .eq 7, 3) := dk_153 0 7 (dk_at dksX0_forward_0 7 rfl rfl)
theorem dX0_forward_10 : decode cX0_forward 10 = .ok (.lconst 1, 1) := dk_10 (dk_at dksX0_forward_0 10 rfl rfl)
theorem dX0_forward_11 : decode cX0_forward 11 = .ok (.goto 4, 3) := dk_167 0 4 (dk_at dksX0_forward_0 11 rfl rfl)
theorem dX0_forward_14 : decode cX0_forward 14 = .ok (.lconst 0, 1) := dk_9 (dk_at dksX0_forward_0 14 rfl rfl)
theorem dX0_forward_15 : decode cX0_forward 15 = .ok (.putfield 13, 3) := dk_181 0 13 (dk_at dksX0_forward_0 15 rfl rfl)
theorem dX0_forward_18 : decode cX0_forward 18 = .ok (.goto 11, 3) := dk_167 0 11 (dk_at dksX0_forward_0 18 rfl rfl)
theorem dX0_forward_21 : decode cX0_forward 21 = .ok (.astore 4, 2) := dk_58 4 (dk_at dksX0_forward_0 21 rfl rfl)
theorem dX0_forward_23 : decode cX0_forward 23 = .ok (.iconst 1, 1) := dk_4 (dk_at dksX0_forward_0 23 rfl rfl)
theorem dX0_forward_24 : decode cX0_forward 24 = .ok (.ireturn, 1) := dk_172 (dk_at dksX0_forward_1 0 rfl rfl)
theorem dX0_forward_25 : decode cX0_forward 25 = .ok (.astore 4, 2) := dk_58 4 (dk_at dksX0_forward_1 1 rfl rfl)
theorem dX0_forward_27 : decode cX0_forward 27 = .ok (.iconst 2, 1) := dk_5 (dk_at dksX0_forward_1 3 rfl rfl)
theorem dX0_forward_28 : decode cX0_forward 28 = .ok (.ireturn, 1) := dk_172 (dk_at dksX0_forward_1 4 rfl rfl)
theorem dX0_forward_29 : decode cX0_forward 29 = .ok (.iconst 0, 1) := dk_3 (dk_at dksX0_forward_1 5 rfl rfl)
theorem dX0_forward_30 : decode cX0_forward 30 = .ok (.ireturn, 1) := dk_172 (dk_at dksX0_forward_1 6 rfl rfl)
abbrev cX0_turn : ByteArray := method_7_code
def yX0_turn : MethodName := ⟨RX0, "turn", "(LBumpward;IZZLBumpwardLaw$Out;)I"⟩
def dkwX0_turn_1 : List UInt8 := [3, 172]
abbrev dktX0_turn_1 : List UInt8 := dkwX0_turn_1 ++ []
def dkwX0_turn_0 : List UInt8 := [25, 4, 42, 27, 28, 29, 182, 0, 41, 133, 181, 0, 13, 167, 0, 11, 58, 5, 4, 172, 58, 5, 5, 172]
abbrev dktX0_turn_0 : List UInt8 := dkwX0_turn_0 ++ dktX0_turn_1
theorem dksX0_turn_0 : cX0_turn.data.toList.drop 0 = dktX0_turn_0 := by decide +kernel
theorem dksX0_turn_1 : cX0_turn.data.toList.drop 24 = dktX0_turn_1 := dk_seg dksX0_turn_0 24 rfl rfl
theorem dX0_turn_0 : decode cX0_turn 0 = .ok (.aload 4, 2) := dk_25 4 (dk_at dksX0_turn_0 0 rfl rfl)
theorem dX0_turn_2 : decode cX0_turn 2 = .ok (.aload_n 0, 1) := dk_42 (dk_at dksX0_turn_0 2 rfl rfl)
theorem dX0_turn_3 : decode cX0_turn 3 = .ok (.iload_n 1, 1) := dk_27 (dk_at dksX0_turn_0 3 rfl rfl)
theorem dX0_turn_4 : decode cX0_turn 4 = .ok (.iload_n 2, 1) := dk_28 (dk_at dksX0_turn_0 4 rfl rfl)
theorem dX0_turn_5 : decode cX0_turn 5 = .ok (.iload_n 3, 1) := dk_29 (dk_at dksX0_turn_0 5 rfl rfl)
theorem dX0_turn_6 : decode cX0_turn 6 = .ok (.invokevirtual 41, 3) := dk_182 0 41 (dk_at dksX0_turn_0 6 rfl rfl)
theorem dX0_turn_9 : decode cX0_turn 9 = .ok (.i2l, 1) := dk_133 (dk_at dksX0_turn_0 9 rfl rfl)
theorem dX0_turn_10 : decode cX0_turn 10 = .ok (.putfield 13, 3) := dk_181 0 13 (dk_at dksX0_turn_0 10 rfl rfl)
theorem dX0_turn_13 : decode cX0_turn 13 = .ok (.goto 11, 3) := dk_167 0 11 (dk_at dksX0_turn_0 13 rfl rfl)
theorem dX0_turn_16 : decode cX0_turn 16 = .ok (.astore 5, 2) := dk_58 5 (dk_at dksX0_turn_0 16 rfl rfl)
theorem dX0_turn_18 : decode cX0_turn 18 = .ok (.iconst 1, 1) := dk_4 (dk_at dksX0_turn_0 18 rfl rfl)
theorem dX0_turn_19 : decode cX0_turn 19 = .ok (.ireturn, 1) := dk_172 (dk_at dksX0_turn_0 19 rfl rfl)
theorem dX0_turn_20 : decode cX0_turn 20 = .ok (.astore 5, 2) := dk_58 5 (dk_at dksX0_turn_0 20 rfl rfl)
theorem dX0_turn_22 : decode cX0_turn 22 = .ok (.iconst 2, 1) := dk_5 (dk_at dksX0_turn_0 22 rfl rfl)
theorem dX0_turn_23 : decode cX0_turn 23 = .ok (.ireturn, 1) := dk_172 (dk_at dksX0_turn_0 23 rfl rfl)
theorem dX0_turn_24 : decode cX0_turn 24 = .ok (.iconst 0, 1) := dk_3 (dk_at dksX0_turn_1 0 rfl rfl)
theorem dX0_turn_25 : decode cX0_turn 25 = .ok (.ireturn, 1) := dk_172 (dk_at dksX0_turn_1 1 rfl rfl)
abbrev cX0_feel : ByteArray := method_8_code
def yX0_feel : MethodName := ⟨RX0, "feel", "(LBumpward;IZLBumpwardLaw$Out;)I"⟩
def dkwX0_feel_0 : List UInt8 := [45, 42, 27, 28, 182, 0, 44, 133, 181, 0, 13, 167, 0, 11, 58, 4, 4, 172, 58, 4, 5, 172, 3, 172]
abbrev dktX0_feel_0 : List UInt8 := dkwX0_feel_0 ++ []
theorem dksX0_feel_0 : cX0_feel.data.toList.drop 0 = dktX0_feel_0 := by decide +kernel
theorem dX0_feel_0 : decode cX0_feel 0 = .ok (.aload_n 3, 1) := dk_45 (dk_at dksX0_feel_0 0 rfl rfl)
theorem dX0_feel_1 : decode cX0_feel 1 = .ok (.aload_n 0, 1) := dk_42 (dk_at dksX0_feel_0 1 rfl rfl)
theorem dX0_feel_2 : decode cX0_feel 2 = .ok (.iload_n 1, 1) := dk_27 (dk_at dksX0_feel_0 2 rfl rfl)
theorem dX0_feel_3 : decode cX0_feel 3 = .ok (.iload_n 2, 1) := dk_28 (dk_at dksX0_feel_0 3 rfl rfl)
theorem dX0_feel_4 : decode cX0_feel 4 = .ok (.invokevirtual 44, 3) := dk_182 0 44 (dk_at dksX0_feel_0 4 rfl rfl)
theorem dX0_feel_7 : decode cX0_feel 7 = .ok (.i2l, 1) := dk_133 (dk_at dksX0_feel_0 7 rfl rfl)
theorem dX0_feel_8 : decode cX0_feel 8 = .ok (.putfield 13, 3) := dk_181 0 13 (dk_at dksX0_feel_0 8 rfl rfl)
theorem dX0_feel_11 : decode cX0_feel 11 = .ok (.goto 11, 3) := dk_167 0 11 (dk_at dksX0_feel_0 11 rfl rfl)
theorem dX0_feel_14 : decode cX0_feel 14 = .ok (.astore 4, 2) := dk_58 4 (dk_at dksX0_feel_0 14 rfl rfl)
theorem dX0_feel_16 : decode cX0_feel 16 = .ok (.iconst 1, 1) := dk_4 (dk_at dksX0_feel_0 16 rfl rfl)
theorem dX0_feel_17 : decode cX0_feel 17 = .ok (.ireturn, 1) := dk_172 (dk_at dksX0_feel_0 17 rfl rfl)
theorem dX0_feel_18 : decode cX0_feel 18 = .ok (.astore 4, 2) := dk_58 4 (dk_at dksX0_feel_0 18 rfl rfl)
theorem dX0_feel_20 : decode cX0_feel 20 = .ok (.iconst 2, 1) := dk_5 (dk_at dksX0_feel_0 20 rfl rfl)
theorem dX0_feel_21 : decode cX0_feel 21 = .ok (.ireturn, 1) := dk_172 (dk_at dksX0_feel_0 21 rfl rfl)
theorem dX0_feel_22 : decode cX0_feel 22 = .ok (.iconst 0, 1) := dk_3 (dk_at dksX0_feel_0 22 rfl rfl)
theorem dX0_feel_23 : decode cX0_feel 23 = .ok (.ireturn, 1) := dk_172 (dk_at dksX0_feel_0 23 rfl rfl)
abbrev cX0_listen : ByteArray := method_9_code
def yX0_listen : MethodName := ⟨RX0, "listen", "(LBumpward;IZLBumpwardLaw$Out;)I"⟩
def dkwX0_listen_0 : List UInt8 := [45, 42, 27, 28, 182, 0, 48, 133, 181, 0, 13, 167, 0, 11, 58, 4, 4, 172, 58, 4, 5, 172, 3, 172]
abbrev dktX0_listen_0 : List UInt8 := dkwX0_listen_0 ++ []
theorem dksX0_listen_0 : cX0_listen.data.toList.drop 0 = dktX0_listen_0 := by decide +kernel
theorem dX0_listen_0 : decode cX0_listen 0 = .ok (.aload_n 3, 1) := dk_45 (dk_at dksX0_listen_0 0 rfl rfl)
theorem dX0_listen_1 : decode cX0_listen 1 = .ok (.aload_n 0, 1) := dk_42 (dk_at dksX0_listen_0 1 rfl rfl)
theorem dX0_listen_2 : decode cX0_listen 2 = .ok (.iload_n 1, 1) := dk_27 (dk_at dksX0_listen_0 2 rfl rfl)
theorem dX0_listen_3 : decode cX0_listen 3 = .ok (.iload_n 2, 1) := dk_28 (dk_at dksX0_listen_0 3 rfl rfl)
theorem dX0_listen_4 : decode cX0_listen 4 = .ok (.invokevirtual 48, 3) := dk_182 0 48 (dk_at dksX0_listen_0 4 rfl rfl)
theorem dX0_listen_7 : decode cX0_listen 7 = .ok (.i2l, 1) := dk_133 (dk_at dksX0_listen_0 7 rfl rfl)
theorem dX0_listen_8 : decode cX0_listen 8 = .ok (.putfield 13, 3) := dk_181 0 13 (dk_at dksX0_listen_0 8 rfl rfl)
theorem dX0_listen_11 : decode cX0_listen 11 = .ok (.goto 11, 3) := dk_167 0 11 (dk_at dksX0_listen_0 11 rfl rfl)
theorem dX0_listen_14 : decode cX0_listen 14 = .ok (.astore 4, 2) := dk_58 4 (dk_at dksX0_listen_0 14 rfl rfl)
theorem dX0_listen_16 : decode cX0_listen 16 = .ok (.iconst 1, 1) := dk_4 (dk_at dksX0_listen_0 16 rfl rfl)
theorem dX0_listen_17 : decode cX0_listen 17 = .ok (.ireturn, 1) := dk_172 (dk_at dksX0_listen_0 17 rfl rfl)
theorem dX0_listen_18 : decode cX0_listen 18 = .ok (.astore 4, 2) := dk_58 4 (dk_at dksX0_listen_0 18 rfl rfl)
theorem dX0_listen_20 : decode cX0_listen 20 = .ok (.iconst 2, 1) := dk_5 (dk_at dksX0_listen_0 20 rfl rfl)
theorem dX0_listen_21 : decode cX0_listen 21 = .ok (.ireturn, 1) := dk_172 (dk_at dksX0_listen_0 21 rfl rfl)
theorem dX0_listen_22 : decode cX0_listen 22 = .ok (.iconst 0, 1) := dk_3 (dk_at dksX0_listen_0 22 rfl rfl)
theorem dX0_listen_23 : decode cX0_listen 23 = .ok (.ireturn, 1) := dk_172 (dk_at dksX0_listen_0 23 rfl rfl)
abbrev cX0_charge : ByteArray := method_10_code
def yX0_charge : MethodName := ⟨RX0, "charge", "(LBumpward;IILBumpwardLaw$Out;)I"⟩
def dkwX0_charge_1 : List UInt8 := [6, 172, 3, 172]
abbrev dktX0_charge_1 : List UInt8 := dkwX0_charge_1 ++ []
def dkwX0_charge_0 : List UInt8 := [45, 42, 27, 28, 182, 0, 51, 133, 181, 0, 13, 167, 0, 15, 58, 4, 4, 172, 58, 4, 5, 172, 58, 4]
abbrev dktX0_charge_0 : List UInt8 := dkwX0_charge_0 ++ dktX0_charge_1
theorem dksX0_charge_0 : cX0_charge.data.toList.drop 0 = dktX0_charge_0 := by decide +kernel
theorem dksX0_charge_1 : cX0_charge.data.toList.drop 24 = dktX0_charge_1 := dk_seg dksX0_charge_0 24 rfl rfl
theorem dX0_charge_0 : decode cX0_charge 0 = .ok (.aload_n 3, 1) := dk_45 (dk_at dksX0_charge_0 0 rfl rfl)
theorem dX0_charge_1 : decode cX0_charge 1 = .ok (.aload_n 0, 1) := dk_42 (dk_at dksX0_charge_0 1 rfl rfl)
theorem dX0_charge_2 : decode cX0_charge 2 = .ok (.iload_n 1, 1) := dk_27 (dk_at dksX0_charge_0 2 rfl rfl)
theorem dX0_charge_3 : decode cX0_charge 3 = .ok (.iload_n 2, 1) := dk_28 (dk_at dksX0_charge_0 3 rfl rfl)
theorem dX0_charge_4 : decode cX0_charge 4 = .ok (.invokevirtual 51, 3) := dk_182 0 51 (dk_at dksX0_charge_0 4 rfl rfl)
theorem dX0_charge_7 : decode cX0_charge 7 = .ok (.i2l, 1) := dk_133 (dk_at dksX0_charge_0 7 rfl rfl)
theorem dX0_charge_8 : decode cX0_charge 8 = .ok (.putfield 13, 3) := dk_181 0 13 (dk_at dksX0_charge_0 8 rfl rfl)
theorem dX0_charge_11 : decode cX0_charge 11 = .ok (.goto 15, 3) := dk_167 0 15 (dk_at dksX0_charge_0 11 rfl rfl)
theorem dX0_charge_14 : decode cX0_charge 14 = .ok (.astore 4, 2) := dk_58 4 (dk_at dksX0_charge_0 14 rfl rfl)
theorem dX0_charge_16 : decode cX0_charge 16 = .ok (.iconst 1, 1) := dk_4 (dk_at dksX0_charge_0 16 rfl rfl)
theorem dX0_charge_17 : decode cX0_charge 17 = .ok (.ireturn, 1) := dk_172 (dk_at dksX0_charge_0 17 rfl rfl)
theorem dX0_charge_18 : decode cX0_charge 18 = .ok (.astore 4, 2) := dk_58 4 (dk_at dksX0_charge_0 18 rfl rfl)
theorem dX0_charge_20 : decode cX0_charge 20 = .ok (.iconst 2, 1) := dk_5 (dk_at dksX0_charge_0 20 rfl rfl)
theorem dX0_charge_21 : decode cX0_charge 21 = .ok (.ireturn, 1) := dk_172 (dk_at dksX0_charge_0 21 rfl rfl)
theorem dX0_charge_22 : decode cX0_charge 22 = .ok (.astore 4, 2) := dk_58 4 (dk_at dksX0_charge_0 22 rfl rfl)
theorem dX0_charge_24 : decode cX0_charge 24 = .ok (.iconst 3, 1) := dk_6 (dk_at dksX0_charge_1 0 rfl rfl)
theorem dX0_charge_25 : decode cX0_charge 25 = .ok (.ireturn, 1) := dk_172 (dk_at dksX0_charge_1 1 rfl rfl)
theorem dX0_charge_26 : decode cX0_charge 26 = .ok (.iconst 0, 1) := dk_3 (dk_at dksX0_charge_1 2 rfl rfl)
theorem dX0_charge_27 : decode cX0_charge 27 = .ok (.ireturn, 1) := dk_172 (dk_at dksX0_charge_1 3 rfl rfl)
abbrev cX0_tellPose : ByteArray := method_11_code
def yX0_tellPose : MethodName := ⟨RX0, "tellPose", "(LBumpward;ILBumpwardLaw$Out;)I"⟩
def dkwX0_tellPose_0 : List UInt8 := [44, 42, 27, 182, 0, 55, 133, 181, 0, 13, 167, 0, 6, 78, 4, 172, 3, 172]
abbrev dktX0_tellPose_0 : List UInt8 := dkwX0_tellPose_0 ++ []
theorem dksX0_tellPose_0 : cX0_tellPose.data.toList.drop 0 = dktX0_tellPose_0 := by decide +kernel
theorem dX0_tellPose_0 : decode cX0_tellPose 0 = .ok (.aload_n 2, 1) := dk_44 (dk_at dksX0_tellPose_0 0 rfl rfl)
theorem dX0_tellPose_1 : decode cX0_tellPose 1 = .ok (.aload_n 0, 1) := dk_42 (dk_at dksX0_tellPose_0 1 rfl rfl)
theorem dX0_tellPose_2 : decode cX0_tellPose 2 = .ok (.iload_n 1, 1) := dk_27 (dk_at dksX0_tellPose_0 2 rfl rfl)
theorem dX0_tellPose_3 : decode cX0_tellPose 3 = .ok (.invokevirtual 55, 3) := dk_182 0 55 (dk_at dksX0_tellPose_0 3 rfl rfl)
theorem dX0_tellPose_6 : decode cX0_tellPose 6 = .ok (.i2l, 1) := dk_133 (dk_at dksX0_tellPose_0 6 rfl rfl)
theorem dX0_tellPose_7 : decode cX0_tellPose 7 = .ok (.putfield 13, 3) := dk_181 0 13 (dk_at dksX0_tellPose_0 7 rfl rfl)
theorem dX0_tellPose_10 : decode cX0_tellPose 10 = .ok (.goto 6, 3) := dk_167 0 6 (dk_at dksX0_tellPose_0 10 rfl rfl)
theorem dX0_tellPose_13 : decode cX0_tellPose 13 = .ok (.astore_n 3, 1) := dk_78 (dk_at dksX0_tellPose_0 13 rfl rfl)
theorem dX0_tellPose_14 : decode cX0_tellPose 14 = .ok (.iconst 1, 1) := dk_4 (dk_at dksX0_tellPose_0 14 rfl rfl)
theorem dX0_tellPose_15 : decode cX0_tellPose 15 = .ok (.ireturn, 1) := dk_172 (dk_at dksX0_tellPose_0 15 rfl rfl)
theorem dX0_tellPose_16 : decode cX0_tellPose 16 = .ok (.iconst 0, 1) := dk_3 (dk_at dksX0_tellPose_0 16 rfl rfl)
theorem dX0_tellPose_17 : decode cX0_tellPose 17 = .ok (.ireturn, 1) := dk_172 (dk_at dksX0_tellPose_0 17 rfl rfl)
abbrev cX0_meet : ByteArray := method_12_code
def yX0_meet : MethodName := ⟨RX0, "meet", "(LBumpward;IILBumpwardLaw$Out;)I"⟩
def dkwX0_meet_1 : List UInt8 := [6, 172, 3, 172]
abbrev dktX0_meet_1 : List UInt8 := dkwX0_meet_1 ++ []
def dkwX0_meet_0 : List UInt8 := [45, 42, 27, 28, 182, 0, 58, 133, 181, 0, 13, 167, 0, 15, 58, 4, 4, 172, 58, 4, 5, 172, 58, 4]
abbrev dktX0_meet_0 : List UInt8 := dkwX0_meet_0 ++ dktX0_meet_1
theorem dksX0_meet_0 : cX0_meet.data.toList.drop 0 = dktX0_meet_0 := by decide +kernel
theorem dksX0_meet_1 : cX0_meet.data.toList.drop 24 = dktX0_meet_1 := dk_seg dksX0_meet_0 24 rfl rfl
theorem dX0_meet_0 : decode cX0_meet 0 = .ok (.aload_n 3, 1) := dk_45 (dk_at dksX0_meet_0 0 rfl rfl)
theorem dX0_meet_1 : decode cX0_meet 1 = .ok (.aload_n 0, 1) := dk_42 (dk_at dksX0_meet_0 1 rfl rfl)
theorem dX0_meet_2 : decode cX0_meet 2 = .ok (.iload_n 1, 1) := dk_27 (dk_at dksX0_meet_0 2 rfl rfl)
theorem dX0_meet_3 : decode cX0_meet 3 = .ok (.iload_n 2, 1) := dk_28 (dk_at dksX0_meet_0 3 rfl rfl)
theorem dX0_meet_4 : decode cX0_meet 4 = .ok (.invokevirtual 58, 3) := dk_182 0 58 (dk_at dksX0_meet_0 4 rfl rfl)
theorem dX0_meet_7 : decode cX0_meet 7 = .ok (.i2l, 1) := dk_133 (dk_at dksX0_meet_0 7 rfl rfl)
theorem dX0_meet_8 : decode cX0_meet 8 = .ok (.putfield 13, 3) := dk_181 0 13 (dk_at dksX0_meet_0 8 rfl rfl)
theorem dX0_meet_11 : decode cX0_meet 11 = .ok (.goto 15, 3) := dk_167 0 15 (dk_at dksX0_meet_0 11 rfl rfl)
theorem dX0_meet_14 : decode cX0_meet 14 = .ok (.astore 4, 2) := dk_58 4 (dk_at dksX0_meet_0 14 rfl rfl)
theorem dX0_meet_16 : decode cX0_meet 16 = .ok (.iconst 1, 1) := dk_4 (dk_at dksX0_meet_0 16 rfl rfl)
theorem dX0_meet_17 : decode cX0_meet 17 = .ok (.ireturn, 1) := dk_172 (dk_at dksX0_meet_0 17 rfl rfl)
theorem dX0_meet_18 : decode cX0_meet 18 = .ok (.astore 4, 2) := dk_58 4 (dk_at dksX0_meet_0 18 rfl rfl)
theorem dX0_meet_20 : decode cX0_meet 20 = .ok (.iconst 2, 1) := dk_5 (dk_at dksX0_meet_0 20 rfl rfl)
theorem dX0_meet_21 : decode cX0_meet 21 = .ok (.ireturn, 1) := dk_172 (dk_at dksX0_meet_0 21 rfl rfl)
theorem dX0_meet_22 : decode cX0_meet 22 = .ok (.astore 4, 2) := dk_58 4 (dk_at dksX0_meet_0 22 rfl rfl)
theorem dX0_meet_24 : decode cX0_meet 24 = .ok (.iconst 3, 1) := dk_6 (dk_at dksX0_meet_1 0 rfl rfl)
theorem dX0_meet_25 : decode cX0_meet 25 = .ok (.ireturn, 1) := dk_172 (dk_at dksX0_meet_1 1 rfl rfl)
theorem dX0_meet_26 : decode cX0_meet 26 = .ok (.iconst 0, 1) := dk_3 (dk_at dksX0_meet_1 2 rfl rfl)
theorem dX0_meet_27 : decode cX0_meet 27 = .ok (.ireturn, 1) := dk_172 (dk_at dksX0_meet_1 3 rfl rfl)
abbrev cX0_pass : ByteArray := method_13_code
def yX0_pass : MethodName := ⟨RX0, "pass", "(LBumpward;ILBumpwardLaw$Out;)I"⟩
def dkwX0_pass_0 : List UInt8 := [44, 42, 27, 182, 0, 61, 133, 181, 0, 13, 167, 0, 9, 78, 4, 172, 78, 5, 172, 3, 172]
abbrev dktX0_pass_0 : List UInt8 := dkwX0_pass_0 ++ []
theorem dksX0_pass_0 : cX0_pass.data.toList.drop 0 = dktX0_pass_0 := by decide +kernel
theorem dX0_pass_0 : decode cX0_pass 0 = .ok (.aload_n 2, 1) := dk_44 (dk_at dksX0_pass_0 0 rfl rfl)
theorem dX0_pass_1 : decode cX0_pass 1 = .ok (.aload_n 0, 1) := dk_42 (dk_at dksX0_pass_0 1 rfl rfl)
theorem dX0_pass_2 : decode cX0_pass 2 = .ok (.iload_n 1, 1) := dk_27 (dk_at dksX0_pass_0 2 rfl rfl)
theorem dX0_pass_3 : decode cX0_pass 3 = .ok (.invokevirtual 61, 3) := dk_182 0 61 (dk_at dksX0_pass_0 3 rfl rfl)
theorem dX0_pass_6 : decode cX0_pass 6 = .ok (.i2l, 1) := dk_133 (dk_at dksX0_pass_0 6 rfl rfl)
theorem dX0_pass_7 : decode cX0_pass 7 = .ok (.putfield 13, 3) := dk_181 0 13 (dk_at dksX0_pass_0 7 rfl rfl)
theorem dX0_pass_10 : decode cX0_pass 10 = .ok (.goto 9, 3) := dk_167 0 9 (dk_at dksX0_pass_0 10 rfl rfl)
theorem dX0_pass_13 : decode cX0_pass 13 = .ok (.astore_n 3, 1) := dk_78 (dk_at dksX0_pass_0 13 rfl rfl)
theorem dX0_pass_14 : decode cX0_pass 14 = .ok (.iconst 1, 1) := dk_4 (dk_at dksX0_pass_0 14 rfl rfl)
theorem dX0_pass_15 : decode cX0_pass 15 = .ok (.ireturn, 1) := dk_172 (dk_at dksX0_pass_0 15 rfl rfl)
theorem dX0_pass_16 : decode cX0_pass 16 = .ok (.astore_n 3, 1) := dk_78 (dk_at dksX0_pass_0 16 rfl rfl)
theorem dX0_pass_17 : decode cX0_pass 17 = .ok (.iconst 2, 1) := dk_5 (dk_at dksX0_pass_0 17 rfl rfl)
theorem dX0_pass_18 : decode cX0_pass 18 = .ok (.ireturn, 1) := dk_172 (dk_at dksX0_pass_0 18 rfl rfl)
theorem dX0_pass_19 : decode cX0_pass 19 = .ok (.iconst 0, 1) := dk_3 (dk_at dksX0_pass_0 19 rfl rfl)
theorem dX0_pass_20 : decode cX0_pass 20 = .ok (.ireturn, 1) := dk_172 (dk_at dksX0_pass_0 20 rfl rfl)
abbrev cX0_ofEdge : ByteArray := method_14_code
def yX0_ofEdge : MethodName := ⟨RX0, "ofEdge", "(LBumpward;IIILBumpwardLaw$Out;)I"⟩
def dkwX0_ofEdge_1 : List UInt8 := [3, 172]
abbrev dktX0_ofEdge_1 : List UInt8 := dkwX0_ofEdge_1 ++ []
def dkwX0_ofEdge_0 : List UInt8 := [25, 4, 42, 27, 28, 29, 182, 0, 64, 133, 181, 0, 13, 167, 0, 11, 58, 5, 4, 172, 58, 5, 5, 172]
abbrev dktX0_ofEdge_0 : List UInt8 := dkwX0_ofEdge_0 ++ dktX0_ofEdge_1
theorem dksX0_ofEdge_0 : cX0_ofEdge.data.toList.drop 0 = dktX0_ofEdge_0 := by decide +kernel
theorem dksX0_ofEdge_1 : cX0_ofEdge.data.toList.drop 24 = dktX0_ofEdge_1 := dk_seg dksX0_ofEdge_0 24 rfl rfl
theorem dX0_ofEdge_0 : decode cX0_ofEdge 0 = .ok (.aload 4, 2) := dk_25 4 (dk_at dksX0_ofEdge_0 0 rfl rfl)
theorem dX0_ofEdge_2 : decode cX0_ofEdge 2 = .ok (.aload_n 0, 1) := dk_42 (dk_at dksX0_ofEdge_0 2 rfl rfl)
theorem dX0_ofEdge_3 : decode cX0_ofEdge 3 = .ok (.iload_n 1, 1) := dk_27 (dk_at dksX0_ofEdge_0 3 rfl rfl)
theorem dX0_ofEdge_4 : decode cX0_ofEdge 4 = .ok (.iload_n 2, 1) := dk_28 (dk_at dksX0_ofEdge_0 4 rfl rfl)
theorem dX0_ofEdge_5 : decode cX0_ofEdge 5 = .ok (.iload_n 3, 1) := dk_29 (dk_at dksX0_ofEdge_0 5 rfl rfl)
theorem dX0_ofEdge_6 : decode cX0_ofEdge 6 = .ok (.invokevirtual 64, 3) := dk_182 0 64 (dk_at dksX0_ofEdge_0 6 rfl rfl)
theorem dX0_ofEdge_9 : decode cX0_ofEdge 9 = .ok (.i2l, 1) := dk_133 (dk_at dksX0_ofEdge_0 9 rfl rfl)
theorem dX0_ofEdge_10 : decode cX0_ofEdge 10 = .ok (.putfield 13, 3) := dk_181 0 13 (dk_at dksX0_ofEdge_0 10 rfl rfl)
theorem dX0_ofEdge_13 : decode cX0_ofEdge 13 = .ok (.goto 11, 3) := dk_167 0 11 (dk_at dksX0_ofEdge_0 13 rfl rfl)
theorem dX0_ofEdge_16 : decode cX0_ofEdge 16 = .ok (.astore 5, 2) := dk_58 5 (dk_at dksX0_ofEdge_0 16 rfl rfl)
theorem dX0_ofEdge_18 : decode cX0_ofEdge 18 = .ok (.iconst 1, 1) := dk_4 (dk_at dksX0_ofEdge_0 18 rfl rfl)
theorem dX0_ofEdge_19 : decode cX0_ofEdge 19 = .ok (.ireturn, 1) := dk_172 (dk_at dksX0_ofEdge_0 19 rfl rfl)
theorem dX0_ofEdge_20 : decode cX0_ofEdge 20 = .ok (.astore 5, 2) := dk_58 5 (dk_at dksX0_ofEdge_0 20 rfl rfl)
theorem dX0_ofEdge_22 : decode cX0_ofEdge 22 = .ok (.iconst 2, 1) := dk_5 (dk_at dksX0_ofEdge_0 22 rfl rfl)
theorem dX0_ofEdge_23 : decode cX0_ofEdge 23 = .ok (.ireturn, 1) := dk_172 (dk_at dksX0_ofEdge_0 23 rfl rfl)
theorem dX0_ofEdge_24 : decode cX0_ofEdge 24 = .ok (.iconst 0, 1) := dk_3 (dk_at dksX0_ofEdge_1 0 rfl rfl)
theorem dX0_ofEdge_25 : decode cX0_ofEdge 25 = .ok (.ireturn, 1) := dk_172 (dk_at dksX0_ofEdge_1 1 rfl rfl)
abbrev cX0_ofWalker : ByteArray := method_15_code
def yX0_ofWalker : MethodName := ⟨RX0, "ofWalker", "(LBumpward;IILBumpwardLaw$Out;)I"⟩
def dkwX0_ofWalker_0 : List UInt8 := [45, 42, 27, 28, 182, 0, 68, 133, 181, 0, 13, 167, 0, 11, 58, 4, 4, 172, 58, 4, 5, 172, 3, 172]
abbrev dktX0_ofWalker_0 : List UInt8 := dkwX0_ofWalker_0 ++ []
theorem dksX0_ofWalker_0 : cX0_ofWalker.data.toList.drop 0 = dktX0_ofWalker_0 := by decide +kernel
theorem dX0_ofWalker_0 : decode cX0_ofWalker 0 = .ok (.aload_n 3, 1) := dk_45 (dk_at dksX0_ofWalker_0 0 rfl rfl)
theorem dX0_ofWalker_1 : decode cX0_ofWalker 1 = .ok (.aload_n 0, 1) := dk_42 (dk_at dksX0_ofWalker_0 1 rfl rfl)
theorem dX0_ofWalker_2 : decode cX0_ofWalker 2 = .ok (.iload_n 1, 1) := dk_27 (dk_at dksX0_ofWalker_0 2 rfl rfl)
theorem dX0_ofWalker_3 : decode cX0_ofWalker 3 = .ok (.iload_n 2, 1) := dk_28 (dk_at dksX0_ofWalker_0 3 rfl rfl)
theorem dX0_ofWalker_4 : decode cX0_ofWalker 4 = .ok (.invokevirtual 68, 3) := dk_182 0 68 (dk_at dksX0_ofWalker_0 4 rfl rfl)
theorem dX0_ofWalker_7 : decode cX0_ofWalker 7 = .ok (.i2l, 1) := dk_133 (dk_at dksX0_ofWalker_0 7 rfl rfl)
theorem dX0_ofWalker_8 : decode cX0_ofWalker 8 = .ok (.putfield 13, 3) := dk_181 0 13 (dk_at dksX0_ofWalker_0 8 rfl rfl)
theorem dX0_ofWalker_11 : decode cX0_ofWalker 11 = .ok (.goto 11, 3) := dk_167 0 11 (dk_at dksX0_ofWalker_0 11 rfl rfl)
theorem dX0_ofWalker_14 : decode cX0_ofWalker 14 = .ok (.astore 4, 2) := dk_58 4 (dk_at dksX0_ofWalker_0 14 rfl rfl)
theorem dX0_ofWalker_16 : decode cX0_ofWalker 16 = .ok (.iconst 1, 1) := dk_4 (dk_at dksX0_ofWalker_0 16 rfl rfl)
theorem dX0_ofWalker_17 : decode cX0_ofWalker 17 = .ok (.ireturn, 1) := dk_172 (dk_at dksX0_ofWalker_0 17 rfl rfl)
theorem dX0_ofWalker_18 : decode cX0_ofWalker 18 = .ok (.astore 4, 2) := dk_58 4 (dk_at dksX0_ofWalker_0 18 rfl rfl)
theorem dX0_ofWalker_20 : decode cX0_ofWalker 20 = .ok (.iconst 2, 1) := dk_5 (dk_at dksX0_ofWalker_0 20 rfl rfl)
theorem dX0_ofWalker_21 : decode cX0_ofWalker 21 = .ok (.ireturn, 1) := dk_172 (dk_at dksX0_ofWalker_0 21 rfl rfl)
theorem dX0_ofWalker_22 : decode cX0_ofWalker 22 = .ok (.iconst 0, 1) := dk_3 (dk_at dksX0_ofWalker_0 22 rfl rfl)
theorem dX0_ofWalker_23 : decode cX0_ofWalker 23 = .ok (.ireturn, 1) := dk_172 (dk_at dksX0_ofWalker_0 23 rfl rfl)
abbrev cX0_house : ByteArray := method_16_code
def yX0_house : MethodName := ⟨RX0, "house", "(LBumpward;ILBumpwardLaw$Out;)I"⟩
def dkwX0_house_0 : List UInt8 := [44, 42, 27, 182, 0, 71, 133, 181, 0, 13, 167, 0, 6, 78, 4, 172, 3, 172]
abbrev dktX0_house_0 : List UInt8 := dkwX0_house_0 ++ []
theorem dksX0_house_0 : cX0_house.data.toList.drop 0 = dktX0_house_0 := by decide +kernel
theorem dX0_house_0 : decode cX0_house 0 = .ok (.aload_n 2, 1) := dk_44 (dk_at dksX0_house_0 0 rfl rfl)
theorem dX0_house_1 : decode cX0_house 1 = .ok (.aload_n 0, 1) := dk_42 (dk_at dksX0_house_0 1 rfl rfl)
theorem dX0_house_2 : decode cX0_house 2 = .ok (.iload_n 1, 1) := dk_27 (dk_at dksX0_house_0 2 rfl rfl)
theorem dX0_house_3 : decode cX0_house 3 = .ok (.invokevirtual 71, 3) := dk_182 0 71 (dk_at dksX0_house_0 3 rfl rfl)
theorem dX0_house_6 : decode cX0_house 6 = .ok (.i2l, 1) := dk_133 (dk_at dksX0_house_0 6 rfl rfl)
theorem dX0_house_7 : decode cX0_house 7 = .ok (.putfield 13, 3) := dk_181 0 13 (dk_at dksX0_house_0 7 rfl rfl)
theorem dX0_house_10 : decode cX0_house 10 = .ok (.goto 6, 3) := dk_167 0 6 (dk_at dksX0_house_0 10 rfl rfl)
theorem dX0_house_13 : decode cX0_house 13 = .ok (.astore_n 3, 1) := dk_78 (dk_at dksX0_house_0 13 rfl rfl)
theorem dX0_house_14 : decode cX0_house 14 = .ok (.iconst 1, 1) := dk_4 (dk_at dksX0_house_0 14 rfl rfl)
theorem dX0_house_15 : decode cX0_house 15 = .ok (.ireturn, 1) := dk_172 (dk_at dksX0_house_0 15 rfl rfl)
theorem dX0_house_16 : decode cX0_house 16 = .ok (.iconst 0, 1) := dk_3 (dk_at dksX0_house_0 16 rfl rfl)
theorem dX0_house_17 : decode cX0_house 17 = .ok (.ireturn, 1) := dk_172 (dk_at dksX0_house_0 17 rfl rfl)
abbrev cX0_row : ByteArray := method_17_code
def yX0_row : MethodName := ⟨RX0, "row", "(LBumpward;ILBumpwardLaw$Out;)I"⟩
def dkwX0_row_0 : List UInt8 := [44, 42, 27, 182, 0, 74, 181, 0, 78, 167, 0, 6, 78, 4, 172, 3, 172]
abbrev dktX0_row_0 : List UInt8 := dkwX0_row_0 ++ []
theorem dksX0_row_0 : cX0_row.data.toList.drop 0 = dktX0_row_0 := by decide +kernel
theorem dX0_row_0 : decode cX0_row 0 = .ok (.aload_n 2, 1) := dk_44 (dk_at dksX0_row_0 0 rfl rfl)
theorem dX0_row_1 : decode cX0_row 1 = .ok (.aload_n 0, 1) := dk_42 (dk_at dksX0_row_0 1 rfl rfl)
theorem dX0_row_2 : decode cX0_row 2 = .ok (.iload_n 1, 1) := dk_27 (dk_at dksX0_row_0 2 rfl rfl)
theorem dX0_row_3 : decode cX0_row 3 = .ok (.invokevirtual 74, 3) := dk_182 0 74 (dk_at dksX0_row_0 3 rfl rfl)
theorem dX0_row_6 : decode cX0_row 6 = .ok (.putfield 78, 3) := dk_181 0 78 (dk_at dksX0_row_0 6 rfl rfl)
theorem dX0_row_9 : decode cX0_row 9 = .ok (.goto 6, 3) := dk_167 0 6 (dk_at dksX0_row_0 9 rfl rfl)
theorem dX0_row_12 : decode cX0_row 12 = .ok (.astore_n 3, 1) := dk_78 (dk_at dksX0_row_0 12 rfl rfl)
theorem dX0_row_13 : decode cX0_row 13 = .ok (.iconst 1, 1) := dk_4 (dk_at dksX0_row_0 13 rfl rfl)
theorem dX0_row_14 : decode cX0_row 14 = .ok (.ireturn, 1) := dk_172 (dk_at dksX0_row_0 14 rfl rfl)
theorem dX0_row_15 : decode cX0_row 15 = .ok (.iconst 0, 1) := dk_3 (dk_at dksX0_row_0 15 rfl rfl)
theorem dX0_row_16 : decode cX0_row 16 = .ok (.ireturn, 1) := dk_172 (dk_at dksX0_row_0 16 rfl rfl)
abbrev cX0_map : ByteArray := method_18_code
def yX0_map : MethodName := ⟨RX0, "map", "(LBumpward;IIILBumpwardLaw$Out;)I"⟩
def dkwX0_map_0 : List UInt8 := [25, 4, 42, 27, 28, 29, 182, 0, 82, 133, 181, 0, 13, 167, 0, 7, 58, 5, 4, 172, 3, 172]
abbrev dktX0_map_0 : List UInt8 := dkwX0_map_0 ++ []
theorem dksX0_map_0 : cX0_map.data.toList.drop 0 = dktX0_map_0 := by decide +kernel
theorem dX0_map_0 : decode cX0_map 0 = .ok (.aload 4, 2) := dk_25 4 (dk_at dksX0_map_0 0 rfl rfl)
theorem dX0_map_2 : decode cX0_map 2 = .ok (.aload_n 0, 1) := dk_42 (dk_at dksX0_map_0 2 rfl rfl)
theorem dX0_map_3 : decode cX0_map 3 = .ok (.iload_n 1, 1) := dk_27 (dk_at dksX0_map_0 3 rfl rfl)
theorem dX0_map_4 : decode cX0_map 4 = .ok (.iload_n 2, 1) := dk_28 (dk_at dksX0_map_0 4 rfl rfl)
theorem dX0_map_5 : decode cX0_map 5 = .ok (.iload_n 3, 1) := dk_29 (dk_at dksX0_map_0 5 rfl rfl)
theorem dX0_map_6 : decode cX0_map 6 = .ok (.invokevirtual 82, 3) := dk_182 0 82 (dk_at dksX0_map_0 6 rfl rfl)
theorem dX0_map_9 : decode cX0_map 9 = .ok (.i2l, 1) := dk_133 (dk_at dksX0_map_0 9 rfl rfl)
theorem dX0_map_10 : decode cX0_map 10 = .ok (.putfield 13, 3) := dk_181 0 13 (dk_at dksX0_map_0 10 rfl rfl)
theorem dX0_map_13 : decode cX0_map 13 = .ok (.goto 7, 3) := dk_167 0 7 (dk_at dksX0_map_0 13 rfl rfl)
theorem dX0_map_16 : decode cX0_map 16 = .ok (.astore 5, 2) := dk_58 5 (dk_at dksX0_map_0 16 rfl rfl)
theorem dX0_map_18 : decode cX0_map 18 = .ok (.iconst 1, 1) := dk_4 (dk_at dksX0_map_0 18 rfl rfl)
theorem dX0_map_19 : decode cX0_map 19 = .ok (.ireturn, 1) := dk_172 (dk_at dksX0_map_0 19 rfl rfl)
theorem dX0_map_20 : decode cX0_map 20 = .ok (.iconst 0, 1) := dk_3 (dk_at dksX0_map_0 20 rfl rfl)
theorem dX0_map_21 : decode cX0_map 21 = .ok (.ireturn, 1) := dk_172 (dk_at dksX0_map_0 21 rfl rfl)
abbrev cX0_may : ByteArray := method_19_code
def yX0_may : MethodName := ⟨RX0, "may", "(LBumpward;IILBumpwardLaw$Out;)I"⟩
def dkwX0_may_1 : List UInt8 := [172, 3, 172]
abbrev dktX0_may_1 : List UInt8 := dkwX0_may_1 ++ []
def dkwX0_may_0 : List UInt8 := [45, 42, 27, 28, 182, 0, 85, 153, 0, 7, 10, 167, 0, 4, 9, 181, 0, 13, 167, 0, 7, 58, 4, 4]
abbrev dktX0_may_0 : List UInt8 := dkwX0_may_0 ++ dktX0_may_1
theorem dksX0_may_0 : cX0_may.data.toList.drop 0 = dktX0_may_0 := by decide +kernel
theorem dksX0_may_1 : cX0_may.data.toList.drop 24 = dktX0_may_1 := dk_seg dksX0_may_0 24 rfl rfl
theorem dX0_may_0 : decode cX0_may 0 = .ok (.aload_n 3, 1) := dk_45 (dk_at dksX0_may_0 0 rfl rfl)
theorem dX0_may_1 : decode cX0_may 1 = .ok (.aload_n 0, 1) := dk_42 (dk_at dksX0_may_0 1 rfl rfl)
theorem dX0_may_2 : decode cX0_may 2 = .ok (.iload_n 1, 1) := dk_27 (dk_at dksX0_may_0 2 rfl rfl)
theorem dX0_may_3 : decode cX0_may 3 = .ok (.iload_n 2, 1) := dk_28 (dk_at dksX0_may_0 3 rfl rfl)
theorem dX0_may_4 : decode cX0_may 4 = .ok (.invokevirtual 85, 3) := dk_182 0 85 (dk_at dksX0_may_0 4 rfl rfl)
theorem dX0_may_7 : decode cX0_may 7 = .ok (.ifCond .eq 7, 3) := dk_153 0 7 (dk_at dksX0_may_0 7 rfl rfl)
theorem dX0_may_10 : decode cX0_may 10 = .ok (.lconst 1, 1) := dk_10 (dk_at dksX0_may_0 10 rfl rfl)
theorem dX0_may_11 : decode cX0_may 11 = .ok (.goto 4, 3) := dk_167 0 4 (dk_at dksX0_may_0 11 rfl rfl)
theorem dX0_may_14 : decode cX0_may 14 = .ok (.lconst 0, 1) := dk_9 (dk_at dksX0_may_0 14 rfl rfl)
theorem dX0_may_15 : decode cX0_may 15 = .ok (.putfield 13, 3) := dk_181 0 13 (dk_at dksX0_may_0 15 rfl rfl)
theorem dX0_may_18 : decode cX0_may 18 = .ok (.goto 7, 3) := dk_167 0 7 (dk_at dksX0_may_0 18 rfl rfl)
theorem dX0_may_21 : decode cX0_may 21 = .ok (.astore 4, 2) := dk_58 4 (dk_at dksX0_may_0 21 rfl rfl)
theorem dX0_may_23 : decode cX0_may 23 = .ok (.iconst 1, 1) := dk_4 (dk_at dksX0_may_0 23 rfl rfl)
theorem dX0_may_24 : decode cX0_may 24 = .ok (.ireturn, 1) := dk_172 (dk_at dksX0_may_1 0 rfl rfl)
theorem dX0_may_25 : decode cX0_may 25 = .ok (.iconst 0, 1) := dk_3 (dk_at dksX0_may_1 1 rfl rfl)
theorem dX0_may_26 : decode cX0_may 26 = .ok (.ireturn, 1) := dk_172 (dk_at dksX0_may_1 2 rfl rfl)
abbrev cX0_where : ByteArray := method_20_code
def yX0_where : MethodName := ⟨RX0, "where", "(LBumpward;IILBumpwardLaw$Out;)I"⟩
def dkwX0_where_0 : List UInt8 := [45, 42, 27, 28, 182, 0, 89, 181, 0, 13, 167, 0, 11, 58, 4, 4, 172, 58, 4, 5, 172, 3, 172]
abbrev dktX0_where_0 : List UInt8 := dkwX0_where_0 ++ []
theorem dksX0_where_0 : cX0_where.data.toList.drop 0 = dktX0_where_0 := by decide +kernel
theorem dX0_where_0 : decode cX0_where 0 = .ok (.aload_n 3, 1) := dk_45 (dk_at dksX0_where_0 0 rfl rfl)
theorem dX0_where_1 : decode cX0_where 1 = .ok (.aload_n 0, 1) := dk_42 (dk_at dksX0_where_0 1 rfl rfl)
theorem dX0_where_2 : decode cX0_where 2 = .ok (.iload_n 1, 1) := dk_27 (dk_at dksX0_where_0 2 rfl rfl)
theorem dX0_where_3 : decode cX0_where 3 = .ok (.iload_n 2, 1) := dk_28 (dk_at dksX0_where_0 3 rfl rfl)
theorem dX0_where_4 : decode cX0_where 4 = .ok (.invokevirtual 89, 3) := dk_182 0 89 (dk_at dksX0_where_0 4 rfl rfl)
theorem dX0_where_7 : decode cX0_where 7 = .ok (.putfield 13, 3) := dk_181 0 13 (dk_at dksX0_where_0 7 rfl rfl)
theorem dX0_where_10 : decode cX0_where 10 = .ok (.goto 11, 3) := dk_167 0 11 (dk_at dksX0_where_0 10 rfl rfl)
theorem dX0_where_13 : decode cX0_where 13 = .ok (.astore 4, 2) := dk_58 4 (dk_at dksX0_where_0 13 rfl rfl)
theorem dX0_where_15 : decode cX0_where 15 = .ok (.iconst 1, 1) := dk_4 (dk_at dksX0_where_0 15 rfl rfl)
theorem dX0_where_16 : decode cX0_where 16 = .ok (.ireturn, 1) := dk_172 (dk_at dksX0_where_0 16 rfl rfl)
theorem dX0_where_17 : decode cX0_where 17 = .ok (.astore 4, 2) := dk_58 4 (dk_at dksX0_where_0 17 rfl rfl)
theorem dX0_where_19 : decode cX0_where 19 = .ok (.iconst 2, 1) := dk_5 (dk_at dksX0_where_0 19 rfl rfl)
theorem dX0_where_20 : decode cX0_where 20 = .ok (.ireturn, 1) := dk_172 (dk_at dksX0_where_0 20 rfl rfl)
theorem dX0_where_21 : decode cX0_where 21 = .ok (.iconst 0, 1) := dk_3 (dk_at dksX0_where_0 21 rfl rfl)
theorem dX0_where_22 : decode cX0_where 22 = .ok (.ireturn, 1) := dk_172 (dk_at dksX0_where_0 22 rfl rfl)
abbrev cX0_way : ByteArray := method_21_code
def yX0_way : MethodName := ⟨RX0, "way", "(LBumpward;IIILBumpwardLaw$Out;)I"⟩
def dkwX0_way_0 : List UInt8 := [25, 4, 42, 27, 28, 29, 182, 0, 93, 133, 181, 0, 13, 167, 0, 7, 58, 5, 4, 172, 3, 172]
abbrev dktX0_way_0 : List UInt8 := dkwX0_way_0 ++ []
theorem dksX0_way_0 : cX0_way.data.toList.drop 0 = dktX0_way_0 := by decide +kernel
theorem dX0_way_0 : decode cX0_way 0 = .ok (.aload 4, 2) := dk_25 4 (dk_at dksX0_way_0 0 rfl rfl)
theorem dX0_way_2 : decode cX0_way 2 = .ok (.aload_n 0, 1) := dk_42 (dk_at dksX0_way_0 2 rfl rfl)
theorem dX0_way_3 : decode cX0_way 3 = .ok (.iload_n 1, 1) := dk_27 (dk_at dksX0_way_0 3 rfl rfl)
theorem dX0_way_4 : decode cX0_way 4 = .ok (.iload_n 2, 1) := dk_28 (dk_at dksX0_way_0 4 rfl rfl)
theorem dX0_way_5 : decode cX0_way 5 = .ok (.iload_n 3, 1) := dk_29 (dk_at dksX0_way_0 5 rfl rfl)
theorem dX0_way_6 : decode cX0_way 6 = .ok (.invokevirtual 93, 3) := dk_182 0 93 (dk_at dksX0_way_0 6 rfl rfl)
theorem dX0_way_9 : decode cX0_way 9 = .ok (.i2l, 1) := dk_133 (dk_at dksX0_way_0 9 rfl rfl)
theorem dX0_way_10 : decode cX0_way 10 = .ok (.putfield 13, 3) := dk_181 0 13 (dk_at dksX0_way_0 10 rfl rfl)
theorem dX0_way_13 : decode cX0_way 13 = .ok (.goto 7, 3) := dk_167 0 7 (dk_at dksX0_way_0 13 rfl rfl)
theorem dX0_way_16 : decode cX0_way 16 = .ok (.astore 5, 2) := dk_58 5 (dk_at dksX0_way_0 16 rfl rfl)
theorem dX0_way_18 : decode cX0_way 18 = .ok (.iconst 1, 1) := dk_4 (dk_at dksX0_way_0 18 rfl rfl)
theorem dX0_way_19 : decode cX0_way 19 = .ok (.ireturn, 1) := dk_172 (dk_at dksX0_way_0 19 rfl rfl)
theorem dX0_way_20 : decode cX0_way 20 = .ok (.iconst 0, 1) := dk_3 (dk_at dksX0_way_0 20 rfl rfl)
theorem dX0_way_21 : decode cX0_way 21 = .ok (.ireturn, 1) := dk_172 (dk_at dksX0_way_0 21 rfl rfl)
abbrev cX0_safety : ByteArray := method_22_code
def yX0_safety : MethodName := ⟨RX0, "safety", "(LBumpward;IILBumpwardLaw$Out;)I"⟩
def dkwX0_safety_0 : List UInt8 := [45, 42, 27, 28, 182, 0, 96, 133, 181, 0, 13, 167, 0, 11, 58, 4, 4, 172, 58, 4, 5, 172, 3, 172]
abbrev dktX0_safety_0 : List UInt8 := dkwX0_safety_0 ++ []
theorem dksX0_safety_0 : cX0_safety.data.toList.drop 0 = dktX0_safety_0 := by decide +kernel
theorem dX0_safety_0 : decode cX0_safety 0 = .ok (.aload_n 3, 1) := dk_45 (dk_at dksX0_safety_0 0 rfl rfl)
theorem dX0_safety_1 : decode cX0_safety 1 = .ok (.aload_n 0, 1) := dk_42 (dk_at dksX0_safety_0 1 rfl rfl)
theorem dX0_safety_2 : decode cX0_safety 2 = .ok (.iload_n 1, 1) := dk_27 (dk_at dksX0_safety_0 2 rfl rfl)
theorem dX0_safety_3 : decode cX0_safety 3 = .ok (.iload_n 2, 1) := dk_28 (dk_at dksX0_safety_0 3 rfl rfl)
theorem dX0_safety_4 : decode cX0_safety 4 = .ok (.invokevirtual 96, 3) := dk_182 0 96 (dk_at dksX0_safety_0 4 rfl rfl)
theorem dX0_safety_7 : decode cX0_safety 7 = .ok (.i2l, 1) := dk_133 (dk_at dksX0_safety_0 7 rfl rfl)
theorem dX0_safety_8 : decode cX0_safety 8 = .ok (.putfield 13, 3) := dk_181 0 13 (dk_at dksX0_safety_0 8 rfl rfl)
theorem dX0_safety_11 : decode cX0_safety 11 = .ok (.goto 11, 3) := dk_167 0 11 (dk_at dksX0_safety_0 11 rfl rfl)
theorem dX0_safety_14 : decode cX0_safety 14 = .ok (.astore 4, 2) := dk_58 4 (dk_at dksX0_safety_0 14 rfl rfl)
theorem dX0_safety_16 : decode cX0_safety 16 = .ok (.iconst 1, 1) := dk_4 (dk_at dksX0_safety_0 16 rfl rfl)
theorem dX0_safety_17 : decode cX0_safety 17 = .ok (.ireturn, 1) := dk_172 (dk_at dksX0_safety_0 17 rfl rfl)
theorem dX0_safety_18 : decode cX0_safety 18 = .ok (.astore 4, 2) := dk_58 4 (dk_at dksX0_safety_0 18 rfl rfl)
theorem dX0_safety_20 : decode cX0_safety 20 = .ok (.iconst 2, 1) := dk_5 (dk_at dksX0_safety_0 20 rfl rfl)
theorem dX0_safety_21 : decode cX0_safety 21 = .ok (.ireturn, 1) := dk_172 (dk_at dksX0_safety_0 21 rfl rfl)
theorem dX0_safety_22 : decode cX0_safety 22 = .ok (.iconst 0, 1) := dk_3 (dk_at dksX0_safety_0 22 rfl rfl)
theorem dX0_safety_23 : decode cX0_safety 23 = .ok (.ireturn, 1) := dk_172 (dk_at dksX0_safety_0 23 rfl rfl)
abbrev cX0_doubt : ByteArray := method_23_code
def yX0_doubt : MethodName := ⟨RX0, "doubt", "(LBumpward;ILBumpwardLaw$Out;)I"⟩
def dkwX0_doubt_0 : List UInt8 := [44, 42, 27, 182, 0, 99, 181, 0, 103, 167, 0, 6, 78, 4, 172, 3, 172]
abbrev dktX0_doubt_0 : List UInt8 := dkwX0_doubt_0 ++ []
theorem dksX0_doubt_0 : cX0_doubt.data.toList.drop 0 = dktX0_doubt_0 := by decide +kernel
theorem dX0_doubt_0 : decode cX0_doubt 0 = .ok (.aload_n 2, 1) := dk_44 (dk_at dksX0_doubt_0 0 rfl rfl)
theorem dX0_doubt_1 : decode cX0_doubt 1 = .ok (.aload_n 0, 1) := dk_42 (dk_at dksX0_doubt_0 1 rfl rfl)
theorem dX0_doubt_2 : decode cX0_doubt 2 = .ok (.iload_n 1, 1) := dk_27 (dk_at dksX0_doubt_0 2 rfl rfl)
theorem dX0_doubt_3 : decode cX0_doubt 3 = .ok (.invokevirtual 99, 3) := dk_182 0 99 (dk_at dksX0_doubt_0 3 rfl rfl)
theorem dX0_doubt_6 : decode cX0_doubt 6 = .ok (.putfield 103, 3) := dk_181 0 103 (dk_at dksX0_doubt_0 6 rfl rfl)
theorem dX0_doubt_9 : decode cX0_doubt 9 = .ok (.goto 6, 3) := dk_167 0 6 (dk_at dksX0_doubt_0 9 rfl rfl)
theorem dX0_doubt_12 : decode cX0_doubt 12 = .ok (.astore_n 3, 1) := dk_78 (dk_at dksX0_doubt_0 12 rfl rfl)
theorem dX0_doubt_13 : decode cX0_doubt 13 = .ok (.iconst 1, 1) := dk_4 (dk_at dksX0_doubt_0 13 rfl rfl)
theorem dX0_doubt_14 : decode cX0_doubt 14 = .ok (.ireturn, 1) := dk_172 (dk_at dksX0_doubt_0 14 rfl rfl)
theorem dX0_doubt_15 : decode cX0_doubt 15 = .ok (.iconst 0, 1) := dk_3 (dk_at dksX0_doubt_0 15 rfl rfl)
theorem dX0_doubt_16 : decode cX0_doubt 16 = .ok (.ireturn, 1) := dk_172 (dk_at dksX0_doubt_0 16 rfl rfl)
abbrev cX0_worst : ByteArray := method_24_code
def yX0_worst : MethodName := ⟨RX0, "worst", "(LBumpward;IILBumpwardLaw$Out;)I"⟩
def dkwX0_worst_0 : List UInt8 := [45, 42, 27, 28, 182, 0, 107, 133, 181, 0, 13, 167, 0, 11, 58, 4, 4, 172, 58, 4, 5, 172, 3, 172]
abbrev dktX0_worst_0 : List UInt8 := dkwX0_worst_0 ++ []
theorem dksX0_worst_0 : cX0_worst.data.toList.drop 0 = dktX0_worst_0 := by decide +kernel
theorem dX0_worst_0 : decode cX0_worst 0 = .ok (.aload_n 3, 1) := dk_45 (dk_at dksX0_worst_0 0 rfl rfl)
theorem dX0_worst_1 : decode cX0_worst 1 = .ok (.aload_n 0, 1) := dk_42 (dk_at dksX0_worst_0 1 rfl rfl)
theorem dX0_worst_2 : decode cX0_worst 2 = .ok (.iload_n 1, 1) := dk_27 (dk_at dksX0_worst_0 2 rfl rfl)
theorem dX0_worst_3 : decode cX0_worst 3 = .ok (.iload_n 2, 1) := dk_28 (dk_at dksX0_worst_0 3 rfl rfl)
theorem dX0_worst_4 : decode cX0_worst 4 = .ok (.invokevirtual 107, 3) := dk_182 0 107 (dk_at dksX0_worst_0 4 rfl rfl)
theorem dX0_worst_7 : decode cX0_worst 7 = .ok (.i2l, 1) := dk_133 (dk_at dksX0_worst_0 7 rfl rfl)
theorem dX0_worst_8 : decode cX0_worst 8 = .ok (.putfield 13, 3) := dk_181 0 13 (dk_at dksX0_worst_0 8 rfl rfl)
theorem dX0_worst_11 : decode cX0_worst 11 = .ok (.goto 11, 3) := dk_167 0 11 (dk_at dksX0_worst_0 11 rfl rfl)
theorem dX0_worst_14 : decode cX0_worst 14 = .ok (.astore 4, 2) := dk_58 4 (dk_at dksX0_worst_0 14 rfl rfl)
theorem dX0_worst_16 : decode cX0_worst 16 = .ok (.iconst 1, 1) := dk_4 (dk_at dksX0_worst_0 16 rfl rfl)
theorem dX0_worst_17 : decode cX0_worst 17 = .ok (.ireturn, 1) := dk_172 (dk_at dksX0_worst_0 17 rfl rfl)
theorem dX0_worst_18 : decode cX0_worst 18 = .ok (.astore 4, 2) := dk_58 4 (dk_at dksX0_worst_0 18 rfl rfl)
theorem dX0_worst_20 : decode cX0_worst 20 = .ok (.iconst 2, 1) := dk_5 (dk_at dksX0_worst_0 20 rfl rfl)
theorem dX0_worst_21 : decode cX0_worst 21 = .ok (.ireturn, 1) := dk_172 (dk_at dksX0_worst_0 21 rfl rfl)
theorem dX0_worst_22 : decode cX0_worst 22 = .ok (.iconst 0, 1) := dk_3 (dk_at dksX0_worst_0 22 rfl rfl)
theorem dX0_worst_23 : decode cX0_worst 23 = .ok (.ireturn, 1) := dk_172 (dk_at dksX0_worst_0 23 rfl rfl)
abbrev cX0_best : ByteArray := method_25_code
def yX0_best : MethodName := ⟨RX0, "best", "(LBumpward;ILBumpwardLaw$Out;)I"⟩
def dkwX0_best_0 : List UInt8 := [44, 42, 27, 182, 0, 110, 133, 181, 0, 13, 167, 0, 6, 78, 4, 172, 3, 172]
abbrev dktX0_best_0 : List UInt8 := dkwX0_best_0 ++ []
theorem dksX0_best_0 : cX0_best.data.toList.drop 0 = dktX0_best_0 := by decide +kernel
theorem dX0_best_0 : decode cX0_best 0 = .ok (.aload_n 2, 1) := dk_44 (dk_at dksX0_best_0 0 rfl rfl)
theorem dX0_best_1 : decode cX0_best 1 = .ok (.aload_n 0, 1) := dk_42 (dk_at dksX0_best_0 1 rfl rfl)
theorem dX0_best_2 : decode cX0_best 2 = .ok (.iload_n 1, 1) := dk_27 (dk_at dksX0_best_0 2 rfl rfl)
theorem dX0_best_3 : decode cX0_best 3 = .ok (.invokevirtual 110, 3) := dk_182 0 110 (dk_at dksX0_best_0 3 rfl rfl)
theorem dX0_best_6 : decode cX0_best 6 = .ok (.i2l, 1) := dk_133 (dk_at dksX0_best_0 6 rfl rfl)
theorem dX0_best_7 : decode cX0_best 7 = .ok (.putfield 13, 3) := dk_181 0 13 (dk_at dksX0_best_0 7 rfl rfl)
theorem dX0_best_10 : decode cX0_best 10 = .ok (.goto 6, 3) := dk_167 0 6 (dk_at dksX0_best_0 10 rfl rfl)
theorem dX0_best_13 : decode cX0_best 13 = .ok (.astore_n 3, 1) := dk_78 (dk_at dksX0_best_0 13 rfl rfl)
theorem dX0_best_14 : decode cX0_best 14 = .ok (.iconst 1, 1) := dk_4 (dk_at dksX0_best_0 14 rfl rfl)
theorem dX0_best_15 : decode cX0_best 15 = .ok (.ireturn, 1) := dk_172 (dk_at dksX0_best_0 15 rfl rfl)
theorem dX0_best_16 : decode cX0_best 16 = .ok (.iconst 0, 1) := dk_3 (dk_at dksX0_best_0 16 rfl rfl)
theorem dX0_best_17 : decode cX0_best 17 = .ok (.ireturn, 1) := dk_172 (dk_at dksX0_best_0 17 rfl rfl)
abbrev cX0_wouldFeel : ByteArray := method_26_code
def yX0_wouldFeel : MethodName := ⟨RX0, "wouldFeel", "(LBumpward;IILBumpwardLaw$Out;)I"⟩
def dkwX0_wouldFeel_0 : List UInt8 := [45, 42, 27, 28, 182, 0, 113, 133, 181, 0, 13, 167, 0, 11, 58, 4, 4, 172, 58, 4, 5, 172, 3, 172]
abbrev dktX0_wouldFeel_0 : List UInt8 := dkwX0_wouldFeel_0 ++ []
theorem dksX0_wouldFeel_0 : cX0_wouldFeel.data.toList.drop 0 = dktX0_wouldFeel_0 := by decide +kernel
theorem dX0_wouldFeel_0 : decode cX0_wouldFeel 0 = .ok (.aload_n 3, 1) := dk_45 (dk_at dksX0_wouldFeel_0 0 rfl rfl)
theorem dX0_wouldFeel_1 : decode cX0_wouldFeel 1 = .ok (.aload_n 0, 1) := dk_42 (dk_at dksX0_wouldFeel_0 1 rfl rfl)
theorem dX0_wouldFeel_2 : decode cX0_wouldFeel 2 = .ok (.iload_n 1, 1) := dk_27 (dk_at dksX0_wouldFeel_0 2 rfl rfl)
theorem dX0_wouldFeel_3 : decode cX0_wouldFeel 3 = .ok (.iload_n 2, 1) := dk_28 (dk_at dksX0_wouldFeel_0 3 rfl rfl)
theorem dX0_wouldFeel_4 : decode cX0_wouldFeel 4 = .ok (.invokevirtual 113, 3) := dk_182 0 113 (dk_at dksX0_wouldFeel_0 4 rfl rfl)
theorem dX0_wouldFeel_7 : decode cX0_wouldFeel 7 = .ok (.i2l, 1) := dk_133 (dk_at dksX0_wouldFeel_0 7 rfl rfl)
theorem dX0_wouldFeel_8 : decode cX0_wouldFeel 8 = .ok (.putfield 13, 3) := dk_181 0 13 (dk_at dksX0_wouldFeel_0 8 rfl rfl)
theorem dX0_wouldFeel_11 : decode cX0_wouldFeel 11 = .ok (.goto 11, 3) := dk_167 0 11 (dk_at dksX0_wouldFeel_0 11 rfl rfl)
theorem dX0_wouldFeel_14 : decode cX0_wouldFeel 14 = .ok (.astore 4, 2) := dk_58 4 (dk_at dksX0_wouldFeel_0 14 rfl rfl)
theorem dX0_wouldFeel_16 : decode cX0_wouldFeel 16 = .ok (.iconst 1, 1) := dk_4 (dk_at dksX0_wouldFeel_0 16 rfl rfl)
theorem dX0_wouldFeel_17 : decode cX0_wouldFeel 17 = .ok (.ireturn, 1) := dk_172 (dk_at dksX0_wouldFeel_0 17 rfl rfl)
theorem dX0_wouldFeel_18 : decode cX0_wouldFeel 18 = .ok (.astore 4, 2) := dk_58 4 (dk_at dksX0_wouldFeel_0 18 rfl rfl)
theorem dX0_wouldFeel_20 : decode cX0_wouldFeel 20 = .ok (.iconst 2, 1) := dk_5 (dk_at dksX0_wouldFeel_0 20 rfl rfl)
theorem dX0_wouldFeel_21 : decode cX0_wouldFeel 21 = .ok (.ireturn, 1) := dk_172 (dk_at dksX0_wouldFeel_0 21 rfl rfl)
theorem dX0_wouldFeel_22 : decode cX0_wouldFeel 22 = .ok (.iconst 0, 1) := dk_3 (dk_at dksX0_wouldFeel_0 22 rfl rfl)
theorem dX0_wouldFeel_23 : decode cX0_wouldFeel 23 = .ok (.ireturn, 1) := dk_172 (dk_at dksX0_wouldFeel_0 23 rfl rfl)
abbrev cX0_wouldBe : ByteArray := method_27_code
def yX0_wouldBe : MethodName := ⟨RX0, "wouldBe", "(LBumpward;IILBumpwardLaw$Out;)I"⟩
def dkwX0_wouldBe_0 : List UInt8 := [45, 42, 27, 28, 182, 0, 116, 133, 181, 0, 13, 167, 0, 11, 58, 4, 4, 172, 58, 4, 5, 172, 3, 172]
abbrev dktX0_wouldBe_0 : List UInt8 := dkwX0_wouldBe_0 ++ []
theorem dksX0_wouldBe_0 : cX0_wouldBe.data.toList.drop 0 = dktX0_wouldBe_0 := by decide +kernel
theorem dX0_wouldBe_0 : decode cX0_wouldBe 0 = .ok (.aload_n 3, 1) := dk_45 (dk_at dksX0_wouldBe_0 0 rfl rfl)
theorem dX0_wouldBe_1 : decode cX0_wouldBe 1 = .ok (.aload_n 0, 1) := dk_42 (dk_at dksX0_wouldBe_0 1 rfl rfl)
theorem dX0_wouldBe_2 : decode cX0_wouldBe 2 = .ok (.iload_n 1, 1) := dk_27 (dk_at dksX0_wouldBe_0 2 rfl rfl)
theorem dX0_wouldBe_3 : decode cX0_wouldBe 3 = .ok (.iload_n 2, 1) := dk_28 (dk_at dksX0_wouldBe_0 3 rfl rfl)
theorem dX0_wouldBe_4 : decode cX0_wouldBe 4 = .ok (.invokevirtual 116, 3) := dk_182 0 116 (dk_at dksX0_wouldBe_0 4 rfl rfl)
theorem dX0_wouldBe_7 : decode cX0_wouldBe 7 = .ok (.i2l, 1) := dk_133 (dk_at dksX0_wouldBe_0 7 rfl rfl)
theorem dX0_wouldBe_8 : decode cX0_wouldBe 8 = .ok (.putfield 13, 3) := dk_181 0 13 (dk_at dksX0_wouldBe_0 8 rfl rfl)
theorem dX0_wouldBe_11 : decode cX0_wouldBe 11 = .ok (.goto 11, 3) := dk_167 0 11 (dk_at dksX0_wouldBe_0 11 rfl rfl)
theorem dX0_wouldBe_14 : decode cX0_wouldBe 14 = .ok (.astore 4, 2) := dk_58 4 (dk_at dksX0_wouldBe_0 14 rfl rfl)
theorem dX0_wouldBe_16 : decode cX0_wouldBe 16 = .ok (.iconst 1, 1) := dk_4 (dk_at dksX0_wouldBe_0 16 rfl rfl)
theorem dX0_wouldBe_17 : decode cX0_wouldBe 17 = .ok (.ireturn, 1) := dk_172 (dk_at dksX0_wouldBe_0 17 rfl rfl)
theorem dX0_wouldBe_18 : decode cX0_wouldBe 18 = .ok (.astore 4, 2) := dk_58 4 (dk_at dksX0_wouldBe_0 18 rfl rfl)
theorem dX0_wouldBe_20 : decode cX0_wouldBe 20 = .ok (.iconst 2, 1) := dk_5 (dk_at dksX0_wouldBe_0 20 rfl rfl)
theorem dX0_wouldBe_21 : decode cX0_wouldBe 21 = .ok (.ireturn, 1) := dk_172 (dk_at dksX0_wouldBe_0 21 rfl rfl)
theorem dX0_wouldBe_22 : decode cX0_wouldBe 22 = .ok (.iconst 0, 1) := dk_3 (dk_at dksX0_wouldBe_0 22 rfl rfl)
theorem dX0_wouldBe_23 : decode cX0_wouldBe 23 = .ok (.ireturn, 1) := dk_172 (dk_at dksX0_wouldBe_0 23 rfl rfl)
theorem q48 : (Jvm.Cond.initialized "BumpwardLaw") ∈ lw_all := lw_g (lw_at lw_m1 0 rfl) rfl
theorem q87 : (Jvm.Cond.classLink "BumpwardLaw" (8 : Nat) "Bumpward") ∈ lw_all := lw_g (lw_at lw_m1 39 rfl) rfl
theorem q89 : (Jvm.Cond.methodLink "BumpwardLaw" (119 : Nat) ({ cls := "Bumpward", name := "<init>", desc := "()V" } : Jvm.MethodName)) ∈ lw_all := lw_g (lw_at lw_m1 41 rfl) rfl
theorem q197 : (Jvm.Cond.methodLink "BumpwardLaw" (172 : Nat) ({ cls := "Bumpward", name := "call", desc := "()I" } : Jvm.MethodName)) ∈ lw_all := lw_g (lw_at lw_m1 149 rfl) rfl
theorem q205 : (Jvm.Cond.methodLink "BumpwardLaw" (225 : Nat) ({ cls := "Bumpward", name := "isSound", desc := "()Z" } : Jvm.MethodName)) ∈ lw_all := lw_g (lw_at lw_m1 157 rfl) rfl
theorem q307 : (Jvm.Cond.methodLink "BumpwardLaw" (230 : Nat) ({ cls := "Bumpward", name := "digest", desc := "()J" } : Jvm.MethodName)) ∈ lw_all := lw_g (lw_at lw_m2 19 rfl) rfl
theorem q528 : (Jvm.Cond.classLink "BumpwardLaw" (14 : Nat) "BumpwardLaw$Out") ∈ lw_all := lw_g (lw_at lw_m3 0 rfl) rfl
theorem q530 : (Jvm.Cond.methodLinkNest "BumpwardLaw" (123 : Nat) ({ cls := "BumpwardLaw$Out", name := "<init>", desc := "()V" } : Jvm.MethodName) "BumpwardLaw") ∈ lw_tbl := lw_at lw_m3 2 rfl
theorem q534 : (Jvm.Cond.fieldLinkNest "BumpwardLaw" (13 : Nat) "BumpwardLaw$Out" "n" "J" "BumpwardLaw") ∈ lw_tbl := lw_at lw_m3 6 rfl
theorem q535 : (Jvm.Cond.fieldLinkNest "BumpwardLaw" (103 : Nat) "BumpwardLaw$Out" "d" "D" "BumpwardLaw") ∈ lw_tbl := lw_at lw_m3 7 rfl
theorem q536 : (Jvm.Cond.fieldLinkNest "BumpwardLaw" (78 : Nat) "BumpwardLaw$Out" "s" "Ljava/lang/String;" "BumpwardLaw") ∈ lw_tbl := lw_at lw_m3 8 rfl
theorem q544 : (Jvm.Cond.methodLink "BumpwardLaw" (124 : Nat) ({ cls := "BumpwardLaw", name := "edge", desc := "(LBumpward;IIIILBumpwardLaw$Out;)I" } : Jvm.MethodName)) ∈ lw_all := lw_g (lw_at lw_m3 16 rfl) rfl
theorem q545 : (Jvm.Cond.static ({ cls := "BumpwardLaw", name := "edge", desc := "(LBumpward;IIIILBumpwardLaw$Out;)I" } : Jvm.MethodName)) ∈ lw_all := lw_g (lw_at lw_m3 17 rfl) rfl
theorem q546 : (Jvm.Cond.codeWith ({ cls := "BumpwardLaw", name := "edge", desc := "(LBumpward;IIIILBumpwardLaw$Out;)I" } : Jvm.MethodName) method_2_code (7 : Nat) (Option.some Jvm.ClassFile.FieldType.int) [((0 : Nat), (15 : Nat), (18 : Nat), (19 : Nat)), ((0 : Nat), (15 : Nat), (22 : Nat), (21 : Nat))]) ∈ lw_all := lw_g (lw_at lw_m3 18 rfl) rfl
theorem q547 : (Jvm.Cond.classLink "BumpwardLaw" (19 : Nat) "java/lang/IndexOutOfBoundsException") ∈ lw_all := lw_g (lw_at lw_m3 19 rfl) rfl
theorem q624 : (Jvm.Cond.classLink "BumpwardLaw" (21 : Nat) "java/lang/IllegalArgumentException") ∈ lw_all := lw_g (lw_at lw_m3 96 rfl) rfl
theorem q625 : (Jvm.Cond.methodLink "BumpwardLaw" (7 : Nat) ({ cls := "Bumpward", name := "edge", desc := "(IIII)I" } : Jvm.MethodName)) ∈ lw_all := lw_g (lw_at lw_m3 97 rfl) rfl
theorem q695 : (Jvm.Cond.methodLink "BumpwardLaw" (134 : Nat) ({ cls := "BumpwardLaw", name := "lay", desc := "(LBumpward;ILBumpwardLaw$Out;)I" } : Jvm.MethodName)) ∈ lw_all := lw_g (lw_at lw_m3 167 rfl) rfl
theorem q696 : (Jvm.Cond.static ({ cls := "BumpwardLaw", name := "lay", desc := "(LBumpward;ILBumpwardLaw$Out;)I" } : Jvm.MethodName)) ∈ lw_all := lw_g (lw_at lw_m3 168 rfl) rfl
theorem q697 : (Jvm.Cond.codeWith ({ cls := "BumpwardLaw", name := "lay", desc := "(LBumpward;ILBumpwardLaw$Out;)I" } : Jvm.MethodName) method_3_code (4 : Nat) (Option.some Jvm.ClassFile.FieldType.int) [((0 : Nat), (10 : Nat), (13 : Nat), (21 : Nat))]) ∈ lw_all := lw_g (lw_at lw_m3 169 rfl) rfl
theorem q698 : (Jvm.Cond.methodLink "BumpwardLaw" (23 : Nat) ({ cls := "Bumpward", name := "lay", desc := "(I)I" } : Jvm.MethodName)) ∈ lw_all := lw_g (lw_at lw_m3 170 rfl) rfl
theorem q704 : (Jvm.Cond.methodLink "BumpwardLaw" (138 : Nat) ({ cls := "BumpwardLaw", name := "cell", desc := "(LBumpward;IZZLBumpwardLaw$Out;)I" } : Jvm.MethodName)) ∈ lw_all := lw_g (lw_at lw_m3 176 rfl) rfl
theorem q705 : (Jvm.Cond.static ({ cls := "BumpwardLaw", name := "cell", desc := "(LBumpward;IZZLBumpwardLaw$Out;)I" } : Jvm.MethodName)) ∈ lw_all := lw_g (lw_at lw_m3 177 rfl) rfl
theorem q706 : (Jvm.Cond.codeWith ({ cls := "BumpwardLaw", name := "cell", desc := "(LBumpward;IZZLBumpwardLaw$Out;)I" } : Jvm.MethodName) method_4_code (6 : Nat) (Option.some Jvm.ClassFile.FieldType.int) [((0 : Nat), (13 : Nat), (16 : Nat), (19 : Nat))]) ∈ lw_all := lw_g (lw_at lw_m3 178 rfl) rfl
theorem q707 : (Jvm.Cond.methodLink "BumpwardLaw" (27 : Nat) ({ cls := "Bumpward", name := "cell", desc := "(IZZ)I" } : Jvm.MethodName)) ∈ lw_all := lw_g (lw_at lw_m3 179 rfl) rfl
theorem q711 : (Jvm.Cond.methodLink "BumpwardLaw" (142 : Nat) ({ cls := "BumpwardLaw", name := "walker", desc := "(LBumpward;IIIZLBumpwardLaw$Out;)I" } : Jvm.MethodName)) ∈ lw_all := lw_g (lw_at lw_m3 183 rfl) rfl
theorem q712 : (Jvm.Cond.static ({ cls := "BumpwardLaw", name := "walker", desc := "(LBumpward;IIIZLBumpwardLaw$Out;)I" } : Jvm.MethodName)) ∈ lw_all := lw_g (lw_at lw_m3 184 rfl) rfl
theorem q713 : (Jvm.Cond.codeWith ({ cls := "BumpwardLaw", name := "walker", desc := "(LBumpward;IIIZLBumpwardLaw$Out;)I" } : Jvm.MethodName) method_5_code (7 : Nat) (Option.some Jvm.ClassFile.FieldType.int) [((0 : Nat), (15 : Nat), (18 : Nat), (19 : Nat)), ((0 : Nat), (15 : Nat), (22 : Nat), (21 : Nat)), ((0 : Nat), (15 : Nat), (26 : Nat), (35 : Nat))]) ∈ lw_all := lw_g (lw_at lw_m3 185 rfl) rfl
theorem q714 : (Jvm.Cond.classLink "BumpwardLaw" (35 : Nat) "java/lang/IllegalStateException") ∈ lw_all := lw_g (lw_at lw_m3 186 rfl) rfl
theorem q715 : (Jvm.Cond.methodLink "BumpwardLaw" (31 : Nat) ({ cls := "Bumpward", name := "walker", desc := "(IIIZ)I" } : Jvm.MethodName)) ∈ lw_all := lw_g (lw_at lw_m3 187 rfl) rfl
theorem q862 : (Jvm.Cond.methodLink "BumpwardLaw" (146 : Nat) ({ cls := "BumpwardLaw", name := "forward", desc := "(LBumpward;IZLBumpwardLaw$Out;)I" } : Jvm.MethodName)) ∈ lw_all := lw_g (lw_at lw_m4 94 rfl) rfl
theorem q863 : (Jvm.Cond.static ({ cls := "BumpwardLaw", name := "forward", desc := "(LBumpward;IZLBumpwardLaw$Out;)I" } : Jvm.MethodName)) ∈ lw_all := lw_g (lw_at lw_m4 95 rfl) rfl
theorem q864 : (Jvm.Cond.codeWith ({ cls := "BumpwardLaw", name := "forward", desc := "(LBumpward;IZLBumpwardLaw$Out;)I" } : Jvm.MethodName) method_6_code (5 : Nat) (Option.some Jvm.ClassFile.FieldType.int) [((0 : Nat), (18 : Nat), (21 : Nat), (19 : Nat)), ((0 : Nat), (18 : Nat), (25 : Nat), (35 : Nat))]) ∈ lw_all := lw_g (lw_at lw_m4 96 rfl) rfl
theorem q865 : (Jvm.Cond.methodLink "BumpwardLaw" (37 : Nat) ({ cls := "Bumpward", name := "forward", desc := "(IZ)Z" } : Jvm.MethodName)) ∈ lw_all := lw_g (lw_at lw_m4 97 rfl) rfl
theorem q924 : (Jvm.Cond.methodLink "BumpwardLaw" (150 : Nat) ({ cls := "BumpwardLaw", name := "turn", desc := "(LBumpward;IZZLBumpwardLaw$Out;)I" } : Jvm.MethodName)) ∈ lw_all := lw_g (lw_at lw_m4 156 rfl) rfl
theorem q925 : (Jvm.Cond.static ({ cls := "BumpwardLaw", name := "turn", desc := "(LBumpward;IZZLBumpwardLaw$Out;)I" } : Jvm.MethodName)) ∈ lw_all := lw_g (lw_at lw_m4 157 rfl) rfl
theorem q926 : (Jvm.Cond.codeWith ({ cls := "BumpwardLaw", name := "turn", desc := "(LBumpward;IZZLBumpwardLaw$Out;)I" } : Jvm.MethodName) method_7_code (6 : Nat) (Option.some Jvm.ClassFile.FieldType.int) [((0 : Nat), (13 : Nat), (16 : Nat), (19 : Nat)), ((0 : Nat), (13 : Nat), (20 : Nat), (35 : Nat))]) ∈ lw_all := lw_g (lw_at lw_m4 158 rfl) rfl
theorem q927 : (Jvm.Cond.methodLink "BumpwardLaw" (41 : Nat) ({ cls := "Bumpward", name := "turn", desc := "(IZZ)I" } : Jvm.MethodName)) ∈ lw_all := lw_g (lw_at lw_m4 159 rfl) rfl
theorem q939 : (Jvm.Cond.methodLink "BumpwardLaw" (153 : Nat) ({ cls := "BumpwardLaw", name := "feel", desc := "(LBumpward;IZLBumpwardLaw$Out;)I" } : Jvm.MethodName)) ∈ lw_all := lw_g (lw_at lw_m4 171 rfl) rfl
theorem q940 : (Jvm.Cond.static ({ cls := "BumpwardLaw", name := "feel", desc := "(LBumpward;IZLBumpwardLaw$Out;)I" } : Jvm.MethodName)) ∈ lw_all := lw_g (lw_at lw_m4 172 rfl) rfl
theorem q941 : (Jvm.Cond.codeWith ({ cls := "BumpwardLaw", name := "feel", desc := "(LBumpward;IZLBumpwardLaw$Out;)I" } : Jvm.MethodName) method_8_code (5 : Nat) (Option.some Jvm.ClassFile.FieldType.int) [((0 : Nat), (11 : Nat), (14 : Nat), (19 : Nat)), ((0 : Nat), (11 : Nat), (18 : Nat), (35 : Nat))]) ∈ lw_all := lw_g (lw_at lw_m4 173 rfl) rfl
theorem q942 : (Jvm.Cond.methodLink "BumpwardLaw" (44 : Nat) ({ cls := "Bumpward", name := "feel", desc := "(IZ)I" } : Jvm.MethodName)) ∈ lw_all := lw_g (lw_at lw_m4 174 rfl) rfl
theorem q951 : (Jvm.Cond.methodLink "BumpwardLaw" (156 : Nat) ({ cls := "BumpwardLaw", name := "listen", desc := "(LBumpward;IZLBumpwardLaw$Out;)I" } : Jvm.MethodName)) ∈ lw_all := lw_g (lw_at lw_m4 183 rfl) rfl
theorem q952 : (Jvm.Cond.static ({ cls := "BumpwardLaw", name := "listen", desc := "(LBumpward;IZLBumpwardLaw$Out;)I" } : Jvm.MethodName)) ∈ lw_all := lw_g (lw_at lw_m4 184 rfl) rfl
theorem q953 : (Jvm.Cond.codeWith ({ cls := "BumpwardLaw", name := "listen", desc := "(LBumpward;IZLBumpwardLaw$Out;)I" } : Jvm.MethodName) method_9_code (5 : Nat) (Option.some Jvm.ClassFile.FieldType.int) [((0 : Nat), (11 : Nat), (14 : Nat), (19 : Nat)), ((0 : Nat), (11 : Nat), (18 : Nat), (35 : Nat))]) ∈ lw_all := lw_g (lw_at lw_m4 185 rfl) rfl
theorem q954 : (Jvm.Cond.methodLink "BumpwardLaw" (48 : Nat) ({ cls := "Bumpward", name := "listen", desc := "(IZ)I" } : Jvm.MethodName)) ∈ lw_all := lw_g (lw_at lw_m4 186 rfl) rfl
theorem q964 : (Jvm.Cond.methodLink "BumpwardLaw" (159 : Nat) ({ cls := "BumpwardLaw", name := "charge", desc := "(LBumpward;IILBumpwardLaw$Out;)I" } : Jvm.MethodName)) ∈ lw_all := lw_g (lw_at lw_m4 196 rfl) rfl
theorem q965 : (Jvm.Cond.static ({ cls := "BumpwardLaw", name := "charge", desc := "(LBumpward;IILBumpwardLaw$Out;)I" } : Jvm.MethodName)) ∈ lw_all := lw_g (lw_at lw_m4 197 rfl) rfl
theorem q966 : (Jvm.Cond.codeWith ({ cls := "BumpwardLaw", name := "charge", desc := "(LBumpward;IILBumpwardLaw$Out;)I" } : Jvm.MethodName) method_10_code (5 : Nat) (Option.some Jvm.ClassFile.FieldType.int) [((0 : Nat), (11 : Nat), (14 : Nat), (19 : Nat)), ((0 : Nat), (11 : Nat), (18 : Nat), (21 : Nat)), ((0 : Nat), (11 : Nat), (22 : Nat), (35 : Nat))]) ∈ lw_all := lw_g (lw_at lw_m4 198 rfl) rfl
theorem q967 : (Jvm.Cond.methodLink "BumpwardLaw" (51 : Nat) ({ cls := "Bumpward", name := "charge", desc := "(II)I" } : Jvm.MethodName)) ∈ lw_all := lw_g (lw_at lw_m4 199 rfl) rfl
theorem q973 : (Jvm.Cond.methodLink "BumpwardLaw" (163 : Nat) ({ cls := "BumpwardLaw", name := "tellPose", desc := "(LBumpward;ILBumpwardLaw$Out;)I" } : Jvm.MethodName)) ∈ lw_all := lw_g (lw_at lw_m4 205 rfl) rfl
theorem q974 : (Jvm.Cond.static ({ cls := "BumpwardLaw", name := "tellPose", desc := "(LBumpward;ILBumpwardLaw$Out;)I" } : Jvm.MethodName)) ∈ lw_all := lw_g (lw_at lw_m4 206 rfl) rfl
theorem q975 : (Jvm.Cond.codeWith ({ cls := "BumpwardLaw", name := "tellPose", desc := "(LBumpward;ILBumpwardLaw$Out;)I" } : Jvm.MethodName) method_11_code (4 : Nat) (Option.some Jvm.ClassFile.FieldType.int) [((0 : Nat), (10 : Nat), (13 : Nat), (19 : Nat))]) ∈ lw_all := lw_g (lw_at lw_m4 207 rfl) rfl
theorem q976 : (Jvm.Cond.methodLink "BumpwardLaw" (55 : Nat) ({ cls := "Bumpward", name := "tellPose", desc := "(I)I" } : Jvm.MethodName)) ∈ lw_all := lw_g (lw_at lw_m4 208 rfl) rfl
theorem q981 : (Jvm.Cond.methodLink "BumpwardLaw" (166 : Nat) ({ cls := "BumpwardLaw", name := "meet", desc := "(LBumpward;IILBumpwardLaw$Out;)I" } : Jvm.MethodName)) ∈ lw_all := lw_g (lw_at lw_m4 213 rfl) rfl
theorem q982 : (Jvm.Cond.static ({ cls := "BumpwardLaw", name := "meet", desc := "(LBumpward;IILBumpwardLaw$Out;)I" } : Jvm.MethodName)) ∈ lw_all := lw_g (lw_at lw_m4 214 rfl) rfl
theorem q983 : (Jvm.Cond.codeWith ({ cls := "BumpwardLaw", name := "meet", desc := "(LBumpward;IILBumpwardLaw$Out;)I" } : Jvm.MethodName) method_12_code (5 : Nat) (Option.some Jvm.ClassFile.FieldType.int) [((0 : Nat), (11 : Nat), (14 : Nat), (19 : Nat)), ((0 : Nat), (11 : Nat), (18 : Nat), (21 : Nat)), ((0 : Nat), (11 : Nat), (22 : Nat), (35 : Nat))]) ∈ lw_all := lw_g (lw_at lw_m4 215 rfl) rfl
theorem q984 : (Jvm.Cond.methodLink "BumpwardLaw" (58 : Nat) ({ cls := "Bumpward", name := "meet", desc := "(II)I" } : Jvm.MethodName)) ∈ lw_all := lw_g (lw_at lw_m4 216 rfl) rfl
theorem q998 : (Jvm.Cond.methodLink "BumpwardLaw" (169 : Nat) ({ cls := "BumpwardLaw", name := "pass", desc := "(LBumpward;ILBumpwardLaw$Out;)I" } : Jvm.MethodName)) ∈ lw_all := lw_g (lw_at lw_m4 230 rfl) rfl
theorem q999 : (Jvm.Cond.static ({ cls := "BumpwardLaw", name := "pass", desc := "(LBumpward;ILBumpwardLaw$Out;)I" } : Jvm.MethodName)) ∈ lw_all := lw_g (lw_at lw_m4 231 rfl) rfl
theorem q1000 : (Jvm.Cond.codeWith ({ cls := "BumpwardLaw", name := "pass", desc := "(LBumpward;ILBumpwardLaw$Out;)I" } : Jvm.MethodName) method_13_code (4 : Nat) (Option.some Jvm.ClassFile.FieldType.int) [((0 : Nat), (10 : Nat), (13 : Nat), (21 : Nat)), ((0 : Nat), (10 : Nat), (16 : Nat), (35 : Nat))]) ∈ lw_all := lw_g (lw_at lw_m4 232 rfl) rfl
theorem q1001 : (Jvm.Cond.methodLink "BumpwardLaw" (61 : Nat) ({ cls := "Bumpward", name := "pass", desc := "(I)I" } : Jvm.MethodName)) ∈ lw_all := lw_g (lw_at lw_m4 233 rfl) rfl
theorem q1007 : (Jvm.Cond.methodLink "BumpwardLaw" (176 : Nat) ({ cls := "BumpwardLaw", name := "ofEdge", desc := "(LBumpward;IIILBumpwardLaw$Out;)I" } : Jvm.MethodName)) ∈ lw_all := lw_g (lw_at lw_m4 239 rfl) rfl
theorem q1008 : (Jvm.Cond.static ({ cls := "BumpwardLaw", name := "ofEdge", desc := "(LBumpward;IIILBumpwardLaw$Out;)I" } : Jvm.MethodName)) ∈ lw_all := lw_g (lw_at lw_m5 0 rfl) rfl
theorem q1009 : (Jvm.Cond.codeWith ({ cls := "BumpwardLaw", name := "ofEdge", desc := "(LBumpward;IIILBumpwardLaw$Out;)I" } : Jvm.MethodName) method_14_code (6 : Nat) (Option.some Jvm.ClassFile.FieldType.int) [((0 : Nat), (13 : Nat), (16 : Nat), (19 : Nat)), ((0 : Nat), (13 : Nat), (20 : Nat), (21 : Nat))]) ∈ lw_all := lw_g (lw_at lw_m5 1 rfl) rfl
theorem q1010 : (Jvm.Cond.methodLink "BumpwardLaw" (64 : Nat) ({ cls := "Bumpward", name := "ofEdge", desc := "(III)I" } : Jvm.MethodName)) ∈ lw_all := lw_g (lw_at lw_m5 2 rfl) rfl
theorem q1015 : (Jvm.Cond.methodLink "BumpwardLaw" (180 : Nat) ({ cls := "BumpwardLaw", name := "ofWalker", desc := "(LBumpward;IILBumpwardLaw$Out;)I" } : Jvm.MethodName)) ∈ lw_all := lw_g (lw_at lw_m5 7 rfl) rfl
theorem q1016 : (Jvm.Cond.static ({ cls := "BumpwardLaw", name := "ofWalker", desc := "(LBumpward;IILBumpwardLaw$Out;)I" } : Jvm.MethodName)) ∈ lw_all := lw_g (lw_at lw_m5 8 rfl) rfl
theorem q1017 : (Jvm.Cond.codeWith ({ cls := "BumpwardLaw", name := "ofWalker", desc := "(LBumpward;IILBumpwardLaw$Out;)I" } : Jvm.MethodName) method_15_code (5 : Nat) (Option.some Jvm.ClassFile.FieldType.int) [((0 : Nat), (11 : Nat), (14 : Nat), (19 : Nat)), ((0 : Nat), (11 : Nat), (18 : Nat), (21 : Nat))]) ∈ lw_all := lw_g (lw_at lw_m5 9 rfl) rfl
theorem q1018 : (Jvm.Cond.methodLink "BumpwardLaw" (68 : Nat) ({ cls := "Bumpward", name := "ofWalker", desc := "(II)I" } : Jvm.MethodName)) ∈ lw_all := lw_g (lw_at lw_m5 10 rfl) rfl
theorem q1022 : (Jvm.Cond.methodLink "BumpwardLaw" (183 : Nat) ({ cls := "BumpwardLaw", name := "house", desc := "(LBumpward;ILBumpwardLaw$Out;)I" } : Jvm.MethodName)) ∈ lw_all := lw_g (lw_at lw_m5 14 rfl) rfl
theorem q1023 : (Jvm.Cond.static ({ cls := "BumpwardLaw", name := "house", desc := "(LBumpward;ILBumpwardLaw$Out;)I" } : Jvm.MethodName)) ∈ lw_all := lw_g (lw_at lw_m5 15 rfl) rfl
theorem q1024 : (Jvm.Cond.codeWith ({ cls := "BumpwardLaw", name := "house", desc := "(LBumpward;ILBumpwardLaw$Out;)I" } : Jvm.MethodName) method_16_code (4 : Nat) (Option.some Jvm.ClassFile.FieldType.int) [((0 : Nat), (10 : Nat), (13 : Nat), (21 : Nat))]) ∈ lw_all := lw_g (lw_at lw_m5 16 rfl) rfl
theorem q1025 : (Jvm.Cond.methodLink "BumpwardLaw" (71 : Nat) ({ cls := "Bumpward", name := "house", desc := "(I)I" } : Jvm.MethodName)) ∈ lw_all := lw_g (lw_at lw_m5 17 rfl) rfl
theorem q1029 : (Jvm.Cond.methodLink "BumpwardLaw" (186 : Nat) ({ cls := "BumpwardLaw", name := "row", desc := "(LBumpward;ILBumpwardLaw$Out;)I" } : Jvm.MethodName)) ∈ lw_all := lw_g (lw_at lw_m5 21 rfl) rfl
theorem q1030 : (Jvm.Cond.static ({ cls := "BumpwardLaw", name := "row", desc := "(LBumpward;ILBumpwardLaw$Out;)I" } : Jvm.MethodName)) ∈ lw_all := lw_g (lw_at lw_m5 22 rfl) rfl
theorem q1031 : (Jvm.Cond.codeWith ({ cls := "BumpwardLaw", name := "row", desc := "(LBumpward;ILBumpwardLaw$Out;)I" } : Jvm.MethodName) method_17_code (4 : Nat) (Option.some Jvm.ClassFile.FieldType.int) [((0 : Nat), (9 : Nat), (12 : Nat), (19 : Nat))]) ∈ lw_all := lw_g (lw_at lw_m5 23 rfl) rfl
theorem q1032 : (Jvm.Cond.methodLink "BumpwardLaw" (74 : Nat) ({ cls := "Bumpward", name := "row", desc := "(I)Ljava/lang/String;" } : Jvm.MethodName)) ∈ lw_all := lw_g (lw_at lw_m5 24 rfl) rfl
theorem q1281 : (Jvm.Cond.methodLink "BumpwardLaw" (195 : Nat) ({ cls := "BumpwardLaw", name := "map", desc := "(LBumpward;IIILBumpwardLaw$Out;)I" } : Jvm.MethodName)) ∈ lw_all := lw_g (lw_at lw_m6 33 rfl) rfl
theorem q1282 : (Jvm.Cond.static ({ cls := "BumpwardLaw", name := "map", desc := "(LBumpward;IIILBumpwardLaw$Out;)I" } : Jvm.MethodName)) ∈ lw_all := lw_g (lw_at lw_m6 34 rfl) rfl
theorem q1283 : (Jvm.Cond.codeWith ({ cls := "BumpwardLaw", name := "map", desc := "(LBumpward;IIILBumpwardLaw$Out;)I" } : Jvm.MethodName) method_18_code (6 : Nat) (Option.some Jvm.ClassFile.FieldType.int) [((0 : Nat), (13 : Nat), (16 : Nat), (19 : Nat))]) ∈ lw_all := lw_g (lw_at lw_m6 35 rfl) rfl
theorem q1284 : (Jvm.Cond.methodLink "BumpwardLaw" (82 : Nat) ({ cls := "Bumpward", name := "map", desc := "(III)I" } : Jvm.MethodName)) ∈ lw_all := lw_g (lw_at lw_m6 36 rfl) rfl
theorem q1288 : (Jvm.Cond.methodLink "BumpwardLaw" (198 : Nat) ({ cls := "BumpwardLaw", name := "may", desc := "(LBumpward;IILBumpwardLaw$Out;)I" } : Jvm.MethodName)) ∈ lw_all := lw_g (lw_at lw_m6 40 rfl) rfl
theorem q1289 : (Jvm.Cond.static ({ cls := "BumpwardLaw", name := "may", desc := "(LBumpward;IILBumpwardLaw$Out;)I" } : Jvm.MethodName)) ∈ lw_all := lw_g (lw_at lw_m6 41 rfl) rfl
theorem q1290 : (Jvm.Cond.codeWith ({ cls := "BumpwardLaw", name := "may", desc := "(LBumpward;IILBumpwardLaw$Out;)I" } : Jvm.MethodName) method_19_code (5 : Nat) (Option.some Jvm.ClassFile.FieldType.int) [((0 : Nat), (18 : Nat), (21 : Nat), (19 : Nat))]) ∈ lw_all := lw_g (lw_at lw_m6 42 rfl) rfl
theorem q1291 : (Jvm.Cond.methodLink "BumpwardLaw" (85 : Nat) ({ cls := "Bumpward", name := "may", desc := "(II)Z" } : Jvm.MethodName)) ∈ lw_all := lw_g (lw_at lw_m6 43 rfl) rfl
theorem q1300 : (Jvm.Cond.methodLink "BumpwardLaw" (201 : Nat) ({ cls := "BumpwardLaw", name := "where", desc := "(LBumpward;IILBumpwardLaw$Out;)I" } : Jvm.MethodName)) ∈ lw_all := lw_g (lw_at lw_m6 52 rfl) rfl
theorem q1301 : (Jvm.Cond.static ({ cls := "BumpwardLaw", name := "where", desc := "(LBumpward;IILBumpwardLaw$Out;)I" } : Jvm.MethodName)) ∈ lw_all := lw_g (lw_at lw_m6 53 rfl) rfl
theorem q1302 : (Jvm.Cond.codeWith ({ cls := "BumpwardLaw", name := "where", desc := "(LBumpward;IILBumpwardLaw$Out;)I" } : Jvm.MethodName) method_20_code (5 : Nat) (Option.some Jvm.ClassFile.FieldType.int) [((0 : Nat), (10 : Nat), (13 : Nat), (19 : Nat)), ((0 : Nat), (10 : Nat), (17 : Nat), (21 : Nat))]) ∈ lw_all := lw_g (lw_at lw_m6 54 rfl) rfl
theorem q1303 : (Jvm.Cond.methodLink "BumpwardLaw" (89 : Nat) ({ cls := "Bumpward", name := "where", desc := "(II)J" } : Jvm.MethodName)) ∈ lw_all := lw_g (lw_at lw_m6 55 rfl) rfl
theorem q1308 : (Jvm.Cond.methodLink "BumpwardLaw" (204 : Nat) ({ cls := "BumpwardLaw", name := "way", desc := "(LBumpward;IIILBumpwardLaw$Out;)I" } : Jvm.MethodName)) ∈ lw_all := lw_g (lw_at lw_m6 60 rfl) rfl
theorem q1309 : (Jvm.Cond.static ({ cls := "BumpwardLaw", name := "way", desc := "(LBumpward;IIILBumpwardLaw$Out;)I" } : Jvm.MethodName)) ∈ lw_all := lw_g (lw_at lw_m6 61 rfl) rfl
theorem q1310 : (Jvm.Cond.codeWith ({ cls := "BumpwardLaw", name := "way", desc := "(LBumpward;IIILBumpwardLaw$Out;)I" } : Jvm.MethodName) method_21_code (6 : Nat) (Option.some Jvm.ClassFile.FieldType.int) [((0 : Nat), (13 : Nat), (16 : Nat), (19 : Nat))]) ∈ lw_all := lw_g (lw_at lw_m6 62 rfl) rfl
theorem q1311 : (Jvm.Cond.methodLink "BumpwardLaw" (93 : Nat) ({ cls := "Bumpward", name := "way", desc := "(III)I" } : Jvm.MethodName)) ∈ lw_all := lw_g (lw_at lw_m6 63 rfl) rfl
theorem q1316 : (Jvm.Cond.methodLink "BumpwardLaw" (207 : Nat) ({ cls := "BumpwardLaw", name := "safety", desc := "(LBumpward;IILBumpwardLaw$Out;)I" } : Jvm.MethodName)) ∈ lw_all := lw_g (lw_at lw_m6 68 rfl) rfl
theorem q1317 : (Jvm.Cond.static ({ cls := "BumpwardLaw", name := "safety", desc := "(LBumpward;IILBumpwardLaw$Out;)I" } : Jvm.MethodName)) ∈ lw_all := lw_g (lw_at lw_m6 69 rfl) rfl
theorem q1318 : (Jvm.Cond.codeWith ({ cls := "BumpwardLaw", name := "safety", desc := "(LBumpward;IILBumpwardLaw$Out;)I" } : Jvm.MethodName) method_22_code (5 : Nat) (Option.some Jvm.ClassFile.FieldType.int) [((0 : Nat), (11 : Nat), (14 : Nat), (19 : Nat)), ((0 : Nat), (11 : Nat), (18 : Nat), (21 : Nat))]) ∈ lw_all := lw_g (lw_at lw_m6 70 rfl) rfl
theorem q1319 : (Jvm.Cond.methodLink "BumpwardLaw" (96 : Nat) ({ cls := "Bumpward", name := "safety", desc := "(II)I" } : Jvm.MethodName)) ∈ lw_all := lw_g (lw_at lw_m6 71 rfl) rfl
theorem q1323 : (Jvm.Cond.methodLink "BumpwardLaw" (210 : Nat) ({ cls := "BumpwardLaw", name := "doubt", desc := "(LBumpward;ILBumpwardLaw$Out;)I" } : Jvm.MethodName)) ∈ lw_all := lw_g (lw_at lw_m6 75 rfl) rfl
theorem q1324 : (Jvm.Cond.static ({ cls := "BumpwardLaw", name := "doubt", desc := "(LBumpward;ILBumpwardLaw$Out;)I" } : Jvm.MethodName)) ∈ lw_all := lw_g (lw_at lw_m6 76 rfl) rfl
theorem q1325 : (Jvm.Cond.codeWith ({ cls := "BumpwardLaw", name := "doubt", desc := "(LBumpward;ILBumpwardLaw$Out;)I" } : Jvm.MethodName) method_23_code (4 : Nat) (Option.some Jvm.ClassFile.FieldType.int) [((0 : Nat), (9 : Nat), (12 : Nat), (19 : Nat))]) ∈ lw_all := lw_g (lw_at lw_m6 77 rfl) rfl
theorem q1326 : (Jvm.Cond.methodLink "BumpwardLaw" (99 : Nat) ({ cls := "Bumpward", name := "doubt", desc := "(I)D" } : Jvm.MethodName)) ∈ lw_all := lw_g (lw_at lw_m6 78 rfl) rfl
theorem q1330 : (Jvm.Cond.methodLink "BumpwardLaw" (213 : Nat) ({ cls := "BumpwardLaw", name := "worst", desc := "(LBumpward;IILBumpwardLaw$Out;)I" } : Jvm.MethodName)) ∈ lw_all := lw_g (lw_at lw_m6 82 rfl) rfl
theorem q1331 : (Jvm.Cond.static ({ cls := "BumpwardLaw", name := "worst", desc := "(LBumpward;IILBumpwardLaw$Out;)I" } : Jvm.MethodName)) ∈ lw_all := lw_g (lw_at lw_m6 83 rfl) rfl
theorem q1332 : (Jvm.Cond.codeWith ({ cls := "BumpwardLaw", name := "worst", desc := "(LBumpward;IILBumpwardLaw$Out;)I" } : Jvm.MethodName) method_24_code (5 : Nat) (Option.some Jvm.ClassFile.FieldType.int) [((0 : Nat), (11 : Nat), (14 : Nat), (19 : Nat)), ((0 : Nat), (11 : Nat), (18 : Nat), (21 : Nat))]) ∈ lw_all := lw_g (lw_at lw_m6 84 rfl) rfl
theorem q1333 : (Jvm.Cond.methodLink "BumpwardLaw" (107 : Nat) ({ cls := "Bumpward", name := "worst", desc := "(II)I" } : Jvm.MethodName)) ∈ lw_all := lw_g (lw_at lw_m6 85 rfl) rfl
theorem q1337 : (Jvm.Cond.methodLink "BumpwardLaw" (216 : Nat) ({ cls := "BumpwardLaw", name := "best", desc := "(LBumpward;ILBumpwardLaw$Out;)I" } : Jvm.MethodName)) ∈ lw_all := lw_g (lw_at lw_m6 89 rfl) rfl
theorem q1338 : (Jvm.Cond.static ({ cls := "BumpwardLaw", name := "best", desc := "(LBumpward;ILBumpwardLaw$Out;)I" } : Jvm.MethodName)) ∈ lw_all := lw_g (lw_at lw_m6 90 rfl) rfl
theorem q1339 : (Jvm.Cond.codeWith ({ cls := "BumpwardLaw", name := "best", desc := "(LBumpward;ILBumpwardLaw$Out;)I" } : Jvm.MethodName) method_25_code (4 : Nat) (Option.some Jvm.ClassFile.FieldType.int) [((0 : Nat), (10 : Nat), (13 : Nat), (19 : Nat))]) ∈ lw_all := lw_g (lw_at lw_m6 91 rfl) rfl
theorem q1340 : (Jvm.Cond.methodLink "BumpwardLaw" (110 : Nat) ({ cls := "Bumpward", name := "best", desc := "(I)I" } : Jvm.MethodName)) ∈ lw_all := lw_g (lw_at lw_m6 92 rfl) rfl
theorem q1344 : (Jvm.Cond.methodLink "BumpwardLaw" (219 : Nat) ({ cls := "BumpwardLaw", name := "wouldFeel", desc := "(LBumpward;IILBumpwardLaw$Out;)I" } : Jvm.MethodName)) ∈ lw_all := lw_g (lw_at lw_m6 96 rfl) rfl
theorem q1345 : (Jvm.Cond.static ({ cls := "BumpwardLaw", name := "wouldFeel", desc := "(LBumpward;IILBumpwardLaw$Out;)I" } : Jvm.MethodName)) ∈ lw_all := lw_g (lw_at lw_m6 97 rfl) rfl
theorem q1346 : (Jvm.Cond.codeWith ({ cls := "BumpwardLaw", name := "wouldFeel", desc := "(LBumpward;IILBumpwardLaw$Out;)I" } : Jvm.MethodName) method_26_code (5 : Nat) (Option.some Jvm.ClassFile.FieldType.int) [((0 : Nat), (11 : Nat), (14 : Nat), (19 : Nat)), ((0 : Nat), (11 : Nat), (18 : Nat), (21 : Nat))]) ∈ lw_all := lw_g (lw_at lw_m6 98 rfl) rfl
theorem q1347 : (Jvm.Cond.methodLink "BumpwardLaw" (113 : Nat) ({ cls := "Bumpward", name := "wouldFeel", desc := "(II)I" } : Jvm.MethodName)) ∈ lw_all := lw_g (lw_at lw_m6 99 rfl) rfl
theorem q1352 : (Jvm.Cond.methodLink "BumpwardLaw" (222 : Nat) ({ cls := "BumpwardLaw", name := "wouldBe", desc := "(LBumpward;IILBumpwardLaw$Out;)I" } : Jvm.MethodName)) ∈ lw_all := lw_g (lw_at lw_m6 104 rfl) rfl
theorem q1353 : (Jvm.Cond.static ({ cls := "BumpwardLaw", name := "wouldBe", desc := "(LBumpward;IILBumpwardLaw$Out;)I" } : Jvm.MethodName)) ∈ lw_all := lw_g (lw_at lw_m6 105 rfl) rfl
theorem q1354 : (Jvm.Cond.codeWith ({ cls := "BumpwardLaw", name := "wouldBe", desc := "(LBumpward;IILBumpwardLaw$Out;)I" } : Jvm.MethodName) method_27_code (5 : Nat) (Option.some Jvm.ClassFile.FieldType.int) [((0 : Nat), (11 : Nat), (14 : Nat), (19 : Nat)), ((0 : Nat), (11 : Nat), (18 : Nat), (21 : Nat))]) ∈ lw_all := lw_g (lw_at lw_m6 106 rfl) rfl
theorem q1355 : (Jvm.Cond.methodLink "BumpwardLaw" (116 : Nat) ({ cls := "Bumpward", name := "wouldBe", desc := "(II)I" } : Jvm.MethodName)) ∈ lw_all := lw_g (lw_at lw_m6 107 rfl) rfl
theorem q1359 : (Jvm.Cond.classLink "BumpwardLaw" (120 : Nat) "BumpwardModel") ∈ lw_all := lw_g (lw_at lw_m6 111 rfl) rfl
theorem q1361 : (Jvm.Cond.methodLink "BumpwardLaw" (122 : Nat) ({ cls := "BumpwardModel", name := "<init>", desc := "()V" } : Jvm.MethodName)) ∈ lw_all := lw_g (lw_at lw_m6 113 rfl) rfl
theorem q1406 : (Jvm.Cond.methodLink "BumpwardLaw" (130 : Nat) ({ cls := "BumpwardModel", name := "thrown", desc := "()I" } : Jvm.MethodName)) ∈ lw_all := lw_g (lw_at lw_m6 158 rfl) rfl
theorem q1410 : (Jvm.Cond.methodLink "BumpwardLaw" (129 : Nat) ({ cls := "BumpwardModel", name := "edge", desc := "(IIII)I" } : Jvm.MethodName)) ∈ lw_all := lw_g (lw_at lw_m6 162 rfl) rfl
theorem q1441 : (Jvm.Cond.methodLink "BumpwardLaw" (137 : Nat) ({ cls := "BumpwardModel", name := "lay", desc := "(I)I" } : Jvm.MethodName)) ∈ lw_all := lw_g (lw_at lw_m6 193 rfl) rfl
theorem q1452 : (Jvm.Cond.methodLink "BumpwardLaw" (141 : Nat) ({ cls := "BumpwardModel", name := "cell", desc := "(IZZ)I" } : Jvm.MethodName)) ∈ lw_all := lw_g (lw_at lw_m6 204 rfl) rfl
theorem q1459 : (Jvm.Cond.methodLink "BumpwardLaw" (145 : Nat) ({ cls := "BumpwardModel", name := "walker", desc := "(IIIZ)I" } : Jvm.MethodName)) ∈ lw_all := lw_g (lw_at lw_m6 211 rfl) rfl
theorem q1506 : (Jvm.Cond.methodLink "BumpwardLaw" (149 : Nat) ({ cls := "BumpwardModel", name := "forward", desc := "(IZ)Z" } : Jvm.MethodName)) ∈ lw_all := lw_g (lw_at lw_m7 18 rfl) rfl
theorem q1576 : (Jvm.Cond.methodLink "BumpwardLaw" (152 : Nat) ({ cls := "BumpwardModel", name := "turn", desc := "(IZZ)I" } : Jvm.MethodName)) ∈ lw_all := lw_g (lw_at lw_m7 88 rfl) rfl
theorem q1583 : (Jvm.Cond.methodLink "BumpwardLaw" (155 : Nat) ({ cls := "BumpwardModel", name := "feel", desc := "(IZ)I" } : Jvm.MethodName)) ∈ lw_all := lw_g (lw_at lw_m7 95 rfl) rfl
theorem q1594 : (Jvm.Cond.methodLink "BumpwardLaw" (158 : Nat) ({ cls := "BumpwardModel", name := "listen", desc := "(IZ)I" } : Jvm.MethodName)) ∈ lw_all := lw_g (lw_at lw_m7 106 rfl) rfl
theorem q1604 : (Jvm.Cond.methodLink "BumpwardLaw" (162 : Nat) ({ cls := "BumpwardModel", name := "charge", desc := "(II)I" } : Jvm.MethodName)) ∈ lw_all := lw_g (lw_at lw_m7 116 rfl) rfl
theorem q1608 : (Jvm.Cond.methodLink "BumpwardLaw" (165 : Nat) ({ cls := "BumpwardModel", name := "tellPose", desc := "(I)I" } : Jvm.MethodName)) ∈ lw_all := lw_g (lw_at lw_m7 120 rfl) rfl
theorem q1612 : (Jvm.Cond.methodLink "BumpwardLaw" (168 : Nat) ({ cls := "BumpwardModel", name := "meet", desc := "(II)I" } : Jvm.MethodName)) ∈ lw_all := lw_g (lw_at lw_m7 124 rfl) rfl
theorem q1616 : (Jvm.Cond.methodLink "BumpwardLaw" (171 : Nat) ({ cls := "BumpwardModel", name := "pass", desc := "(I)I" } : Jvm.MethodName)) ∈ lw_all := lw_g (lw_at lw_m7 128 rfl) rfl
theorem q1620 : (Jvm.Cond.methodLink "BumpwardLaw" (175 : Nat) ({ cls := "BumpwardModel", name := "call", desc := "()I" } : Jvm.MethodName)) ∈ lw_all := lw_g (lw_at lw_m7 132 rfl) rfl
theorem q1624 : (Jvm.Cond.methodLink "BumpwardLaw" (179 : Nat) ({ cls := "BumpwardModel", name := "ofEdge", desc := "(III)I" } : Jvm.MethodName)) ∈ lw_all := lw_g (lw_at lw_m7 136 rfl) rfl
theorem q1632 : (Jvm.Cond.methodLink "BumpwardLaw" (182 : Nat) ({ cls := "BumpwardModel", name := "ofWalker", desc := "(II)I" } : Jvm.MethodName)) ∈ lw_all := lw_g (lw_at lw_m7 144 rfl) rfl
theorem q1640 : (Jvm.Cond.methodLink "BumpwardLaw" (185 : Nat) ({ cls := "BumpwardModel", name := "house", desc := "(I)I" } : Jvm.MethodName)) ∈ lw_all := lw_g (lw_at lw_m7 152 rfl) rfl
theorem q1648 : (Jvm.Cond.methodLink "BumpwardLaw" (188 : Nat) ({ cls := "BumpwardModel", name := "row", desc := "(I)Ljava/lang/String;" } : Jvm.MethodName)) ∈ lw_all := lw_g (lw_at lw_m7 160 rfl) rfl
theorem q1691 : (Jvm.Cond.methodLink "BumpwardLaw" (197 : Nat) ({ cls := "BumpwardModel", name := "map", desc := "(III)I" } : Jvm.MethodName)) ∈ lw_all := lw_g (lw_at lw_m7 203 rfl) rfl
theorem q1695 : (Jvm.Cond.methodLink "BumpwardLaw" (200 : Nat) ({ cls := "BumpwardModel", name := "may", desc := "(II)Z" } : Jvm.MethodName)) ∈ lw_all := lw_g (lw_at lw_m7 207 rfl) rfl
theorem q1699 : (Jvm.Cond.methodLink "BumpwardLaw" (203 : Nat) ({ cls := "BumpwardModel", name := "where", desc := "(II)J" } : Jvm.MethodName)) ∈ lw_all := lw_g (lw_at lw_m7 211 rfl) rfl
theorem q1707 : (Jvm.Cond.methodLink "BumpwardLaw" (206 : Nat) ({ cls := "BumpwardModel", name := "way", desc := "(III)I" } : Jvm.MethodName)) ∈ lw_all := lw_g (lw_at lw_m7 219 rfl) rfl
theorem q1711 : (Jvm.Cond.methodLink "BumpwardLaw" (209 : Nat) ({ cls := "BumpwardModel", name := "safety", desc := "(II)I" } : Jvm.MethodName)) ∈ lw_all := lw_g (lw_at lw_m7 223 rfl) rfl
theorem q1723 : (Jvm.Cond.methodLink "BumpwardLaw" (212 : Nat) ({ cls := "BumpwardModel", name := "doubt", desc := "(I)D" } : Jvm.MethodName)) ∈ lw_all := lw_g (lw_at lw_m7 235 rfl) rfl
theorem q1732 : (Jvm.Cond.methodLink "BumpwardLaw" (215 : Nat) ({ cls := "BumpwardModel", name := "worst", desc := "(II)I" } : Jvm.MethodName)) ∈ lw_all := lw_g (lw_at lw_m8 4 rfl) rfl
theorem q1741 : (Jvm.Cond.methodLink "BumpwardLaw" (218 : Nat) ({ cls := "BumpwardModel", name := "best", desc := "(I)I" } : Jvm.MethodName)) ∈ lw_all := lw_g (lw_at lw_m8 13 rfl) rfl
theorem q1749 : (Jvm.Cond.methodLink "BumpwardLaw" (221 : Nat) ({ cls := "BumpwardModel", name := "wouldFeel", desc := "(II)I" } : Jvm.MethodName)) ∈ lw_all := lw_g (lw_at lw_m8 21 rfl) rfl
theorem q1753 : (Jvm.Cond.methodLink "BumpwardLaw" (224 : Nat) ({ cls := "BumpwardModel", name := "wouldBe", desc := "(II)I" } : Jvm.MethodName)) ∈ lw_all := lw_g (lw_at lw_m8 25 rfl) rfl
theorem q1757 : (Jvm.Cond.methodLink "BumpwardLaw" (229 : Nat) ({ cls := "BumpwardModel", name := "isSound", desc := "()Z" } : Jvm.MethodName)) ∈ lw_all := lw_g (lw_at lw_m8 29 rfl) rfl
theorem q1765 : (Jvm.Cond.methodLink "BumpwardLaw" (234 : Nat) ({ cls := "BumpwardModel", name := "digest", desc := "()J" } : Jvm.MethodName)) ∈ lw_all := lw_g (lw_at lw_m8 37 rfl) rfl
theorem q1772 : (Jvm.Cond.methodLink "BumpwardLaw" (189 : Nat) ({ cls := "java/lang/String", name := "equals", desc := "(Ljava/lang/Object;)Z" } : Jvm.MethodName)) ∈ lw_all := lw_g (lw_at lw_m8 44 rfl) rfl
/-! the law's own entry -/
set_option maxRecDepth 100000
abbrev cL_law : ByteArray := code
def dkwL_law_89 : List UInt8 := [148, 153, 0, 5, 3, 172, 132, 4, 5, 167, 247, 137, 4, 172]
abbrev dktL_law_89 : List UInt8 := dkwL_law_89 ++ []
def dkwL_law_88 : List UInt8 := [167, 0, 30, 43, 182, 0, 225, 44, 182, 0, 229, 159, 0, 19, 3, 172, 43, 182, 0, 230, 44, 182, 0, 234]
abbrev dktL_law_88 : List UInt8 := dkwL_law_88 ++ dktL_law_89
def dkwL_law_87 : List UInt8 := [159, 0, 5, 3, 172, 21, 5, 154, 0, 16, 45, 180, 0, 13, 21, 6, 133, 148, 153, 0, 5, 3, 172]
abbrev dktL_law_87 : List UInt8 := dkwL_law_87 ++ dktL_law_88
def dkwL_law_86 : List UInt8 := [21, 4, 4, 96, 46, 42, 21, 4, 5, 96, 46, 182, 0, 224, 54, 6, 44, 182, 0, 130, 21, 5]
abbrev dktL_law_86 : List UInt8 := dkwL_law_86 ++ dktL_law_87
def dkwL_law_85 : List UInt8 := [167, 0, 99, 43, 42, 21, 4, 4, 96, 46, 42, 21, 4, 5, 96, 46, 45, 184, 0, 222, 54, 5, 44, 42]
abbrev dktL_law_85 : List UInt8 := dkwL_law_85 ++ dktL_law_86
def dkwL_law_84 : List UInt8 := [159, 0, 5, 3, 172, 21, 5, 154, 0, 16, 45, 180, 0, 13, 21, 6, 133, 148, 153, 0, 5, 3, 172]
abbrev dktL_law_84 : List UInt8 := dkwL_law_84 ++ dktL_law_85
def dkwL_law_83 : List UInt8 := [42, 21, 4, 4, 96, 46, 42, 21, 4, 5, 96, 46, 182, 0, 221, 54, 6, 44, 182, 0, 130, 21, 5]
abbrev dktL_law_83 : List UInt8 := dkwL_law_83 ++ dktL_law_84
def dkwL_law_82 : List UInt8 := [172, 167, 0, 168, 43, 42, 21, 4, 4, 96, 46, 42, 21, 4, 5, 96, 46, 45, 184, 0, 219, 54, 5, 44]
abbrev dktL_law_82 : List UInt8 := dkwL_law_82 ++ dktL_law_83
def dkwL_law_81 : List UInt8 := [21, 5, 159, 0, 5, 3, 172, 21, 5, 154, 0, 16, 45, 180, 0, 13, 21, 6, 133, 148, 153, 0, 5, 3]
abbrev dktL_law_81 : List UInt8 := dkwL_law_81 ++ dktL_law_82
def dkwL_law_80 : List UInt8 := [96, 46, 45, 184, 0, 216, 54, 5, 44, 42, 21, 4, 4, 96, 46, 182, 0, 218, 54, 6, 44, 182, 0, 130]
abbrev dktL_law_80 : List UInt8 := dkwL_law_80 ++ dktL_law_81
def dkwL_law_79 : List UInt8 := [154, 0, 16, 45, 180, 0, 13, 21, 6, 133, 148, 153, 0, 5, 3, 172, 167, 0, 225, 43, 42, 21, 4, 4]
abbrev dktL_law_79 : List UInt8 := dkwL_law_79 ++ dktL_law_80
def dkwL_law_78 : List UInt8 := [42, 21, 4, 5, 96, 46, 182, 0, 215, 54, 6, 44, 182, 0, 130, 21, 5, 159, 0, 5, 3, 172, 21, 5]
abbrev dktL_law_78 : List UInt8 := dkwL_law_78 ++ dktL_law_79
def dkwL_law_77 : List UInt8 := [21, 4, 4, 96, 46, 42, 21, 4, 5, 96, 46, 45, 184, 0, 213, 54, 5, 44, 42, 21, 4, 4, 96, 46]
abbrev dktL_law_77 : List UInt8 := dkwL_law_77 ++ dktL_law_78
def dkwL_law_76 : List UInt8 := [45, 180, 0, 103, 151, 153, 0, 11, 24, 6, 24, 6, 151, 154, 0, 5, 3, 172, 167, 1, 38, 43, 42]
abbrev dktL_law_76 : List UInt8 := dkwL_law_76 ++ dktL_law_77
def dkwL_law_75 : List UInt8 := [159, 0, 5, 3, 172, 21, 5, 154, 0, 35, 45, 180, 0, 103, 24, 6, 151, 153, 0, 25, 45, 180, 0, 103]
abbrev dktL_law_75 : List UInt8 := dkwL_law_75 ++ dktL_law_76
def dkwL_law_74 : List UInt8 := [184, 0, 210, 54, 5, 44, 42, 21, 4, 4, 96, 46, 182, 0, 212, 57, 6, 44, 182, 0, 130, 21, 5]
abbrev dktL_law_74 : List UInt8 := dkwL_law_74 ++ dktL_law_75
def dkwL_law_73 : List UInt8 := [45, 180, 0, 13, 21, 6, 133, 148, 153, 0, 5, 3, 172, 167, 1, 114, 43, 42, 21, 4, 4, 96, 46, 45]
abbrev dktL_law_73 : List UInt8 := dkwL_law_73 ++ dktL_law_74
def dkwL_law_72 : List UInt8 := [5, 96, 46, 182, 0, 209, 54, 6, 44, 182, 0, 130, 21, 5, 159, 0, 5, 3, 172, 21, 5, 154, 0, 16]
abbrev dktL_law_72 : List UInt8 := dkwL_law_72 ++ dktL_law_73
def dkwL_law_71 : List UInt8 := [96, 46, 42, 21, 4, 5, 96, 46, 45, 184, 0, 207, 54, 5, 44, 42, 21, 4, 4, 96, 46, 42, 21, 4]
abbrev dktL_law_71 : List UInt8 := dkwL_law_71 ++ dktL_law_72
def dkwL_law_70 : List UInt8 := [154, 0, 16, 45, 180, 0, 13, 21, 6, 133, 148, 153, 0, 5, 3, 172, 167, 1, 183, 43, 42, 21, 4, 4]
abbrev dktL_law_70 : List UInt8 := dkwL_law_70 ++ dktL_law_71
def dkwL_law_69 : List UInt8 := [21, 4, 6, 96, 46, 182, 0, 206, 54, 6, 44, 182, 0, 130, 21, 5, 159, 0, 5, 3, 172, 21, 5]
abbrev dktL_law_69 : List UInt8 := dkwL_law_69 ++ dktL_law_70
def dkwL_law_68 : List UInt8 := [6, 96, 46, 45, 184, 0, 204, 54, 5, 44, 42, 21, 4, 4, 96, 46, 42, 21, 4, 5, 96, 46, 42]
abbrev dktL_law_68 : List UInt8 := dkwL_law_68 ++ dktL_law_69
def dkwL_law_67 : List UInt8 := [153, 0, 5, 3, 172, 167, 2, 8, 43, 42, 21, 4, 4, 96, 46, 42, 21, 4, 5, 96, 46, 42, 21, 4]
abbrev dktL_law_67 : List UInt8 := dkwL_law_67 ++ dktL_law_68
def dkwL_law_66 : List UInt8 := [182, 0, 130, 21, 5, 159, 0, 5, 3, 172, 21, 5, 154, 0, 15, 45, 180, 0, 13, 22, 6, 148]
abbrev dktL_law_66 : List UInt8 := dkwL_law_66 ++ dktL_law_67
def dkwL_law_65 : List UInt8 := [184, 0, 201, 54, 5, 44, 42, 21, 4, 4, 96, 46, 42, 21, 4, 5, 96, 46, 182, 0, 203, 55, 6, 44]
abbrev dktL_law_65 : List UInt8 := dkwL_law_65 ++ dktL_law_66
def dkwL_law_64 : List UInt8 := [148, 153, 0, 5, 3, 172, 167, 2, 76, 43, 42, 21, 4, 4, 96, 46, 42, 21, 4, 5, 96, 46, 45]
abbrev dktL_law_64 : List UInt8 := dkwL_law_64 ++ dktL_law_65
def dkwL_law_63 : List UInt8 := [159, 0, 5, 3, 172, 21, 5, 154, 0, 23, 45, 180, 0, 13, 21, 6, 153, 0, 7, 10, 167, 0, 4, 9]
abbrev dktL_law_63 : List UInt8 := dkwL_law_63 ++ dktL_law_64
def dkwL_law_62 : List UInt8 := [21, 4, 4, 96, 46, 42, 21, 4, 5, 96, 46, 182, 0, 200, 54, 6, 44, 182, 0, 130, 21, 5]
abbrev dktL_law_62 : List UInt8 := dkwL_law_62 ++ dktL_law_63
def dkwL_law_61 : List UInt8 := [167, 2, 152, 43, 42, 21, 4, 4, 96, 46, 42, 21, 4, 5, 96, 46, 45, 184, 0, 198, 54, 5, 44, 42]
abbrev dktL_law_61 : List UInt8 := dkwL_law_61 ++ dktL_law_62
def dkwL_law_60 : List UInt8 := [159, 0, 5, 3, 172, 21, 5, 154, 0, 16, 45, 180, 0, 13, 21, 6, 133, 148, 153, 0, 5, 3, 172]
abbrev dktL_law_60 : List UInt8 := dkwL_law_60 ++ dktL_law_61
def dkwL_law_59 : List UInt8 := [42, 21, 4, 5, 96, 46, 42, 21, 4, 6, 96, 46, 182, 0, 197, 54, 6, 44, 182, 0, 130, 21, 5]
abbrev dktL_law_59 : List UInt8 := dkwL_law_59 ++ dktL_law_60
def dkwL_law_58 : List UInt8 := [21, 4, 5, 96, 46, 42, 21, 4, 6, 96, 46, 45, 184, 0, 195, 54, 5, 44, 42, 21, 4, 4, 96, 46]
abbrev dktL_law_58 : List UInt8 := dkwL_law_58 ++ dktL_law_59
def dkwL_law_57 : List UInt8 := [180, 0, 78, 25, 6, 182, 0, 189, 154, 0, 5, 3, 172, 167, 2, 233, 43, 42, 21, 4, 4, 96, 46, 42]
abbrev dktL_law_57 : List UInt8 := dkwL_law_57 ++ dktL_law_58
def dkwL_law_56 : List UInt8 := [182, 0, 188, 58, 6, 44, 182, 0, 130, 21, 5, 159, 0, 5, 3, 172, 21, 5, 154, 0, 17, 45]
abbrev dktL_law_56 : List UInt8 := dkwL_law_56 ++ dktL_law_57
def dkwL_law_55 : List UInt8 := [167, 3, 35, 43, 42, 21, 4, 4, 96, 46, 45, 184, 0, 186, 54, 5, 44, 42, 21, 4, 4, 96, 46]
abbrev dktL_law_55 : List UInt8 := dkwL_law_55 ++ dktL_law_56
def dkwL_law_54 : List UInt8 := [159, 0, 5, 3, 172, 21, 5, 154, 0, 16, 45, 180, 0, 13, 21, 6, 133, 148, 153, 0, 5, 3, 172]
abbrev dktL_law_54 : List UInt8 := dkwL_law_54 ++ dktL_law_55
def dkwL_law_53 : List UInt8 := [184, 0, 183, 54, 5, 44, 42, 21, 4, 4, 96, 46, 182, 0, 185, 54, 6, 44, 182, 0, 130, 21, 5]
abbrev dktL_law_53 : List UInt8 := dkwL_law_53 ++ dktL_law_54
def dkwL_law_52 : List UInt8 := [180, 0, 13, 21, 6, 133, 148, 153, 0, 5, 3, 172, 167, 3, 92, 43, 42, 21, 4, 4, 96, 46, 45]
abbrev dktL_law_52 : List UInt8 := dkwL_law_52 ++ dktL_law_53
def dkwL_law_51 : List UInt8 := [182, 0, 182, 54, 6, 44, 182, 0, 130, 21, 5, 159, 0, 5, 3, 172, 21, 5, 154, 0, 16, 45]
abbrev dktL_law_51 : List UInt8 := dkwL_law_51 ++ dktL_law_52
def dkwL_law_50 : List UInt8 := [21, 4, 5, 96, 46, 45, 184, 0, 180, 54, 5, 44, 42, 21, 4, 4, 96, 46, 42, 21, 4, 5, 96, 46]
abbrev dktL_law_50 : List UInt8 := dkwL_law_50 ++ dktL_law_51
def dkwL_law_49 : List UInt8 := [180, 0, 13, 21, 6, 133, 148, 153, 0, 5, 3, 172, 167, 3, 161, 43, 42, 21, 4, 4, 96, 46, 42]
abbrev dktL_law_49 : List UInt8 := dkwL_law_49 ++ dktL_law_50
def dkwL_law_48 : List UInt8 := [46, 182, 0, 179, 54, 6, 44, 182, 0, 130, 21, 5, 159, 0, 5, 3, 172, 21, 5, 154, 0, 16, 45]
abbrev dktL_law_48 : List UInt8 := dkwL_law_48 ++ dktL_law_49
def dkwL_law_47 : List UInt8 := [45, 184, 0, 176, 54, 5, 44, 42, 21, 4, 4, 96, 46, 42, 21, 4, 5, 96, 46, 42, 21, 4, 6, 96]
abbrev dktL_law_47 : List UInt8 := dkwL_law_47 ++ dktL_law_48
def dkwL_law_46 : List UInt8 := [159, 3, 244, 3, 172, 43, 42, 21, 4, 4, 96, 46, 42, 21, 4, 5, 96, 46, 42, 21, 4, 6, 96, 46]
abbrev dktL_law_46 : List UInt8 := dkwL_law_46 ++ dktL_law_47
def dkwL_law_45 : List UInt8 := [180, 0, 13, 21, 6, 133, 148, 153, 0, 5, 3, 172, 167, 3, 255, 43, 182, 0, 172, 44, 182, 0, 175]
abbrev dktL_law_45 : List UInt8 := dkwL_law_45 ++ dktL_law_46
def dkwL_law_44 : List UInt8 := [182, 0, 171, 54, 6, 44, 182, 0, 130, 21, 5, 159, 0, 5, 3, 172, 21, 5, 154, 0, 16, 45]
abbrev dktL_law_44 : List UInt8 := dkwL_law_44 ++ dktL_law_45
def dkwL_law_43 : List UInt8 := [167, 4, 56, 43, 42, 21, 4, 4, 96, 46, 45, 184, 0, 169, 54, 5, 44, 42, 21, 4, 4, 96, 46]
abbrev dktL_law_43 : List UInt8 := dkwL_law_43 ++ dktL_law_44
def dkwL_law_42 : List UInt8 := [159, 0, 5, 3, 172, 21, 5, 154, 0, 16, 45, 180, 0, 13, 21, 6, 133, 148, 153, 0, 5, 3, 172]
abbrev dktL_law_42 : List UInt8 := dkwL_law_42 ++ dktL_law_43
def dkwL_law_41 : List UInt8 := [42, 21, 4, 4, 96, 46, 42, 21, 4, 5, 96, 46, 182, 0, 168, 54, 6, 44, 182, 0, 130, 21, 5]
abbrev dktL_law_41 : List UInt8 := dkwL_law_41 ++ dktL_law_42
def dkwL_law_40 : List UInt8 := [172, 167, 4, 125, 43, 42, 21, 4, 4, 96, 46, 42, 21, 4, 5, 96, 46, 45, 184, 0, 166, 54, 5, 44]
abbrev dktL_law_40 : List UInt8 := dkwL_law_40 ++ dktL_law_41
def dkwL_law_39 : List UInt8 := [21, 5, 159, 0, 5, 3, 172, 21, 5, 154, 0, 16, 45, 180, 0, 13, 21, 6, 133, 148, 153, 0, 5, 3]
abbrev dktL_law_39 : List UInt8 := dkwL_law_39 ++ dktL_law_40
def dkwL_law_38 : List UInt8 := [96, 46, 45, 184, 0, 163, 54, 5, 44, 42, 21, 4, 4, 96, 46, 182, 0, 165, 54, 6, 44, 182, 0, 130]
abbrev dktL_law_38 : List UInt8 := dkwL_law_38 ++ dktL_law_39
def dkwL_law_37 : List UInt8 := [154, 0, 16, 45, 180, 0, 13, 21, 6, 133, 148, 153, 0, 5, 3, 172, 167, 4, 182, 43, 42, 21, 4, 4]
abbrev dktL_law_37 : List UInt8 := dkwL_law_37 ++ dktL_law_38
def dkwL_law_36 : List UInt8 := [42, 21, 4, 5, 96, 46, 182, 0, 162, 54, 6, 44, 182, 0, 130, 21, 5, 159, 0, 5, 3, 172, 21, 5]
abbrev dktL_law_36 : List UInt8 := dkwL_law_36 ++ dktL_law_37
def dkwL_law_35 : List UInt8 := [21, 4, 4, 96, 46, 42, 21, 4, 5, 96, 46, 45, 184, 0, 159, 54, 5, 44, 42, 21, 4, 4, 96, 46]
abbrev dktL_law_35 : List UInt8 := dkwL_law_35 ++ dktL_law_36
def dkwL_law_34 : List UInt8 := [21, 5, 154, 0, 16, 45, 180, 0, 13, 21, 6, 133, 148, 153, 0, 5, 3, 172, 167, 4, 251, 43, 42]
abbrev dktL_law_34 : List UInt8 := dkwL_law_34 ++ dktL_law_35
def dkwL_law_33 : List UInt8 := [153, 0, 7, 4, 167, 0, 4, 3, 182, 0, 158, 54, 6, 44, 182, 0, 130, 21, 5, 159, 0, 5, 3, 172]
abbrev dktL_law_33 : List UInt8 := dkwL_law_33 ++ dktL_law_34
def dkwL_law_32 : List UInt8 := [4, 167, 0, 4, 3, 45, 184, 0, 156, 54, 5, 44, 42, 21, 4, 4, 96, 46, 42, 21, 4, 5, 96, 46]
abbrev dktL_law_32 : List UInt8 := dkwL_law_32 ++ dktL_law_33
def dkwL_law_31 : List UInt8 := [153, 0, 5, 3, 172, 167, 5, 80, 43, 42, 21, 4, 4, 96, 46, 42, 21, 4, 5, 96, 46, 153, 0, 7]
abbrev dktL_law_31 : List UInt8 := dkwL_law_31 ++ dktL_law_32
def dkwL_law_30 : List UInt8 := [182, 0, 130, 21, 5, 159, 0, 5, 3, 172, 21, 5, 154, 0, 16, 45, 180, 0, 13, 21, 6, 133, 148]
abbrev dktL_law_30 : List UInt8 := dkwL_law_30 ++ dktL_law_31
def dkwL_law_29 : List UInt8 := [96, 46, 42, 21, 4, 5, 96, 46, 153, 0, 7, 4, 167, 0, 4, 3, 182, 0, 155, 54, 6, 44]
abbrev dktL_law_29 : List UInt8 := dkwL_law_29 ++ dktL_law_30
def dkwL_law_28 : List UInt8 := [21, 4, 5, 96, 46, 153, 0, 7, 4, 167, 0, 4, 3, 45, 184, 0, 153, 54, 5, 44, 42, 21, 4, 4]
abbrev dktL_law_28 : List UInt8 := dkwL_law_28 ++ dktL_law_29
def dkwL_law_27 : List UInt8 := [180, 0, 13, 21, 6, 133, 148, 153, 0, 5, 3, 172, 167, 5, 165, 43, 42, 21, 4, 4, 96, 46, 42]
abbrev dktL_law_27 : List UInt8 := dkwL_law_27 ++ dktL_law_28
def dkwL_law_26 : List UInt8 := [182, 0, 152, 54, 6, 44, 182, 0, 130, 21, 5, 159, 0, 5, 3, 172, 21, 5, 154, 0, 16, 45]
abbrev dktL_law_26 : List UInt8 := dkwL_law_26 ++ dktL_law_27
def dkwL_law_25 : List UInt8 := [153, 0, 7, 4, 167, 0, 4, 3, 42, 21, 4, 6, 96, 46, 153, 0, 7, 4, 167, 0, 4, 3]
abbrev dktL_law_25 : List UInt8 := dkwL_law_25 ++ dktL_law_26
def dkwL_law_24 : List UInt8 := [167, 0, 4, 3, 45, 184, 0, 150, 54, 5, 44, 42, 21, 4, 4, 96, 46, 42, 21, 4, 5, 96, 46]
abbrev dktL_law_24 : List UInt8 := dkwL_law_24 ++ dktL_law_25
def dkwL_law_23 : List UInt8 := [42, 21, 4, 5, 96, 46, 153, 0, 7, 4, 167, 0, 4, 3, 42, 21, 4, 6, 96, 46, 153, 0, 7, 4]
abbrev dktL_law_23 : List UInt8 := dkwL_law_23 ++ dktL_law_24
def dkwL_law_22 : List UInt8 := [153, 0, 7, 10, 167, 0, 4, 9, 148, 153, 0, 5, 3, 172, 167, 6, 22, 43, 42, 21, 4, 4, 96, 46]
abbrev dktL_law_22 : List UInt8 := dkwL_law_22 ++ dktL_law_23
def dkwL_law_21 : List UInt8 := [44, 182, 0, 130, 21, 5, 159, 0, 5, 3, 172, 21, 5, 154, 0, 23, 45, 180, 0, 13, 21, 6]
abbrev dktL_law_21 : List UInt8 := dkwL_law_21 ++ dktL_law_22
def dkwL_law_20 : List UInt8 := [21, 4, 4, 96, 46, 42, 21, 4, 5, 96, 46, 153, 0, 7, 4, 167, 0, 4, 3, 182, 0, 149, 54, 6]
abbrev dktL_law_20 : List UInt8 := dkwL_law_20 ++ dktL_law_21
def dkwL_law_19 : List UInt8 := [96, 46, 42, 21, 4, 5, 96, 46, 153, 0, 7, 4, 167, 0, 4, 3, 45, 184, 0, 146, 54, 5, 44, 42]
abbrev dktL_law_19 : List UInt8 := dkwL_law_19 ++ dktL_law_20
def dkwL_law_18 : List UInt8 := [154, 0, 16, 45, 180, 0, 13, 21, 6, 133, 148, 153, 0, 5, 3, 172, 167, 6, 114, 43, 42, 21, 4, 4]
abbrev dktL_law_18 : List UInt8 := dkwL_law_18 ++ dktL_law_19
def dkwL_law_17 : List UInt8 := [167, 0, 4, 3, 182, 0, 145, 54, 6, 44, 182, 0, 130, 21, 5, 159, 0, 5, 3, 172, 21, 5]
abbrev dktL_law_17 : List UInt8 := dkwL_law_17 ++ dktL_law_18
def dkwL_law_16 : List UInt8 := [96, 46, 42, 21, 4, 5, 96, 46, 42, 21, 4, 6, 96, 46, 42, 21, 4, 7, 96, 46, 153, 0, 7, 4]
abbrev dktL_law_16 : List UInt8 := dkwL_law_16 ++ dktL_law_17
def dkwL_law_15 : List UInt8 := [21, 4, 7, 96, 46, 153, 0, 7, 4, 167, 0, 4, 3, 45, 184, 0, 142, 54, 5, 44, 42, 21, 4, 4]
abbrev dktL_law_15 : List UInt8 := dkwL_law_15 ++ dktL_law_16
def dkwL_law_14 : List UInt8 := [167, 6, 223, 43, 42, 21, 4, 4, 96, 46, 42, 21, 4, 5, 96, 46, 42, 21, 4, 6, 96, 46, 42]
abbrev dktL_law_14 : List UInt8 := dkwL_law_14 ++ dktL_law_15
def dkwL_law_13 : List UInt8 := [159, 0, 5, 3, 172, 21, 5, 154, 0, 16, 45, 180, 0, 13, 21, 6, 133, 148, 153, 0, 5, 3, 172]
abbrev dktL_law_13 : List UInt8 := dkwL_law_13 ++ dktL_law_14
def dkwL_law_12 : List UInt8 := [21, 4, 6, 96, 46, 153, 0, 7, 4, 167, 0, 4, 3, 182, 0, 141, 54, 6, 44, 182, 0, 130, 21, 5]
abbrev dktL_law_12 : List UInt8 := dkwL_law_12 ++ dktL_law_13
def dkwL_law_11 : List UInt8 := [54, 5, 44, 42, 21, 4, 4, 96, 46, 42, 21, 4, 5, 96, 46, 153, 0, 7, 4, 167, 0, 4, 3, 42]
abbrev dktL_law_11 : List UInt8 := dkwL_law_11 ++ dktL_law_12
def dkwL_law_10 : List UInt8 := [4, 167, 0, 4, 3, 42, 21, 4, 6, 96, 46, 153, 0, 7, 4, 167, 0, 4, 3, 45, 184, 0, 138]
abbrev dktL_law_10 : List UInt8 := dkwL_law_10 ++ dktL_law_11
def dkwL_law_9 : List UInt8 := [153, 0, 5, 3, 172, 167, 7, 80, 43, 42, 21, 4, 4, 96, 46, 42, 21, 4, 5, 96, 46, 153, 0, 7]
abbrev dktL_law_9 : List UInt8 := dkwL_law_9 ++ dktL_law_10
def dkwL_law_8 : List UInt8 := [182, 0, 130, 21, 5, 159, 0, 5, 3, 172, 21, 5, 154, 0, 16, 45, 180, 0, 13, 21, 6, 133, 148]
abbrev dktL_law_8 : List UInt8 := dkwL_law_8 ++ dktL_law_9
def dkwL_law_7 : List UInt8 := [21, 4, 4, 96, 46, 45, 184, 0, 134, 54, 5, 44, 42, 21, 4, 4, 96, 46, 182, 0, 137, 54, 6, 44]
abbrev dktL_law_7 : List UInt8 := dkwL_law_7 ++ dktL_law_8
def dkwL_law_6 : List UInt8 := [21, 5, 154, 0, 16, 45, 180, 0, 13, 21, 6, 133, 148, 153, 0, 5, 3, 172, 167, 7, 137, 43, 42]
abbrev dktL_law_6 : List UInt8 := dkwL_law_6 ++ dktL_law_7
def dkwL_law_5 : List UInt8 := [96, 46, 42, 21, 4, 7, 96, 46, 182, 0, 129, 54, 6, 44, 182, 0, 130, 21, 5, 159, 0, 5, 3, 172]
abbrev dktL_law_5 : List UInt8 := dkwL_law_5 ++ dktL_law_6
def dkwL_law_4 : List UInt8 := [46, 45, 184, 0, 124, 54, 5, 44, 42, 21, 4, 4, 96, 46, 42, 21, 4, 5, 96, 46, 42, 21, 4, 6]
abbrev dktL_law_4 : List UInt8 := dkwL_law_4 ++ dktL_law_5
def dkwL_law_3 : List UInt8 := [43, 42, 21, 4, 4, 96, 46, 42, 21, 4, 5, 96, 46, 42, 21, 4, 6, 96, 46, 42, 21, 4, 7, 96]
abbrev dktL_law_3 : List UInt8 := dkwL_law_3 ++ dktL_law_4
def dkwL_law_2 : List UInt8 := [170, 0, 0, 8, 100, 0, 0, 0, 0, 0, 0, 0, 28, 0, 0, 0, 129, 0, 0, 0, 222, 0, 0, 1, 23, 0, 0, 1, 136, 0, 0, 1, 245, 0, 0, 2, 81, 0, 0, 2, 194, 0, 0, 3, 23, 0, 0, 3, 108, 0, 0, 3, 177, 0, 0, 3, 234, 0, 0, 4, 47, 0, 0, 4, 104, 0, 0, 4, 117, 0, 0, 4, 198, 0, 0, 5, 11, 0, 0, 5, 68, 0, 0, 5, 126, 0, 0, 5, 207, 0, 0, 6, 27, 0, 0, 6, 95, 0, 0, 6, 176, 0, 0, 6, 245, 0, 0, 7, 65, 0, 0, 7, 134, 0, 0, 7, 191, 0, 0, 8, 4, 0, 0, 8, 73, 0, 0, 8, 86]
abbrev dktL_law_2 : List UInt8 := dkwL_law_2 ++ dktL_law_3
def dkwL_law_1 : List UInt8 := [3, 54, 4, 21, 4, 42, 190, 8, 100, 163, 8, 116, 42, 21, 4, 46, 16, 31, 126]
abbrev dktL_law_1 : List UInt8 := dkwL_law_1 ++ dktL_law_2
def dkwL_law_0 : List UInt8 := [187, 0, 8, 89, 183, 0, 119, 76, 187, 0, 120, 89, 183, 0, 122, 77, 187, 0, 14, 89, 183, 0, 123, 78]
abbrev dktL_law_0 : List UInt8 := dkwL_law_0 ++ dktL_law_1
theorem dksL_law_0 : cL_law.data.toList.drop 0 = dktL_law_0 := by decide +kernel
theorem dksL_law_1 : cL_law.data.toList.drop 24 = dktL_law_1 := dk_seg dksL_law_0 24 rfl rfl
theorem dksL_law_2 : cL_law.data.toList.drop 43 = dktL_law_2 := dk_seg dksL_law_1 19 rfl rfl
theorem dksL_law_3 : cL_law.data.toList.drop 172 = dktL_law_3 := dk_seg dksL_law_2 129 rfl rfl
theorem dksL_law_4 : cL_law.data.toList.drop 196 = dktL_law_4 := dk_seg dksL_law_3 24 rfl rfl
theorem dksL_law_5 : cL_law.data.toList.drop 220 = dktL_law_5 := dk_seg dksL_law_4 24 rfl rfl
theorem dksL_law_6 : cL_law.data.toList.drop 244 = dktL_law_6 := dk_seg dksL_law_5 24 rfl rfl
theorem dksL_law_7 : cL_law.data.toList.drop 267 = dktL_law_7 := dk_seg dksL_law_6 23 rfl rfl
theorem dksL_law_8 : cL_law.data.toList.drop 291 = dktL_law_8 := dk_seg dksL_law_7 24 rfl rfl
theorem dksL_law_9 : cL_law.data.toList.drop 314 = dktL_law_9 := dk_seg dksL_law_8 23 rfl rfl
theorem dksL_law_10 : cL_law.data.toList.drop 338 = dktL_law_10 := dk_seg dksL_law_9 24 rfl rfl
theorem dksL_law_11 : cL_law.data.toList.drop 361 = dktL_law_11 := dk_seg dksL_law_10 23 rfl rfl
theorem dksL_law_12 : cL_law.data.toList.drop 385 = dktL_law_12 := dk_seg dksL_law_11 24 rfl rfl
theorem dksL_law_13 : cL_law.data.toList.drop 409 = dktL_law_13 := dk_seg dksL_law_12 24 rfl rfl
theorem dksL_law_14 : cL_law.data.toList.drop 432 = dktL_law_14 := dk_seg dksL_law_13 23 rfl rfl
theorem dksL_law_15 : cL_law.data.toList.drop 455 = dktL_law_15 := dk_seg dksL_law_14 23 rfl rfl
theorem dksL_law_16 : cL_law.data.toList.drop 479 = dktL_law_16 := dk_seg dksL_law_15 24 rfl rfl
theorem dksL_law_17 : cL_law.data.toList.drop 503 = dktL_law_17 := dk_seg dksL_law_16 24 rfl rfl
theorem dksL_law_18 : cL_law.data.toList.drop 525 = dktL_law_18 := dk_seg dksL_law_17 22 rfl rfl
theorem dksL_law_19 : cL_law.data.toList.drop 549 = dktL_law_19 := dk_seg dksL_law_18 24 rfl rfl
theorem dksL_law_20 : cL_law.data.toList.drop 573 = dktL_law_20 := dk_seg dksL_law_19 24 rfl rfl
theorem dksL_law_21 : cL_law.data.toList.drop 597 = dktL_law_21 := dk_seg dksL_law_20 24 rfl rfl
theorem dksL_law_22 : cL_law.data.toList.drop 619 = dktL_law_22 := dk_seg dksL_law_21 22 rfl rfl
theorem dksL_law_23 : cL_law.data.toList.drop 643 = dktL_law_23 := dk_seg dksL_law_22 24 rfl rfl
theorem dksL_law_24 : cL_law.data.toList.drop 667 = dktL_law_24 := dk_seg dksL_law_23 24 rfl rfl
theorem dksL_law_25 : cL_law.data.toList.drop 690 = dktL_law_25 := dk_seg dksL_law_24 23 rfl rfl
theorem dksL_law_26 : cL_law.data.toList.drop 712 = dktL_law_26 := dk_seg dksL_law_25 22 rfl rfl
theorem dksL_law_27 : cL_law.data.toList.drop 734 = dktL_law_27 := dk_seg dksL_law_26 22 rfl rfl
theorem dksL_law_28 : cL_law.data.toList.drop 757 = dktL_law_28 := dk_seg dksL_law_27 23 rfl rfl
theorem dksL_law_29 : cL_law.data.toList.drop 781 = dktL_law_29 := dk_seg dksL_law_28 24 rfl rfl
theorem dksL_law_30 : cL_law.data.toList.drop 803 = dktL_law_30 := dk_seg dksL_law_29 22 rfl rfl
theorem dksL_law_31 : cL_law.data.toList.drop 826 = dktL_law_31 := dk_seg dksL_law_30 23 rfl rfl
theorem dksL_law_32 : cL_law.data.toList.drop 850 = dktL_law_32 := dk_seg dksL_law_31 24 rfl rfl
theorem dksL_law_33 : cL_law.data.toList.drop 874 = dktL_law_33 := dk_seg dksL_law_32 24 rfl rfl
theorem dksL_law_34 : cL_law.data.toList.drop 898 = dktL_law_34 := dk_seg dksL_law_33 24 rfl rfl
theorem dksL_law_35 : cL_law.data.toList.drop 921 = dktL_law_35 := dk_seg dksL_law_34 23 rfl rfl
theorem dksL_law_36 : cL_law.data.toList.drop 945 = dktL_law_36 := dk_seg dksL_law_35 24 rfl rfl
theorem dksL_law_37 : cL_law.data.toList.drop 969 = dktL_law_37 := dk_seg dksL_law_36 24 rfl rfl
theorem dksL_law_38 : cL_law.data.toList.drop 993 = dktL_law_38 := dk_seg dksL_law_37 24 rfl rfl
theorem dksL_law_39 : cL_law.data.toList.drop 1017 = dktL_law_39 := dk_seg dksL_law_38 24 rfl rfl
theorem dksL_law_40 : cL_law.data.toList.drop 1041 = dktL_law_40 := dk_seg dksL_law_39 24 rfl rfl
theorem dksL_law_41 : cL_law.data.toList.drop 1065 = dktL_law_41 := dk_seg dksL_law_40 24 rfl rfl
theorem dksL_law_42 : cL_law.data.toList.drop 1088 = dktL_law_42 := dk_seg dksL_law_41 23 rfl rfl
theorem dksL_law_43 : cL_law.data.toList.drop 1111 = dktL_law_43 := dk_seg dksL_law_42 23 rfl rfl
theorem dksL_law_44 : cL_law.data.toList.drop 1134 = dktL_law_44 := dk_seg dksL_law_43 23 rfl rfl
theorem dksL_law_45 : cL_law.data.toList.drop 1156 = dktL_law_45 := dk_seg dksL_law_44 22 rfl rfl
theorem dksL_law_46 : cL_law.data.toList.drop 1179 = dktL_law_46 := dk_seg dksL_law_45 23 rfl rfl
theorem dksL_law_47 : cL_law.data.toList.drop 1203 = dktL_law_47 := dk_seg dksL_law_46 24 rfl rfl
theorem dksL_law_48 : cL_law.data.toList.drop 1227 = dktL_law_48 := dk_seg dksL_law_47 24 rfl rfl
theorem dksL_law_49 : cL_law.data.toList.drop 1250 = dktL_law_49 := dk_seg dksL_law_48 23 rfl rfl
theorem dksL_law_50 : cL_law.data.toList.drop 1273 = dktL_law_50 := dk_seg dksL_law_49 23 rfl rfl
theorem dksL_law_51 : cL_law.data.toList.drop 1297 = dktL_law_51 := dk_seg dksL_law_50 24 rfl rfl
theorem dksL_law_52 : cL_law.data.toList.drop 1319 = dktL_law_52 := dk_seg dksL_law_51 22 rfl rfl
theorem dksL_law_53 : cL_law.data.toList.drop 1342 = dktL_law_53 := dk_seg dksL_law_52 23 rfl rfl
theorem dksL_law_54 : cL_law.data.toList.drop 1365 = dktL_law_54 := dk_seg dksL_law_53 23 rfl rfl
theorem dksL_law_55 : cL_law.data.toList.drop 1388 = dktL_law_55 := dk_seg dksL_law_54 23 rfl rfl
theorem dksL_law_56 : cL_law.data.toList.drop 1411 = dktL_law_56 := dk_seg dksL_law_55 23 rfl rfl
theorem dksL_law_57 : cL_law.data.toList.drop 1433 = dktL_law_57 := dk_seg dksL_law_56 22 rfl rfl
theorem dksL_law_58 : cL_law.data.toList.drop 1457 = dktL_law_58 := dk_seg dksL_law_57 24 rfl rfl
theorem dksL_law_59 : cL_law.data.toList.drop 1481 = dktL_law_59 := dk_seg dksL_law_58 24 rfl rfl
theorem dksL_law_60 : cL_law.data.toList.drop 1504 = dktL_law_60 := dk_seg dksL_law_59 23 rfl rfl
theorem dksL_law_61 : cL_law.data.toList.drop 1527 = dktL_law_61 := dk_seg dksL_law_60 23 rfl rfl
theorem dksL_law_62 : cL_law.data.toList.drop 1551 = dktL_law_62 := dk_seg dksL_law_61 24 rfl rfl
theorem dksL_law_63 : cL_law.data.toList.drop 1573 = dktL_law_63 := dk_seg dksL_law_62 22 rfl rfl
theorem dksL_law_64 : cL_law.data.toList.drop 1597 = dktL_law_64 := dk_seg dksL_law_63 24 rfl rfl
theorem dksL_law_65 : cL_law.data.toList.drop 1620 = dktL_law_65 := dk_seg dksL_law_64 23 rfl rfl
theorem dksL_law_66 : cL_law.data.toList.drop 1644 = dktL_law_66 := dk_seg dksL_law_65 24 rfl rfl
theorem dksL_law_67 : cL_law.data.toList.drop 1666 = dktL_law_67 := dk_seg dksL_law_66 22 rfl rfl
theorem dksL_law_68 : cL_law.data.toList.drop 1690 = dktL_law_68 := dk_seg dksL_law_67 24 rfl rfl
theorem dksL_law_69 : cL_law.data.toList.drop 1713 = dktL_law_69 := dk_seg dksL_law_68 23 rfl rfl
theorem dksL_law_70 : cL_law.data.toList.drop 1736 = dktL_law_70 := dk_seg dksL_law_69 23 rfl rfl
theorem dksL_law_71 : cL_law.data.toList.drop 1760 = dktL_law_71 := dk_seg dksL_law_70 24 rfl rfl
theorem dksL_law_72 : cL_law.data.toList.drop 1784 = dktL_law_72 := dk_seg dksL_law_71 24 rfl rfl
theorem dksL_law_73 : cL_law.data.toList.drop 1808 = dktL_law_73 := dk_seg dksL_law_72 24 rfl rfl
theorem dksL_law_74 : cL_law.data.toList.drop 1832 = dktL_law_74 := dk_seg dksL_law_73 24 rfl rfl
theorem dksL_law_75 : cL_law.data.toList.drop 1855 = dktL_law_75 := dk_seg dksL_law_74 23 rfl rfl
theorem dksL_law_76 : cL_law.data.toList.drop 1879 = dktL_law_76 := dk_seg dksL_law_75 24 rfl rfl
theorem dksL_law_77 : cL_law.data.toList.drop 1902 = dktL_law_77 := dk_seg dksL_law_76 23 rfl rfl
theorem dksL_law_78 : cL_law.data.toList.drop 1926 = dktL_law_78 := dk_seg dksL_law_77 24 rfl rfl
theorem dksL_law_79 : cL_law.data.toList.drop 1950 = dktL_law_79 := dk_seg dksL_law_78 24 rfl rfl
theorem dksL_law_80 : cL_law.data.toList.drop 1974 = dktL_law_80 := dk_seg dksL_law_79 24 rfl rfl
theorem dksL_law_81 : cL_law.data.toList.drop 1998 = dktL_law_81 := dk_seg dksL_law_80 24 rfl rfl
theorem dksL_law_82 : cL_law.data.toList.drop 2022 = dktL_law_82 := dk_seg dksL_law_81 24 rfl rfl
theorem dksL_law_83 : cL_law.data.toList.drop 2046 = dktL_law_83 := dk_seg dksL_law_82 24 rfl rfl
theorem dksL_law_84 : cL_law.data.toList.drop 2069 = dktL_law_84 := dk_seg dksL_law_83 23 rfl rfl
theorem dksL_law_85 : cL_law.data.toList.drop 2092 = dktL_law_85 := dk_seg dksL_law_84 23 rfl rfl
theorem dksL_law_86 : cL_law.data.toList.drop 2116 = dktL_law_86 := dk_seg dksL_law_85 24 rfl rfl
theorem dksL_law_87 : cL_law.data.toList.drop 2138 = dktL_law_87 := dk_seg dksL_law_86 22 rfl rfl
theorem dksL_law_88 : cL_law.data.toList.drop 2161 = dktL_law_88 := dk_seg dksL_law_87 23 rfl rfl
theorem dksL_law_89 : cL_law.data.toList.drop 2185 = dktL_law_89 := dk_seg dksL_law_88 24 rfl rfl
theorem dL_law_0 : decode cL_law 0 = .ok (.new 8, 3) := dk_187 0 8 (dk_at dksL_law_0 0 rfl rfl)
theorem dL_law_3 : decode cL_law 3 = .ok (.dup, 1) := dk_89 (dk_at dksL_law_0 3 rfl rfl)
theorem dL_law_4 : decode cL_law 4 = .ok (.invokespecial 119, 3) := dk_183 0 119 (dk_at dksL_law_0 4 rfl rfl)
theorem dL_law_7 : decode cL_law 7 = .ok (.astore_n 1, 1) := dk_76 (dk_at dksL_law_0 7 rfl rfl)
theorem dL_law_8 : decode cL_law 8 = .ok (.new 120, 3) := dk_187 0 120 (dk_at dksL_law_0 8 rfl rfl)
theorem dL_law_11 : decode cL_law 11 = .ok (.dup, 1) := dk_89 (dk_at dksL_law_0 11 rfl rfl)
theorem dL_law_12 : decode cL_law 12 = .ok (.invokespecial 122, 3) := dk_183 0 122 (dk_at dksL_law_0 12 rfl rfl)
theorem dL_law_15 : decode cL_law 15 = .ok (.astore_n 2, 1) := dk_77 (dk_at dksL_law_0 15 rfl rfl)
theorem dL_law_16 : decode cL_law 16 = .ok (.new 14, 3) := dk_187 0 14 (dk_at dksL_law_0 16 rfl rfl)
theorem dL_law_19 : decode cL_law 19 = .ok (.dup, 1) := dk_89 (dk_at dksL_law_0 19 rfl rfl)
theorem dL_law_20 : decode cL_law 20 = .ok (.invokespecial 123, 3) := dk_183 0 123 (dk_at dksL_law_0 20 rfl rfl)
theorem dL_law_23 : decode cL_law 23 = .ok (.astore_n 3, 1) := dk_78 (dk_at dksL_law_0 23 rfl rfl)
theorem dL_law_24 : decode cL_law 24 = .ok (.iconst 0, 1) := dk_3 (dk_at dksL_law_1 0 rfl rfl)
theorem dL_law_25 : decode cL_law 25 = .ok (.istore 4, 2) := dk_54 4 (dk_at dksL_law_1 1 rfl rfl)
theorem dL_law_27 : decode cL_law 27 = .ok (.iload 4, 2) := dk_21 4 (dk_at dksL_law_1 3 rfl rfl)
theorem dL_law_29 : decode cL_law 29 = .ok (.aload_n 0, 1) := dk_42 (dk_at dksL_law_1 5 rfl rfl)
theorem dL_law_30 : decode cL_law 30 = .ok (.arraylength, 1) := dk_190 (dk_at dksL_law_1 6 rfl rfl)
theorem dL_law_31 : decode cL_law 31 = .ok (.iconst 5, 1) := dk_8 (dk_at dksL_law_1 7 rfl rfl)
theorem dL_law_32 : decode cL_law 32 = .ok (.isub, 1) := dk_100 (dk_at dksL_law_1 8 rfl rfl)
theorem dL_law_33 : decode cL_law 33 = .ok (.if_icmp .gt 2164, 3) := dk_163 8 116 (dk_at dksL_law_1 9 rfl rfl)
theorem dL_law_36 : decode cL_law 36 = .ok (.aload_n 0, 1) := dk_42 (dk_at dksL_law_1 12 rfl rfl)
theorem dL_law_37 : decode cL_law 37 = .ok (.iload 4, 2) := dk_21 4 (dk_at dksL_law_1 13 rfl rfl)
theorem dL_law_39 : decode cL_law 39 = .ok (.iaload, 1) := dk_46 (dk_at dksL_law_1 15 rfl rfl)
theorem dL_law_40 : decode cL_law 40 = .ok (.bipush 31, 2) := dk_16 31 (dk_at dksL_law_1 16 rfl rfl)
theorem dL_law_42 : decode cL_law 42 = .ok (.iand, 1) := dk_126 (dk_at dksL_law_1 18 rfl rfl)
theorem dL_law_43 : decode cL_law 43 = .ok (.tableswitch 2148 0 28 #[129, 222, 279, 392, 501, 593, 706, 791, 876, 945, 1002, 1071, 1128, 1141, 1222, 1291, 1348, 1406, 1487, 1563, 1631, 1712, 1781, 1857, 1926, 1983, 2052, 2121, 2134], 129) := by decide +kernel
theorem dL_law_172 : decode cL_law 172 = .ok (.aload_n 1, 1) := dk_43 (dk_at dksL_law_3 0 rfl rfl)
theorem dL_law_173 : decode cL_law 173 = .ok (.aload_n 0, 1) := dk_42 (dk_at dksL_law_3 1 rfl rfl)
theorem dL_law_174 : decode cL_law 174 = .ok (.iload 4, 2) := dk_21 4 (dk_at dksL_law_3 2 rfl rfl)
theorem dL_law_176 : decode cL_law 176 = .ok (.iconst 1, 1) := dk_4 (dk_at dksL_law_3 4 rfl rfl)
theorem dL_law_177 : decode cL_law 177 = .ok (.iadd, 1) := dk_96 (dk_at dksL_law_3 5 rfl rfl)
theorem dL_law_178 : decode cL_law 178 = .ok (.iaload, 1) := dk_46 (dk_at dksL_law_3 6 rfl rfl)
theorem dL_law_179 : decode cL_law 179 = .ok (.aload_n 0, 1) := dk_42 (dk_at dksL_law_3 7 rfl rfl)
theorem dL_law_180 : decode cL_law 180 = .ok (.iload 4, 2) := dk_21 4 (dk_at dksL_law_3 8 rfl rfl)
theorem dL_law_182 : decode cL_law 182 = .ok (.iconst 2, 1) := dk_5 (dk_at dksL_law_3 10 rfl rfl)
theorem dL_law_183 : decode cL_law 183 = .ok (.iadd, 1) := dk_96 (dk_at dksL_law_3 11 rfl rfl)
theorem dL_law_184 : decode cL_law 184 = .ok (.iaload, 1) := dk_46 (dk_at dksL_law_3 12 rfl rfl)
theorem dL_law_185 : decode cL_law 185 = .ok (.aload_n 0, 1) := dk_42 (dk_at dksL_law_3 13 rfl rfl)
theorem dL_law_186 : decode cL_law 186 = .ok (.iload 4, 2) := dk_21 4 (dk_at dksL_law_3 14 rfl rfl)
theorem dL_law_188 : decode cL_law 188 = .ok (.iconst 3, 1) := dk_6 (dk_at dksL_law_3 16 rfl rfl)
theorem dL_law_189 : decode cL_law 189 = .ok (.iadd, 1) := dk_96 (dk_at dksL_law_3 17 rfl rfl)
theorem dL_law_190 : decode cL_law 190 = .ok (.iaload, 1) := dk_46 (dk_at dksL_law_3 18 rfl rfl)
theorem dL_law_191 : decode cL_law 191 = .ok (.aload_n 0, 1) := dk_42 (dk_at dksL_law_3 19 rfl rfl)
theorem dL_law_192 : decode cL_law 192 = .ok (.iload 4, 2) := dk_21 4 (dk_at dksL_law_3 20 rfl rfl)
theorem dL_law_194 : decode cL_law 194 = .ok (.iconst 4, 1) := dk_7 (dk_at dksL_law_3 22 rfl rfl)
theorem dL_law_195 : decode cL_law 195 = .ok (.iadd, 1) := dk_96 (dk_at dksL_law_3 23 rfl rfl)
theorem dL_law_196 : decode cL_law 196 = .ok (.iaload, 1) := dk_46 (dk_at dksL_law_4 0 rfl rfl)
theorem dL_law_197 : decode cL_law 197 = .ok (.aload_n 3, 1) := dk_45 (dk_at dksL_law_4 1 rfl rfl)
theorem dL_law_198 : decode cL_law 198 = .ok (.invokestatic 124, 3) := dk_184 0 124 (dk_at dksL_law_4 2 rfl rfl)
theorem dL_law_201 : decode cL_law 201 = .ok (.istore 5, 2) := dk_54 5 (dk_at dksL_law_4 5 rfl rfl)
theorem dL_law_203 : decode cL_law 203 = .ok (.aload_n 2, 1) := dk_44 (dk_at dksL_law_4 7 rfl rfl)
theorem dL_law_204 : decode cL_law 204 = .ok (.aload_n 0, 1) := dk_42 (dk_at dksL_law_4 8 rfl rfl)
theorem dL_law_205 : decode cL_law 205 = .ok (.iload 4, 2) := dk_21 4 (dk_at dksL_law_4 9 rfl rfl)
theorem dL_law_207 : decode cL_law 207 = .ok (.iconst 1, 1) := dk_4 (dk_at dksL_law_4 11 rfl rfl)
theorem dL_law_208 : decode cL_law 208 = .ok (.iadd, 1) := dk_96 (dk_at dksL_law_4 12 rfl rfl)
theorem dL_law_209 : decode cL_law 209 = .ok (.iaload, 1) := dk_46 (dk_at dksL_law_4 13 rfl rfl)
theorem dL_law_210 : decode cL_law 210 = .ok (.aload_n 0, 1) := dk_42 (dk_at dksL_law_4 14 rfl rfl)
theorem dL_law_211 : decode cL_law 211 = .ok (.iload 4, 2) := dk_21 4 (dk_at dksL_law_4 15 rfl rfl)
theorem dL_law_213 : decode cL_law 213 = .ok (.iconst 2, 1) := dk_5 (dk_at dksL_law_4 17 rfl rfl)
theorem dL_law_214 : decode cL_law 214 = .ok (.iadd, 1) := dk_96 (dk_at dksL_law_4 18 rfl rfl)
theorem dL_law_215 : decode cL_law 215 = .ok (.iaload, 1) := dk_46 (dk_at dksL_law_4 19 rfl rfl)
theorem dL_law_216 : decode cL_law 216 = .ok (.aload_n 0, 1) := dk_42 (dk_at dksL_law_4 20 rfl rfl)
theorem dL_law_217 : decode cL_law 217 = .ok (.iload 4, 2) := dk_21 4 (dk_at dksL_law_4 21 rfl rfl)
theorem dL_law_219 : decode cL_law 219 = .ok (.iconst 3, 1) := dk_6 (dk_at dksL_law_4 23 rfl rfl)
theorem dL_law_220 : decode cL_law 220 = .ok (.iadd, 1) := dk_96 (dk_at dksL_law_5 0 rfl rfl)
theorem dL_law_221 : decode cL_law 221 = .ok (.iaload, 1) := dk_46 (dk_at dksL_law_5 1 rfl rfl)
theorem dL_law_222 : decode cL_law 222 = .ok (.aload_n 0, 1) := dk_42 (dk_at dksL_law_5 2 rfl rfl)
theorem dL_law_223 : decode cL_law 223 = .ok (.iload 4, 2) := dk_21 4 (dk_at dksL_law_5 3 rfl rfl)
theorem dL_law_225 : decode cL_law 225 = .ok (.iconst 4, 1) := dk_7 (dk_at dksL_law_5 5 rfl rfl)
theorem dL_law_226 : decode cL_law 226 = .ok (.iadd, 1) := dk_96 (dk_at dksL_law_5 6 rfl rfl)
theorem dL_law_227 : decode cL_law 227 = .ok (.iaload, 1) := dk_46 (dk_at dksL_law_5 7 rfl rfl)
theorem dL_law_228 : decode cL_law 228 = .ok (.invokevirtual 129, 3) := dk_182 0 129 (dk_at dksL_law_5 8 rfl rfl)
theorem dL_law_231 : decode cL_law 231 = .ok (.istore 6, 2) := dk_54 6 (dk_at dksL_law_5 11 rfl rfl)
theorem dL_law_233 : decode cL_law 233 = .ok (.aload_n 2, 1) := dk_44 (dk_at dksL_law_5 13 rfl rfl)
theorem dL_law_234 : decode cL_law 234 = .ok (.invokevirtual 130, 3) := dk_182 0 130 (dk_at dksL_law_5 14 rfl rfl)
theorem dL_law_237 : decode cL_law 237 = .ok (.iload 5, 2) := dk_21 5 (dk_at dksL_law_5 17 rfl rfl)
theorem dL_law_239 : decode cL_law 239 = .ok (.if_icmp .eq 5, 3) := dk_159 0 5 (dk_at dksL_law_5 19 rfl rfl)
theorem dL_law_242 : decode cL_law 242 = .ok (.iconst 0, 1) := dk_3 (dk_at dksL_law_5 22 rfl rfl)
theorem dL_law_243 : decode cL_law 243 = .ok (.ireturn, 1) := dk_172 (dk_at dksL_law_5 23 rfl rfl)
theorem dL_law_244 : decode cL_law 244 = .ok (.iload 5, 2) := dk_21 5 (dk_at dksL_law_6 0 rfl rfl)
theorem dL_law_246 : decode cL_law 246 = .ok (.ifCond .ne 16, 3) := dk_154 0 16 (dk_at dksL_law_6 2 rfl rfl)
theorem dL_law_249 : decode cL_law 249 = .ok (.aload_n 3, 1) := dk_45 (dk_at dksL_law_6 5 rfl rfl)
theorem dL_law_250 : decode cL_law 250 = .ok (.getfield 13, 3) := dk_180 0 13 (dk_at dksL_law_6 6 rfl rfl)
theorem dL_law_253 : decode cL_law 253 = .ok (.iload 6, 2) := dk_21 6 (dk_at dksL_law_6 9 rfl rfl)
theorem dL_law_255 : decode cL_law 255 = .ok (.i2l, 1) := dk_133 (dk_at dksL_law_6 11 rfl rfl)
theorem dL_law_256 : decode cL_law 256 = .ok (.lcmp, 1) := dk_148 (dk_at dksL_law_6 12 rfl rfl)
theorem dL_law_257 : decode cL_law 257 = .ok (.ifCond .eq 5, 3) := dk_153 0 5 (dk_at dksL_law_6 13 rfl rfl)
theorem dL_law_260 : decode cL_law 260 = .ok (.iconst 0, 1) := dk_3 (dk_at dksL_law_6 16 rfl rfl)
theorem dL_law_261 : decode cL_law 261 = .ok (.ireturn, 1) := dk_172 (dk_at dksL_law_6 17 rfl rfl)
theorem dL_law_262 : decode cL_law 262 = .ok (.goto 1929, 3) := dk_167 7 137 (dk_at dksL_law_6 18 rfl rfl)
theorem dL_law_265 : decode cL_law 265 = .ok (.aload_n 1, 1) := dk_43 (dk_at dksL_law_6 21 rfl rfl)
theorem dL_law_266 : decode cL_law 266 = .ok (.aload_n 0, 1) := dk_42 (dk_at dksL_law_6 22 rfl rfl)
theorem dL_law_267 : decode cL_law 267 = .ok (.iload 4, 2) := dk_21 4 (dk_at dksL_law_7 0 rfl rfl)
theorem dL_law_269 : decode cL_law 269 = .ok (.iconst 1, 1) := dk_4 (dk_at dksL_law_7 2 rfl rfl)
theorem dL_law_270 : decode cL_law 270 = .ok (.iadd, 1) := dk_96 (dk_at dksL_law_7 3 rfl rfl)
theorem dL_law_271 : decode cL_law 271 = .ok (.iaload, 1) := dk_46 (dk_at dksL_law_7 4 rfl rfl)
theorem dL_law_272 : decode cL_law 272 = .ok (.aload_n 3, 1) := dk_45 (dk_at dksL_law_7 5 rfl rfl)
theorem dL_law_273 : decode cL_law 273 = .ok (.invokestatic 134, 3) := dk_184 0 134 (dk_at dksL_law_7 6 rfl rfl)
theorem dL_law_276 : decode cL_law 276 = .ok (.istore 5, 2) := dk_54 5 (dk_at dksL_law_7 9 rfl rfl)
theorem dL_law_278 : decode cL_law 278 = .ok (.aload_n 2, 1) := dk_44 (dk_at dksL_law_7 11 rfl rfl)
theorem dL_law_279 : decode cL_law 279 = .ok (.aload_n 0, 1) := dk_42 (dk_at dksL_law_7 12 rfl rfl)
theorem dL_law_280 : decode cL_law 280 = .ok (.iload 4, 2) := dk_21 4 (dk_at dksL_law_7 13 rfl rfl)
theorem dL_law_282 : decode cL_law 282 = .ok (.iconst 1, 1) := dk_4 (dk_at dksL_law_7 15 rfl rfl)
theorem dL_law_283 : decode cL_law 283 = .ok (.iadd, 1) := dk_96 (dk_at dksL_law_7 16 rfl rfl)
theorem dL_law_284 : decode cL_law 284 = .ok (.iaload, 1) := dk_46 (dk_at dksL_law_7 17 rfl rfl)
theorem dL_law_285 : decode cL_law 285 = .ok (.invokevirtual 137, 3) := dk_182 0 137 (dk_at dksL_law_7 18 rfl rfl)
theorem dL_law_288 : decode cL_law 288 = .ok (.istore 6, 2) := dk_54 6 (dk_at dksL_law_7 21 rfl rfl)
theorem dL_law_290 : decode cL_law 290 = .ok (.aload_n 2, 1) := dk_44 (dk_at dksL_law_7 23 rfl rfl)
theorem dL_law_291 : decode cL_law 291 = .ok (.invokevirtual 130, 3) := dk_182 0 130 (dk_at dksL_law_8 0 rfl rfl)
theorem dL_law_294 : decode cL_law 294 = .ok (.iload 5, 2) := dk_21 5 (dk_at dksL_law_8 3 rfl rfl)
theorem dL_law_296 : decode cL_law 296 = .ok (.if_icmp .eq 5, 3) := dk_159 0 5 (dk_at dksL_law_8 5 rfl rfl)
theorem dL_law_299 : decode cL_law 299 = .ok (.iconst 0, 1) := dk_3 (dk_at dksL_law_8 8 rfl rfl)
theorem dL_law_300 : decode cL_law 300 = .ok (.ireturn, 1) := dk_172 (dk_at dksL_law_8 9 rfl rfl)
theorem dL_law_301 : decode cL_law 301 = .ok (.iload 5, 2) := dk_21 5 (dk_at dksL_law_8 10 rfl rfl)
theorem dL_law_303 : decode cL_law 303 = .ok (.ifCond .ne 16, 3) := dk_154 0 16 (dk_at dksL_law_8 12 rfl rfl)
theorem dL_law_306 : decode cL_law 306 = .ok (.aload_n 3, 1) := dk_45 (dk_at dksL_law_8 15 rfl rfl)
theorem dL_law_307 : decode cL_law 307 = .ok (.getfield 13, 3) := dk_180 0 13 (dk_at dksL_law_8 16 rfl rfl)
theorem dL_law_310 : decode cL_law 310 = .ok (.iload 6, 2) := dk_21 6 (dk_at dksL_law_8 19 rfl rfl)
theorem dL_law_312 : decode cL_law 312 = .ok (.i2l, 1) := dk_133 (dk_at dksL_law_8 21 rfl rfl)
theorem dL_law_313 : decode cL_law 313 = .ok (.lcmp, 1) := dk_148 (dk_at dksL_law_8 22 rfl rfl)
theorem dL_law_314 : decode cL_law 314 = .ok (.ifCond .eq 5, 3) := dk_153 0 5 (dk_at dksL_law_9 0 rfl rfl)
theorem dL_law_317 : decode cL_law 317 = .ok (.iconst 0, 1) := dk_3 (dk_at dksL_law_9 3 rfl rfl)
theorem dL_law_318 : decode cL_law 318 = .ok (.ireturn, 1) := dk_172 (dk_at dksL_law_9 4 rfl rfl)
theorem dL_law_319 : decode cL_law 319 = .ok (.goto 1872, 3) := dk_167 7 80 (dk_at dksL_law_9 5 rfl rfl)
theorem dL_law_322 : decode cL_law 322 = .ok (.aload_n 1, 1) := dk_43 (dk_at dksL_law_9 8 rfl rfl)
theorem dL_law_323 : decode cL_law 323 = .ok (.aload_n 0, 1) := dk_42 (dk_at dksL_law_9 9 rfl rfl)
theorem dL_law_324 : decode cL_law 324 = .ok (.iload 4, 2) := dk_21 4 (dk_at dksL_law_9 10 rfl rfl)
theorem dL_law_326 : decode cL_law 326 = .ok (.iconst 1, 1) := dk_4 (dk_at dksL_law_9 12 rfl rfl)
theorem dL_law_327 : decode cL_law 327 = .ok (.iadd, 1) := dk_96 (dk_at dksL_law_9 13 rfl rfl)
theorem dL_law_328 : decode cL_law 328 = .ok (.iaload, 1) := dk_46 (dk_at dksL_law_9 14 rfl rfl)
theorem dL_law_329 : decode cL_law 329 = .ok (.aload_n 0, 1) := dk_42 (dk_at dksL_law_9 15 rfl rfl)
theorem dL_law_330 : decode cL_law 330 = .ok (.iload 4, 2) := dk_21 4 (dk_at dksL_law_9 16 rfl rfl)
theorem dL_law_332 : decode cL_law 332 = .ok (.iconst 2, 1) := dk_5 (dk_at dksL_law_9 18 rfl rfl)
theorem dL_law_333 : decode cL_law 333 = .ok (.iadd, 1) := dk_96 (dk_at dksL_law_9 19 rfl rfl)
theorem dL_law_334 : decode cL_law 334 = .ok (.iaload, 1) := dk_46 (dk_at dksL_law_9 20 rfl rfl)
theorem dL_law_335 : decode cL_law 335 = .ok (.ifCond .eq 7, 3) := dk_153 0 7 (dk_at dksL_law_9 21 rfl rfl)
theorem dL_law_338 : decode cL_law 338 = .ok (.iconst 1, 1) := dk_4 (dk_at dksL_law_10 0 rfl rfl)
theorem dL_law_339 : decode cL_law 339 = .ok (.goto 4, 3) := dk_167 0 4 (dk_at dksL_law_10 1 rfl rfl)
theorem dL_law_342 : decode cL_law 342 = .ok (.iconst 0, 1) := dk_3 (dk_at dksL_law_10 4 rfl rfl)
theorem dL_law_343 : decode cL_law 343 = .ok (.aload_n 0, 1) := dk_42 (dk_at dksL_law_10 5 rfl rfl)
theorem dL_law_344 : decode cL_law 344 = .ok (.iload 4, 2) := dk_21 4 (dk_at dksL_law_10 6 rfl rfl)
theorem dL_law_346 : decode cL_law 346 = .ok (.iconst 3, 1) := dk_6 (dk_at dksL_law_10 8 rfl rfl)
theorem dL_law_347 : decode cL_law 347 = .ok (.iadd, 1) := dk_96 (dk_at dksL_law_10 9 rfl rfl)
theorem dL_law_348 : decode cL_law 348 = .ok (.iaload, 1) := dk_46 (dk_at dksL_law_10 10 rfl rfl)
theorem dL_law_349 : decode cL_law 349 = .ok (.ifCond .eq 7, 3) := dk_153 0 7 (dk_at dksL_law_10 11 rfl rfl)
theorem dL_law_352 : decode cL_law 352 = .ok (.iconst 1, 1) := dk_4 (dk_at dksL_law_10 14 rfl rfl)
theorem dL_law_353 : decode cL_law 353 = .ok (.goto 4, 3) := dk_167 0 4 (dk_at dksL_law_10 15 rfl rfl)
theorem dL_law_356 : decode cL_law 356 = .ok (.iconst 0, 1) := dk_3 (dk_at dksL_law_10 18 rfl rfl)
theorem dL_law_357 : decode cL_law 357 = .ok (.aload_n 3, 1) := dk_45 (dk_at dksL_law_10 19 rfl rfl)
theorem dL_law_358 : decode cL_law 358 = .ok (.invokestatic 138, 3) := dk_184 0 138 (dk_at dksL_law_10 20 rfl rfl)
theorem dL_law_361 : decode cL_law 361 = .ok (.istore 5, 2) := dk_54 5 (dk_at dksL_law_11 0 rfl rfl)
theorem dL_law_363 : decode cL_law 363 = .ok (.aload_n 2, 1) := dk_44 (dk_at dksL_law_11 2 rfl rfl)
theorem dL_law_364 : decode cL_law 364 = .ok (.aload_n 0, 1) := dk_42 (dk_at dksL_law_11 3 rfl rfl)
theorem dL_law_365 : decode cL_law 365 = .ok (.iload 4, 2) := dk_21 4 (dk_at dksL_law_11 4 rfl rfl)
theorem dL_law_367 : decode cL_law 367 = .ok (.iconst 1, 1) := dk_4 (dk_at dksL_law_11 6 rfl rfl)
theorem dL_law_368 : decode cL_law 368 = .ok (.iadd, 1) := dk_96 (dk_at dksL_law_11 7 rfl rfl)
theorem dL_law_369 : decode cL_law 369 = .ok (.iaload, 1) := dk_46 (dk_at dksL_law_11 8 rfl rfl)
theorem dL_law_370 : decode cL_law 370 = .ok (.aload_n 0, 1) := dk_42 (dk_at dksL_law_11 9 rfl rfl)
theorem dL_law_371 : decode cL_law 371 = .ok (.iload 4, 2) := dk_21 4 (dk_at dksL_law_11 10 rfl rfl)
theorem dL_law_373 : decode cL_law 373 = .ok (.iconst 2, 1) := dk_5 (dk_at dksL_law_11 12 rfl rfl)
theorem dL_law_374 : decode cL_law 374 = .ok (.iadd, 1) := dk_96 (dk_at dksL_law_11 13 rfl rfl)
theorem dL_law_375 : decode cL_law 375 = .ok (.iaload, 1) := dk_46 (dk_at dksL_law_11 14 rfl rfl)
theorem dL_law_376 : decode cL_law 376 = .ok (.ifCond .eq 7, 3) := dk_153 0 7 (dk_at dksL_law_11 15 rfl rfl)
theorem dL_law_379 : decode cL_law 379 = .ok (.iconst 1, 1) := dk_4 (dk_at dksL_law_11 18 rfl rfl)
theorem dL_law_380 : decode cL_law 380 = .ok (.goto 4, 3) := dk_167 0 4 (dk_at dksL_law_11 19 rfl rfl)
theorem dL_law_383 : decode cL_law 383 = .ok (.iconst 0, 1) := dk_3 (dk_at dksL_law_11 22 rfl rfl)
theorem dL_law_384 : decode cL_law 384 = .ok (.aload_n 0, 1) := dk_42 (dk_at dksL_law_11 23 rfl rfl)
theorem dL_law_385 : decode cL_law 385 = .ok (.iload 4, 2) := dk_21 4 (dk_at dksL_law_12 0 rfl rfl)
theorem dL_law_387 : decode cL_law 387 = .ok (.iconst 3, 1) := dk_6 (dk_at dksL_law_12 2 rfl rfl)
theorem dL_law_388 : decode cL_law 388 = .ok (.iadd, 1) := dk_96 (dk_at dksL_law_12 3 rfl rfl)
theorem dL_law_389 : decode cL_law 389 = .ok (.iaload, 1) := dk_46 (dk_at dksL_law_12 4 rfl rfl)
theorem dL_law_390 : decode cL_law 390 = .ok (.ifCond .eq 7, 3) := dk_153 0 7 (dk_at dksL_law_12 5 rfl rfl)
theorem dL_law_393 : decode cL_law 393 = .ok (.iconst 1, 1) := dk_4 (dk_at dksL_law_12 8 rfl rfl)
theorem dL_law_394 : decode cL_law 394 = .ok (.goto 4, 3) := dk_167 0 4 (dk_at dksL_law_12 9 rfl rfl)
theorem dL_law_397 : decode cL_law 397 = .ok (.iconst 0, 1) := dk_3 (dk_at dksL_law_12 12 rfl rfl)
theorem dL_law_398 : decode cL_law 398 = .ok (.invokevirtual 141, 3) := dk_182 0 141 (dk_at dksL_law_12 13 rfl rfl)
theorem dL_law_401 : decode cL_law 401 = .ok (.istore 6, 2) := dk_54 6 (dk_at dksL_law_12 16 rfl rfl)
theorem dL_law_403 : decode cL_law 403 = .ok (.aload_n 2, 1) := dk_44 (dk_at dksL_law_12 18 rfl rfl)
theorem dL_law_404 : decode cL_law 404 = .ok (.invokevirtual 130, 3) := dk_182 0 130 (dk_at dksL_law_12 19 rfl rfl)
theorem dL_law_407 : decode cL_law 407 = .ok (.iload 5, 2) := dk_21 5 (dk_at dksL_law_12 22 rfl rfl)
theorem dL_law_409 : decode cL_law 409 = .ok (.if_icmp .eq 5, 3) := dk_159 0 5 (dk_at dksL_law_13 0 rfl rfl)
theorem dL_law_412 : decode cL_law 412 = .ok (.iconst 0, 1) := dk_3 (dk_at dksL_law_13 3 rfl rfl)
theorem dL_law_413 : decode cL_law 413 = .ok (.ireturn, 1) := dk_172 (dk_at dksL_law_13 4 rfl rfl)
theorem dL_law_414 : decode cL_law 414 = .ok (.iload 5, 2) := dk_21 5 (dk_at dksL_law_13 5 rfl rfl)
theorem dL_law_416 : decode cL_law 416 = .ok (.ifCond .ne 16, 3) := dk_154 0 16 (dk_at dksL_law_13 7 rfl rfl)
theorem dL_law_419 : decode cL_law 419 = .ok (.aload_n 3, 1) := dk_45 (dk_at dksL_law_13 10 rfl rfl)
theorem dL_law_420 : decode cL_law 420 = .ok (.getfield 13, 3) := dk_180 0 13 (dk_at dksL_law_13 11 rfl rfl)
theorem dL_law_423 : decode cL_law 423 = .ok (.iload 6, 2) := dk_21 6 (dk_at dksL_law_13 14 rfl rfl)
theorem dL_law_425 : decode cL_law 425 = .ok (.i2l, 1) := dk_133 (dk_at dksL_law_13 16 rfl rfl)
theorem dL_law_426 : decode cL_law 426 = .ok (.lcmp, 1) := dk_148 (dk_at dksL_law_13 17 rfl rfl)
theorem dL_law_427 : decode cL_law 427 = .ok (.ifCond .eq 5, 3) := dk_153 0 5 (dk_at dksL_law_13 18 rfl rfl)
theorem dL_law_430 : decode cL_law 430 = .ok (.iconst 0, 1) := dk_3 (dk_at dksL_law_13 21 rfl rfl)
theorem dL_law_431 : decode cL_law 431 = .ok (.ireturn, 1) := dk_172 (dk_at dksL_law_13 22 rfl rfl)
theorem dL_law_432 : decode cL_law 432 = .ok (.goto 1759, 3) := dk_167 6 223 (dk_at dksL_law_14 0 rfl rfl)
theorem dL_law_435 : decode cL_law 435 = .ok (.aload_n 1, 1) := dk_43 (dk_at dksL_law_14 3 rfl rfl)
theorem dL_law_436 : decode cL_law 436 = .ok (.aload_n 0, 1) := dk_42 (dk_at dksL_law_14 4 rfl rfl)
theorem dL_law_437 : decode cL_law 437 = .ok (.iload 4, 2) := dk_21 4 (dk_at dksL_law_14 5 rfl rfl)
theorem dL_law_439 : decode cL_law 439 = .ok (.iconst 1, 1) := dk_4 (dk_at dksL_law_14 7 rfl rfl)
theorem dL_law_440 : decode cL_law 440 = .ok (.iadd, 1) := dk_96 (dk_at dksL_law_14 8 rfl rfl)
theorem dL_law_441 : decode cL_law 441 = .ok (.iaload, 1) := dk_46 (dk_at dksL_law_14 9 rfl rfl)
theorem dL_law_442 : decode cL_law 442 = .ok (.aload_n 0, 1) := dk_42 (dk_at dksL_law_14 10 rfl rfl)
theorem dL_law_443 : decode cL_law 443 = .ok (.iload 4, 2) := dk_21 4 (dk_at dksL_law_14 11 rfl rfl)
theorem dL_law_445 : decode cL_law 445 = .ok (.iconst 2, 1) := dk_5 (dk_at dksL_law_14 13 rfl rfl)
theorem dL_law_446 : decode cL_law 446 = .ok (.iadd, 1) := dk_96 (dk_at dksL_law_14 14 rfl rfl)
theorem dL_law_447 : decode cL_law 447 = .ok (.iaload, 1) := dk_46 (dk_at dksL_law_14 15 rfl rfl)
theorem dL_law_448 : decode cL_law 448 = .ok (.aload_n 0, 1) := dk_42 (dk_at dksL_law_14 16 rfl rfl)
theorem dL_law_449 : decode cL_law 449 = .ok (.iload 4, 2) := dk_21 4 (dk_at dksL_law_14 17 rfl rfl)
theorem dL_law_451 : decode cL_law 451 = .ok (.iconst 3, 1) := dk_6 (dk_at dksL_law_14 19 rfl rfl)
theorem dL_law_452 : decode cL_law 452 = .ok (.iadd, 1) := dk_96 (dk_at dksL_law_14 20 rfl rfl)
theorem dL_law_453 : decode cL_law 453 = .ok (.iaload, 1) := dk_46 (dk_at dksL_law_14 21 rfl rfl)
theorem dL_law_454 : decode cL_law 454 = .ok (.aload_n 0, 1) := dk_42 (dk_at dksL_law_14 22 rfl rfl)
theorem dL_law_455 : decode cL_law 455 = .ok (.iload 4, 2) := dk_21 4 (dk_at dksL_law_15 0 rfl rfl)
theorem dL_law_457 : decode cL_law 457 = .ok (.iconst 4, 1) := dk_7 (dk_at dksL_law_15 2 rfl rfl)
theorem dL_law_458 : decode cL_law 458 = .ok (.iadd, 1) := dk_96 (dk_at dksL_law_15 3 rfl rfl)
theorem dL_law_459 : decode cL_law 459 = .ok (.iaload, 1) := dk_46 (dk_at dksL_law_15 4 rfl rfl)
theorem dL_law_460 : decode cL_law 460 = .ok (.ifCond .eq 7, 3) := dk_153 0 7 (dk_at dksL_law_15 5 rfl rfl)
theorem dL_law_463 : decode cL_law 463 = .ok (.iconst 1, 1) := dk_4 (dk_at dksL_law_15 8 rfl rfl)
theorem dL_law_464 : decode cL_law 464 = .ok (.goto 4, 3) := dk_167 0 4 (dk_at dksL_law_15 9 rfl rfl)
theorem dL_law_467 : decode cL_law 467 = .ok (.iconst 0, 1) := dk_3 (dk_at dksL_law_15 12 rfl rfl)
theorem dL_law_468 : decode cL_law 468 = .ok (.aload_n 3, 1) := dk_45 (dk_at dksL_law_15 13 rfl rfl)
theorem dL_law_469 : decode cL_law 469 = .ok (.invokestatic 142, 3) := dk_184 0 142 (dk_at dksL_law_15 14 rfl rfl)
theorem dL_law_472 : decode cL_law 472 = .ok (.istore 5, 2) := dk_54 5 (dk_at dksL_law_15 17 rfl rfl)
theorem dL_law_474 : decode cL_law 474 = .ok (.aload_n 2, 1) := dk_44 (dk_at dksL_law_15 19 rfl rfl)
theorem dL_law_475 : decode cL_law 475 = .ok (.aload_n 0, 1) := dk_42 (dk_at dksL_law_15 20 rfl rfl)
theorem dL_law_476 : decode cL_law 476 = .ok (.iload 4, 2) := dk_21 4 (dk_at dksL_law_15 21 rfl rfl)
theorem dL_law_478 : decode cL_law 478 = .ok (.iconst 1, 1) := dk_4 (dk_at dksL_law_15 23 rfl rfl)
theorem dL_law_479 : decode cL_law 479 = .ok (.iadd, 1) := dk_96 (dk_at dksL_law_16 0 rfl rfl)
theorem dL_law_480 : decode cL_law 480 = .ok (.iaload, 1) := dk_46 (dk_at dksL_law_16 1 rfl rfl)
theorem dL_law_481 : decode cL_law 481 = .ok (.aload_n 0, 1) := dk_42 (dk_at dksL_law_16 2 rfl rfl)
theorem dL_law_482 : decode cL_law 482 = .ok (.iload 4, 2) := dk_21 4 (dk_at dksL_law_16 3 rfl rfl)
theorem dL_law_484 : decode cL_law 484 = .ok (.iconst 2, 1) := dk_5 (dk_at dksL_law_16 5 rfl rfl)
theorem dL_law_485 : decode cL_law 485 = .ok (.iadd, 1) := dk_96 (dk_at dksL_law_16 6 rfl rfl)
theorem dL_law_486 : decode cL_law 486 = .ok (.iaload, 1) := dk_46 (dk_at dksL_law_16 7 rfl rfl)
theorem dL_law_487 : decode cL_law 487 = .ok (.aload_n 0, 1) := dk_42 (dk_at dksL_law_16 8 rfl rfl)
theorem dL_law_488 : decode cL_law 488 = .ok (.iload 4, 2) := dk_21 4 (dk_at dksL_law_16 9 rfl rfl)
theorem dL_law_490 : decode cL_law 490 = .ok (.iconst 3, 1) := dk_6 (dk_at dksL_law_16 11 rfl rfl)
theorem dL_law_491 : decode cL_law 491 = .ok (.iadd, 1) := dk_96 (dk_at dksL_law_16 12 rfl rfl)
theorem dL_law_492 : decode cL_law 492 = .ok (.iaload, 1) := dk_46 (dk_at dksL_law_16 13 rfl rfl)
theorem dL_law_493 : decode cL_law 493 = .ok (.aload_n 0, 1) := dk_42 (dk_at dksL_law_16 14 rfl rfl)
theorem dL_law_494 : decode cL_law 494 = .ok (.iload 4, 2) := dk_21 4 (dk_at dksL_law_16 15 rfl rfl)
theorem dL_law_496 : decode cL_law 496 = .ok (.iconst 4, 1) := dk_7 (dk_at dksL_law_16 17 rfl rfl)
theorem dL_law_497 : decode cL_law 497 = .ok (.iadd, 1) := dk_96 (dk_at dksL_law_16 18 rfl rfl)
theorem dL_law_498 : decode cL_law 498 = .ok (.iaload, 1) := dk_46 (dk_at dksL_law_16 19 rfl rfl)
theorem dL_law_499 : decode cL_law 499 = .ok (.ifCond .eq 7, 3) := dk_153 0 7 (dk_at dksL_law_16 20 rfl rfl)
theorem dL_law_502 : decode cL_law 502 = .ok (.iconst 1, 1) := dk_4 (dk_at dksL_law_16 23 rfl rfl)
theorem dL_law_503 : decode cL_law 503 = .ok (.goto 4, 3) := dk_167 0 4 (dk_at dksL_law_17 0 rfl rfl)
theorem dL_law_506 : decode cL_law 506 = .ok (.iconst 0, 1) := dk_3 (dk_at dksL_law_17 3 rfl rfl)
theorem dL_law_507 : decode cL_law 507 = .ok (.invokevirtual 145, 3) := dk_182 0 145 (dk_at dksL_law_17 4 rfl rfl)
theorem dL_law_510 : decode cL_law 510 = .ok (.istore 6, 2) := dk_54 6 (dk_at dksL_law_17 7 rfl rfl)
theorem dL_law_512 : decode cL_law 512 = .ok (.aload_n 2, 1) := dk_44 (dk_at dksL_law_17 9 rfl rfl)
theorem dL_law_513 : decode cL_law 513 = .ok (.invokevirtual 130, 3) := dk_182 0 130 (dk_at dksL_law_17 10 rfl rfl)
theorem dL_law_516 : decode cL_law 516 = .ok (.iload 5, 2) := dk_21 5 (dk_at dksL_law_17 13 rfl rfl)
theorem dL_law_518 : decode cL_law 518 = .ok (.if_icmp .eq 5, 3) := dk_159 0 5 (dk_at dksL_law_17 15 rfl rfl)
theorem dL_law_521 : decode cL_law 521 = .ok (.iconst 0, 1) := dk_3 (dk_at dksL_law_17 18 rfl rfl)
theorem dL_law_522 : decode cL_law 522 = .ok (.ireturn, 1) := dk_172 (dk_at dksL_law_17 19 rfl rfl)
theorem dL_law_523 : decode cL_law 523 = .ok (.iload 5, 2) := dk_21 5 (dk_at dksL_law_17 20 rfl rfl)
theorem dL_law_525 : decode cL_law 525 = .ok (.ifCond .ne 16, 3) := dk_154 0 16 (dk_at dksL_law_18 0 rfl rfl)
theorem dL_law_528 : decode cL_law 528 = .ok (.aload_n 3, 1) := dk_45 (dk_at dksL_law_18 3 rfl rfl)
theorem dL_law_529 : decode cL_law 529 = .ok (.getfield 13, 3) := dk_180 0 13 (dk_at dksL_law_18 4 rfl rfl)
theorem dL_law_532 : decode cL_law 532 = .ok (.iload 6, 2) := dk_21 6 (dk_at dksL_law_18 7 rfl rfl)
theorem dL_law_534 : decode cL_law 534 = .ok (.i2l, 1) := dk_133 (dk_at dksL_law_18 9 rfl rfl)
theorem dL_law_535 : decode cL_law 535 = .ok (.lcmp, 1) := dk_148 (dk_at dksL_law_18 10 rfl rfl)
theorem dL_law_536 : decode cL_law 536 = .ok (.ifCond .eq 5, 3) := dk_153 0 5 (dk_at dksL_law_18 11 rfl rfl)
theorem dL_law_539 : decode cL_law 539 = .ok (.iconst 0, 1) := dk_3 (dk_at dksL_law_18 14 rfl rfl)
theorem dL_law_540 : decode cL_law 540 = .ok (.ireturn, 1) := dk_172 (dk_at dksL_law_18 15 rfl rfl)
theorem dL_law_541 : decode cL_law 541 = .ok (.goto 1650, 3) := dk_167 6 114 (dk_at dksL_law_18 16 rfl rfl)
theorem dL_law_544 : decode cL_law 544 = .ok (.aload_n 1, 1) := dk_43 (dk_at dksL_law_18 19 rfl rfl)
theorem dL_law_545 : decode cL_law 545 = .ok (.aload_n 0, 1) := dk_42 (dk_at dksL_law_18 20 rfl rfl)
theorem dL_law_546 : decode cL_law 546 = .ok (.iload 4, 2) := dk_21 4 (dk_at dksL_law_18 21 rfl rfl)
theorem dL_law_548 : decode cL_law 548 = .ok (.iconst 1, 1) := dk_4 (dk_at dksL_law_18 23 rfl rfl)
theorem dL_law_549 : decode cL_law 549 = .ok (.iadd, 1) := dk_96 (dk_at dksL_law_19 0 rfl rfl)
theorem dL_law_550 : decode cL_law 550 = .ok (.iaload, 1) := dk_46 (dk_at dksL_law_19 1 rfl rfl)
theorem dL_law_551 : decode cL_law 551 = .ok (.aload_n 0, 1) := dk_42 (dk_at dksL_law_19 2 rfl rfl)
theorem dL_law_552 : decode cL_law 552 = .ok (.iload 4, 2) := dk_21 4 (dk_at dksL_law_19 3 rfl rfl)
theorem dL_law_554 : decode cL_law 554 = .ok (.iconst 2, 1) := dk_5 (dk_at dksL_law_19 5 rfl rfl)
theorem dL_law_555 : decode cL_law 555 = .ok (.iadd, 1) := dk_96 (dk_at dksL_law_19 6 rfl rfl)
theorem dL_law_556 : decode cL_law 556 = .ok (.iaload, 1) := dk_46 (dk_at dksL_law_19 7 rfl rfl)
theorem dL_law_557 : decode cL_law 557 = .ok (.ifCond .eq 7, 3) := dk_153 0 7 (dk_at dksL_law_19 8 rfl rfl)
theorem dL_law_560 : decode cL_law 560 = .ok (.iconst 1, 1) := dk_4 (dk_at dksL_law_19 11 rfl rfl)
theorem dL_law_561 : decode cL_law 561 = .ok (.goto 4, 3) := dk_167 0 4 (dk_at dksL_law_19 12 rfl rfl)
theorem dL_law_564 : decode cL_law 564 = .ok (.iconst 0, 1) := dk_3 (dk_at dksL_law_19 15 rfl rfl)
theorem dL_law_565 : decode cL_law 565 = .ok (.aload_n 3, 1) := dk_45 (dk_at dksL_law_19 16 rfl rfl)
theorem dL_law_566 : decode cL_law 566 = .ok (.invokestatic 146, 3) := dk_184 0 146 (dk_at dksL_law_19 17 rfl rfl)
theorem dL_law_569 : decode cL_law 569 = .ok (.istore 5, 2) := dk_54 5 (dk_at dksL_law_19 20 rfl rfl)
theorem dL_law_571 : decode cL_law 571 = .ok (.aload_n 2, 1) := dk_44 (dk_at dksL_law_19 22 rfl rfl)
theorem dL_law_572 : decode cL_law 572 = .ok (.aload_n 0, 1) := dk_42 (dk_at dksL_law_19 23 rfl rfl)
theorem dL_law_573 : decode cL_law 573 = .ok (.iload 4, 2) := dk_21 4 (dk_at dksL_law_20 0 rfl rfl)
theorem dL_law_575 : decode cL_law 575 = .ok (.iconst 1, 1) := dk_4 (dk_at dksL_law_20 2 rfl rfl)
theorem dL_law_576 : decode cL_law 576 = .ok (.iadd, 1) := dk_96 (dk_at dksL_law_20 3 rfl rfl)
theorem dL_law_577 : decode cL_law 577 = .ok (.iaload, 1) := dk_46 (dk_at dksL_law_20 4 rfl rfl)
theorem dL_law_578 : decode cL_law 578 = .ok (.aload_n 0, 1) := dk_42 (dk_at dksL_law_20 5 rfl rfl)
theorem dL_law_579 : decode cL_law 579 = .ok (.iload 4, 2) := dk_21 4 (dk_at dksL_law_20 6 rfl rfl)
theorem dL_law_581 : decode cL_law 581 = .ok (.iconst 2, 1) := dk_5 (dk_at dksL_law_20 8 rfl rfl)
theorem dL_law_582 : decode cL_law 582 = .ok (.iadd, 1) := dk_96 (dk_at dksL_law_20 9 rfl rfl)
theorem dL_law_583 : decode cL_law 583 = .ok (.iaload, 1) := dk_46 (dk_at dksL_law_20 10 rfl rfl)
theorem dL_law_584 : decode cL_law 584 = .ok (.ifCond .eq 7, 3) := dk_153 0 7 (dk_at dksL_law_20 11 rfl rfl)
theorem dL_law_587 : decode cL_law 587 = .ok (.iconst 1, 1) := dk_4 (dk_at dksL_law_20 14 rfl rfl)
theorem dL_law_588 : decode cL_law 588 = .ok (.goto 4, 3) := dk_167 0 4 (dk_at dksL_law_20 15 rfl rfl)
theorem dL_law_591 : decode cL_law 591 = .ok (.iconst 0, 1) := dk_3 (dk_at dksL_law_20 18 rfl rfl)
theorem dL_law_592 : decode cL_law 592 = .ok (.invokevirtual 149, 3) := dk_182 0 149 (dk_at dksL_law_20 19 rfl rfl)
theorem dL_law_595 : decode cL_law 595 = .ok (.istore 6, 2) := dk_54 6 (dk_at dksL_law_20 22 rfl rfl)
theorem dL_law_597 : decode cL_law 597 = .ok (.aload_n 2, 1) := dk_44 (dk_at dksL_law_21 0 rfl rfl)
theorem dL_law_598 : decode cL_law 598 = .ok (.invokevirtual 130, 3) := dk_182 0 130 (dk_at dksL_law_21 1 rfl rfl)
theorem dL_law_601 : decode cL_law 601 = .ok (.iload 5, 2) := dk_21 5 (dk_at dksL_law_21 4 rfl rfl)
theorem dL_law_603 : decode cL_law 603 = .ok (.if_icmp .eq 5, 3) := dk_159 0 5 (dk_at dksL_law_21 6 rfl rfl)
theorem dL_law_606 : decode cL_law 606 = .ok (.iconst 0, 1) := dk_3 (dk_at dksL_law_21 9 rfl rfl)
theorem dL_law_607 : decode cL_law 607 = .ok (.ireturn, 1) := dk_172 (dk_at dksL_law_21 10 rfl rfl)
theorem dL_law_608 : decode cL_law 608 = .ok (.iload 5, 2) := dk_21 5 (dk_at dksL_law_21 11 rfl rfl)
theorem dL_law_610 : decode cL_law 610 = .ok (.ifCond .ne 23, 3) := dk_154 0 23 (dk_at dksL_law_21 13 rfl rfl)
theorem dL_law_613 : decode cL_law 613 = .ok (.aload_n 3, 1) := dk_45 (dk_at dksL_law_21 16 rfl rfl)
theorem dL_law_614 : decode cL_law 614 = .ok (.getfield 13, 3) := dk_180 0 13 (dk_at dksL_law_21 17 rfl rfl)
theorem dL_law_617 : decode cL_law 617 = .ok (.iload 6, 2) := dk_21 6 (dk_at dksL_law_21 20 rfl rfl)
theorem dL_law_619 : decode cL_law 619 = .ok (.ifCond .eq 7, 3) := dk_153 0 7 (dk_at dksL_law_22 0 rfl rfl)
theorem dL_law_622 : decode cL_law 622 = .ok (.lconst 1, 1) := dk_10 (dk_at dksL_law_22 3 rfl rfl)
theorem dL_law_623 : decode cL_law 623 = .ok (.goto 4, 3) := dk_167 0 4 (dk_at dksL_law_22 4 rfl rfl)
theorem dL_law_626 : decode cL_law 626 = .ok (.lconst 0, 1) := dk_9 (dk_at dksL_law_22 7 rfl rfl)
theorem dL_law_627 : decode cL_law 627 = .ok (.lcmp, 1) := dk_148 (dk_at dksL_law_22 8 rfl rfl)
theorem dL_law_628 : decode cL_law 628 = .ok (.ifCond .eq 5, 3) := dk_153 0 5 (dk_at dksL_law_22 9 rfl rfl)
theorem dL_law_631 : decode cL_law 631 = .ok (.iconst 0, 1) := dk_3 (dk_at dksL_law_22 12 rfl rfl)
theorem dL_law_632 : decode cL_law 632 = .ok (.ireturn, 1) := dk_172 (dk_at dksL_law_22 13 rfl rfl)
theorem dL_law_633 : decode cL_law 633 = .ok (.goto 1558, 3) := dk_167 6 22 (dk_at dksL_law_22 14 rfl rfl)
theorem dL_law_636 : decode cL_law 636 = .ok (.aload_n 1, 1) := dk_43 (dk_at dksL_law_22 17 rfl rfl)
theorem dL_law_637 : decode cL_law 637 = .ok (.aload_n 0, 1) := dk_42 (dk_at dksL_law_22 18 rfl rfl)
theorem dL_law_638 : decode cL_law 638 = .ok (.iload 4, 2) := dk_21 4 (dk_at dksL_law_22 19 rfl rfl)
theorem dL_law_640 : decode cL_law 640 = .ok (.iconst 1, 1) := dk_4 (dk_at dksL_law_22 21 rfl rfl)
theorem dL_law_641 : decode cL_law 641 = .ok (.iadd, 1) := dk_96 (dk_at dksL_law_22 22 rfl rfl)
theorem dL_law_642 : decode cL_law 642 = .ok (.iaload, 1) := dk_46 (dk_at dksL_law_22 23 rfl rfl)
theorem dL_law_643 : decode cL_law 643 = .ok (.aload_n 0, 1) := dk_42 (dk_at dksL_law_23 0 rfl rfl)
theorem dL_law_644 : decode cL_law 644 = .ok (.iload 4, 2) := dk_21 4 (dk_at dksL_law_23 1 rfl rfl)
theorem dL_law_646 : decode cL_law 646 = .ok (.iconst 2, 1) := dk_5 (dk_at dksL_law_23 3 rfl rfl)
theorem dL_law_647 : decode cL_law 647 = .ok (.iadd, 1) := dk_96 (dk_at dksL_law_23 4 rfl rfl)
theorem dL_law_648 : decode cL_law 648 = .ok (.iaload, 1) := dk_46 (dk_at dksL_law_23 5 rfl rfl)
theorem dL_law_649 : decode cL_law 649 = .ok (.ifCond .eq 7, 3) := dk_153 0 7 (dk_at dksL_law_23 6 rfl rfl)
theorem dL_law_652 : decode cL_law 652 = .ok (.iconst 1, 1) := dk_4 (dk_at dksL_law_23 9 rfl rfl)
theorem dL_law_653 : decode cL_law 653 = .ok (.goto 4, 3) := dk_167 0 4 (dk_at dksL_law_23 10 rfl rfl)
theorem dL_law_656 : decode cL_law 656 = .ok (.iconst 0, 1) := dk_3 (dk_at dksL_law_23 13 rfl rfl)
theorem dL_law_657 : decode cL_law 657 = .ok (.aload_n 0, 1) := dk_42 (dk_at dksL_law_23 14 rfl rfl)
theorem dL_law_658 : decode cL_law 658 = .ok (.iload 4, 2) := dk_21 4 (dk_at dksL_law_23 15 rfl rfl)
theorem dL_law_660 : decode cL_law 660 = .ok (.iconst 3, 1) := dk_6 (dk_at dksL_law_23 17 rfl rfl)
theorem dL_law_661 : decode cL_law 661 = .ok (.iadd, 1) := dk_96 (dk_at dksL_law_23 18 rfl rfl)
theorem dL_law_662 : decode cL_law 662 = .ok (.iaload, 1) := dk_46 (dk_at dksL_law_23 19 rfl rfl)
theorem dL_law_663 : decode cL_law 663 = .ok (.ifCond .eq 7, 3) := dk_153 0 7 (dk_at dksL_law_23 20 rfl rfl)
theorem dL_law_666 : decode cL_law 666 = .ok (.iconst 1, 1) := dk_4 (dk_at dksL_law_23 23 rfl rfl)
theorem dL_law_667 : decode cL_law 667 = .ok (.goto 4, 3) := dk_167 0 4 (dk_at dksL_law_24 0 rfl rfl)
theorem dL_law_670 : decode cL_law 670 = .ok (.iconst 0, 1) := dk_3 (dk_at dksL_law_24 3 rfl rfl)
theorem dL_law_671 : decode cL_law 671 = .ok (.aload_n 3, 1) := dk_45 (dk_at dksL_law_24 4 rfl rfl)
theorem dL_law_672 : decode cL_law 672 = .ok (.invokestatic 150, 3) := dk_184 0 150 (dk_at dksL_law_24 5 rfl rfl)
theorem dL_law_675 : decode cL_law 675 = .ok (.istore 5, 2) := dk_54 5 (dk_at dksL_law_24 8 rfl rfl)
theorem dL_law_677 : decode cL_law 677 = .ok (.aload_n 2, 1) := dk_44 (dk_at dksL_law_24 10 rfl rfl)
theorem dL_law_678 : decode cL_law 678 = .ok (.aload_n 0, 1) := dk_42 (dk_at dksL_law_24 11 rfl rfl)
theorem dL_law_679 : decode cL_law 679 = .ok (.iload 4, 2) := dk_21 4 (dk_at dksL_law_24 12 rfl rfl)
theorem dL_law_681 : decode cL_law 681 = .ok (.iconst 1, 1) := dk_4 (dk_at dksL_law_24 14 rfl rfl)
theorem dL_law_682 : decode cL_law 682 = .ok (.iadd, 1) := dk_96 (dk_at dksL_law_24 15 rfl rfl)
theorem dL_law_683 : decode cL_law 683 = .ok (.iaload, 1) := dk_46 (dk_at dksL_law_24 16 rfl rfl)
theorem dL_law_684 : decode cL_law 684 = .ok (.aload_n 0, 1) := dk_42 (dk_at dksL_law_24 17 rfl rfl)
theorem dL_law_685 : decode cL_law 685 = .ok (.iload 4, 2) := dk_21 4 (dk_at dksL_law_24 18 rfl rfl)
theorem dL_law_687 : decode cL_law 687 = .ok (.iconst 2, 1) := dk_5 (dk_at dksL_law_24 20 rfl rfl)
theorem dL_law_688 : decode cL_law 688 = .ok (.iadd, 1) := dk_96 (dk_at dksL_law_24 21 rfl rfl)
theorem dL_law_689 : decode cL_law 689 = .ok (.iaload, 1) := dk_46 (dk_at dksL_law_24 22 rfl rfl)
theorem dL_law_690 : decode cL_law 690 = .ok (.ifCond .eq 7, 3) := dk_153 0 7 (dk_at dksL_law_25 0 rfl rfl)
theorem dL_law_693 : decode cL_law 693 = .ok (.iconst 1, 1) := dk_4 (dk_at dksL_law_25 3 rfl rfl)
theorem dL_law_694 : decode cL_law 694 = .ok (.goto 4, 3) := dk_167 0 4 (dk_at dksL_law_25 4 rfl rfl)
theorem dL_law_697 : decode cL_law 697 = .ok (.iconst 0, 1) := dk_3 (dk_at dksL_law_25 7 rfl rfl)
theorem dL_law_698 : decode cL_law 698 = .ok (.aload_n 0, 1) := dk_42 (dk_at dksL_law_25 8 rfl rfl)
theorem dL_law_699 : decode cL_law 699 = .ok (.iload 4, 2) := dk_21 4 (dk_at dksL_law_25 9 rfl rfl)
theorem dL_law_701 : decode cL_law 701 = .ok (.iconst 3, 1) := dk_6 (dk_at dksL_law_25 11 rfl rfl)
theorem dL_law_702 : decode cL_law 702 = .ok (.iadd, 1) := dk_96 (dk_at dksL_law_25 12 rfl rfl)
theorem dL_law_703 : decode cL_law 703 = .ok (.iaload, 1) := dk_46 (dk_at dksL_law_25 13 rfl rfl)
theorem dL_law_704 : decode cL_law 704 = .ok (.ifCond .eq 7, 3) := dk_153 0 7 (dk_at dksL_law_25 14 rfl rfl)
theorem dL_law_707 : decode cL_law 707 = .ok (.iconst 1, 1) := dk_4 (dk_at dksL_law_25 17 rfl rfl)
theorem dL_law_708 : decode cL_law 708 = .ok (.goto 4, 3) := dk_167 0 4 (dk_at dksL_law_25 18 rfl rfl)
theorem dL_law_711 : decode cL_law 711 = .ok (.iconst 0, 1) := dk_3 (dk_at dksL_law_25 21 rfl rfl)
theorem dL_law_712 : decode cL_law 712 = .ok (.invokevirtual 152, 3) := dk_182 0 152 (dk_at dksL_law_26 0 rfl rfl)
theorem dL_law_715 : decode cL_law 715 = .ok (.istore 6, 2) := dk_54 6 (dk_at dksL_law_26 3 rfl rfl)
theorem dL_law_717 : decode cL_law 717 = .ok (.aload_n 2, 1) := dk_44 (dk_at dksL_law_26 5 rfl rfl)
theorem dL_law_718 : decode cL_law 718 = .ok (.invokevirtual 130, 3) := dk_182 0 130 (dk_at dksL_law_26 6 rfl rfl)
theorem dL_law_721 : decode cL_law 721 = .ok (.iload 5, 2) := dk_21 5 (dk_at dksL_law_26 9 rfl rfl)
theorem dL_law_723 : decode cL_law 723 = .ok (.if_icmp .eq 5, 3) := dk_159 0 5 (dk_at dksL_law_26 11 rfl rfl)
theorem dL_law_726 : decode cL_law 726 = .ok (.iconst 0, 1) := dk_3 (dk_at dksL_law_26 14 rfl rfl)
theorem dL_law_727 : decode cL_law 727 = .ok (.ireturn, 1) := dk_172 (dk_at dksL_law_26 15 rfl rfl)
theorem dL_law_728 : decode cL_law 728 = .ok (.iload 5, 2) := dk_21 5 (dk_at dksL_law_26 16 rfl rfl)
theorem dL_law_730 : decode cL_law 730 = .ok (.ifCond .ne 16, 3) := dk_154 0 16 (dk_at dksL_law_26 18 rfl rfl)
theorem dL_law_733 : decode cL_law 733 = .ok (.aload_n 3, 1) := dk_45 (dk_at dksL_law_26 21 rfl rfl)
theorem dL_law_734 : decode cL_law 734 = .ok (.getfield 13, 3) := dk_180 0 13 (dk_at dksL_law_27 0 rfl rfl)
theorem dL_law_737 : decode cL_law 737 = .ok (.iload 6, 2) := dk_21 6 (dk_at dksL_law_27 3 rfl rfl)
theorem dL_law_739 : decode cL_law 739 = .ok (.i2l, 1) := dk_133 (dk_at dksL_law_27 5 rfl rfl)
theorem dL_law_740 : decode cL_law 740 = .ok (.lcmp, 1) := dk_148 (dk_at dksL_law_27 6 rfl rfl)
theorem dL_law_741 : decode cL_law 741 = .ok (.ifCond .eq 5, 3) := dk_153 0 5 (dk_at dksL_law_27 7 rfl rfl)
theorem dL_law_744 : decode cL_law 744 = .ok (.iconst 0, 1) := dk_3 (dk_at dksL_law_27 10 rfl rfl)
theorem dL_law_745 : decode cL_law 745 = .ok (.ireturn, 1) := dk_172 (dk_at dksL_law_27 11 rfl rfl)
theorem dL_law_746 : decode cL_law 746 = .ok (.goto 1445, 3) := dk_167 5 165 (dk_at dksL_law_27 12 rfl rfl)
theorem dL_law_749 : decode cL_law 749 = .ok (.aload_n 1, 1) := dk_43 (dk_at dksL_law_27 15 rfl rfl)
theorem dL_law_750 : decode cL_law 750 = .ok (.aload_n 0, 1) := dk_42 (dk_at dksL_law_27 16 rfl rfl)
theorem dL_law_751 : decode cL_law 751 = .ok (.iload 4, 2) := dk_21 4 (dk_at dksL_law_27 17 rfl rfl)
theorem dL_law_753 : decode cL_law 753 = .ok (.iconst 1, 1) := dk_4 (dk_at dksL_law_27 19 rfl rfl)
theorem dL_law_754 : decode cL_law 754 = .ok (.iadd, 1) := dk_96 (dk_at dksL_law_27 20 rfl rfl)
theorem dL_law_755 : decode cL_law 755 = .ok (.iaload, 1) := dk_46 (dk_at dksL_law_27 21 rfl rfl)
theorem dL_law_756 : decode cL_law 756 = .ok (.aload_n 0, 1) := dk_42 (dk_at dksL_law_27 22 rfl rfl)
theorem dL_law_757 : decode cL_law 757 = .ok (.iload 4, 2) := dk_21 4 (dk_at dksL_law_28 0 rfl rfl)
theorem dL_law_759 : decode cL_law 759 = .ok (.iconst 2, 1) := dk_5 (dk_at dksL_law_28 2 rfl rfl)
theorem dL_law_760 : decode cL_law 760 = .ok (.iadd, 1) := dk_96 (dk_at dksL_law_28 3 rfl rfl)
theorem dL_law_761 : decode cL_law 761 = .ok (.iaload, 1) := dk_46 (dk_at dksL_law_28 4 rfl rfl)
theorem dL_law_762 : decode cL_law 762 = .ok (.ifCond .eq 7, 3) := dk_153 0 7 (dk_at dksL_law_28 5 rfl rfl)
theorem dL_law_765 : decode cL_law 765 = .ok (.iconst 1, 1) := dk_4 (dk_at dksL_law_28 8 rfl rfl)
theorem dL_law_766 : decode cL_law 766 = .ok (.goto 4, 3) := dk_167 0 4 (dk_at dksL_law_28 9 rfl rfl)
theorem dL_law_769 : decode cL_law 769 = .ok (.iconst 0, 1) := dk_3 (dk_at dksL_law_28 12 rfl rfl)
theorem dL_law_770 : decode cL_law 770 = .ok (.aload_n 3, 1) := dk_45 (dk_at dksL_law_28 13 rfl rfl)
theorem dL_law_771 : decode cL_law 771 = .ok (.invokestatic 153, 3) := dk_184 0 153 (dk_at dksL_law_28 14 rfl rfl)
theorem dL_law_774 : decode cL_law 774 = .ok (.istore 5, 2) := dk_54 5 (dk_at dksL_law_28 17 rfl rfl)
theorem dL_law_776 : decode cL_law 776 = .ok (.aload_n 2, 1) := dk_44 (dk_at dksL_law_28 19 rfl rfl)
theorem dL_law_777 : decode cL_law 777 = .ok (.aload_n 0, 1) := dk_42 (dk_at dksL_law_28 20 rfl rfl)
theorem dL_law_778 : decode cL_law 778 = .ok (.iload 4, 2) := dk_21 4 (dk_at dksL_law_28 21 rfl rfl)
theorem dL_law_780 : decode cL_law 780 = .ok (.iconst 1, 1) := dk_4 (dk_at dksL_law_28 23 rfl rfl)
theorem dL_law_781 : decode cL_law 781 = .ok (.iadd, 1) := dk_96 (dk_at dksL_law_29 0 rfl rfl)
theorem dL_law_782 : decode cL_law 782 = .ok (.iaload, 1) := dk_46 (dk_at dksL_law_29 1 rfl rfl)
theorem dL_law_783 : decode cL_law 783 = .ok (.aload_n 0, 1) := dk_42 (dk_at dksL_law_29 2 rfl rfl)
theorem dL_law_784 : decode cL_law 784 = .ok (.iload 4, 2) := dk_21 4 (dk_at dksL_law_29 3 rfl rfl)
theorem dL_law_786 : decode cL_law 786 = .ok (.iconst 2, 1) := dk_5 (dk_at dksL_law_29 5 rfl rfl)
theorem dL_law_787 : decode cL_law 787 = .ok (.iadd, 1) := dk_96 (dk_at dksL_law_29 6 rfl rfl)
theorem dL_law_788 : decode cL_law 788 = .ok (.iaload, 1) := dk_46 (dk_at dksL_law_29 7 rfl rfl)
theorem dL_law_789 : decode cL_law 789 = .ok (.ifCond .eq 7, 3) := dk_153 0 7 (dk_at dksL_law_29 8 rfl rfl)
theorem dL_law_792 : decode cL_law 792 = .ok (.iconst 1, 1) := dk_4 (dk_at dksL_law_29 11 rfl rfl)
theorem dL_law_793 : decode cL_law 793 = .ok (.goto 4, 3) := dk_167 0 4 (dk_at dksL_law_29 12 rfl rfl)
theorem dL_law_796 : decode cL_law 796 = .ok (.iconst 0, 1) := dk_3 (dk_at dksL_law_29 15 rfl rfl)
theorem dL_law_797 : decode cL_law 797 = .ok (.invokevirtual 155, 3) := dk_182 0 155 (dk_at dksL_law_29 16 rfl rfl)
theorem dL_law_800 : decode cL_law 800 = .ok (.istore 6, 2) := dk_54 6 (dk_at dksL_law_29 19 rfl rfl)
theorem dL_law_802 : decode cL_law 802 = .ok (.aload_n 2, 1) := dk_44 (dk_at dksL_law_29 21 rfl rfl)
theorem dL_law_803 : decode cL_law 803 = .ok (.invokevirtual 130, 3) := dk_182 0 130 (dk_at dksL_law_30 0 rfl rfl)
theorem dL_law_806 : decode cL_law 806 = .ok (.iload 5, 2) := dk_21 5 (dk_at dksL_law_30 3 rfl rfl)
theorem dL_law_808 : decode cL_law 808 = .ok (.if_icmp .eq 5, 3) := dk_159 0 5 (dk_at dksL_law_30 5 rfl rfl)
theorem dL_law_811 : decode cL_law 811 = .ok (.iconst 0, 1) := dk_3 (dk_at dksL_law_30 8 rfl rfl)
theorem dL_law_812 : decode cL_law 812 = .ok (.ireturn, 1) := dk_172 (dk_at dksL_law_30 9 rfl rfl)
theorem dL_law_813 : decode cL_law 813 = .ok (.iload 5, 2) := dk_21 5 (dk_at dksL_law_30 10 rfl rfl)
theorem dL_law_815 : decode cL_law 815 = .ok (.ifCond .ne 16, 3) := dk_154 0 16 (dk_at dksL_law_30 12 rfl rfl)
theorem dL_law_818 : decode cL_law 818 = .ok (.aload_n 3, 1) := dk_45 (dk_at dksL_law_30 15 rfl rfl)
theorem dL_law_819 : decode cL_law 819 = .ok (.getfield 13, 3) := dk_180 0 13 (dk_at dksL_law_30 16 rfl rfl)
theorem dL_law_822 : decode cL_law 822 = .ok (.iload 6, 2) := dk_21 6 (dk_at dksL_law_30 19 rfl rfl)
theorem dL_law_824 : decode cL_law 824 = .ok (.i2l, 1) := dk_133 (dk_at dksL_law_30 21 rfl rfl)
theorem dL_law_825 : decode cL_law 825 = .ok (.lcmp, 1) := dk_148 (dk_at dksL_law_30 22 rfl rfl)
theorem dL_law_826 : decode cL_law 826 = .ok (.ifCond .eq 5, 3) := dk_153 0 5 (dk_at dksL_law_31 0 rfl rfl)
theorem dL_law_829 : decode cL_law 829 = .ok (.iconst 0, 1) := dk_3 (dk_at dksL_law_31 3 rfl rfl)
theorem dL_law_830 : decode cL_law 830 = .ok (.ireturn, 1) := dk_172 (dk_at dksL_law_31 4 rfl rfl)
theorem dL_law_831 : decode cL_law 831 = .ok (.goto 1360, 3) := dk_167 5 80 (dk_at dksL_law_31 5 rfl rfl)
theorem dL_law_834 : decode cL_law 834 = .ok (.aload_n 1, 1) := dk_43 (dk_at dksL_law_31 8 rfl rfl)
theorem dL_law_835 : decode cL_law 835 = .ok (.aload_n 0, 1) := dk_42 (dk_at dksL_law_31 9 rfl rfl)
theorem dL_law_836 : decode cL_law 836 = .ok (.iload 4, 2) := dk_21 4 (dk_at dksL_law_31 10 rfl rfl)
theorem dL_law_838 : decode cL_law 838 = .ok (.iconst 1, 1) := dk_4 (dk_at dksL_law_31 12 rfl rfl)
theorem dL_law_839 : decode cL_law 839 = .ok (.iadd, 1) := dk_96 (dk_at dksL_law_31 13 rfl rfl)
theorem dL_law_840 : decode cL_law 840 = .ok (.iaload, 1) := dk_46 (dk_at dksL_law_31 14 rfl rfl)
theorem dL_law_841 : decode cL_law 841 = .ok (.aload_n 0, 1) := dk_42 (dk_at dksL_law_31 15 rfl rfl)
theorem dL_law_842 : decode cL_law 842 = .ok (.iload 4, 2) := dk_21 4 (dk_at dksL_law_31 16 rfl rfl)
theorem dL_law_844 : decode cL_law 844 = .ok (.iconst 2, 1) := dk_5 (dk_at dksL_law_31 18 rfl rfl)
theorem dL_law_845 : decode cL_law 845 = .ok (.iadd, 1) := dk_96 (dk_at dksL_law_31 19 rfl rfl)
theorem dL_law_846 : decode cL_law 846 = .ok (.iaload, 1) := dk_46 (dk_at dksL_law_31 20 rfl rfl)
theorem dL_law_847 : decode cL_law 847 = .ok (.ifCond .eq 7, 3) := dk_153 0 7 (dk_at dksL_law_31 21 rfl rfl)
theorem dL_law_850 : decode cL_law 850 = .ok (.iconst 1, 1) := dk_4 (dk_at dksL_law_32 0 rfl rfl)
theorem dL_law_851 : decode cL_law 851 = .ok (.goto 4, 3) := dk_167 0 4 (dk_at dksL_law_32 1 rfl rfl)
theorem dL_law_854 : decode cL_law 854 = .ok (.iconst 0, 1) := dk_3 (dk_at dksL_law_32 4 rfl rfl)
theorem dL_law_855 : decode cL_law 855 = .ok (.aload_n 3, 1) := dk_45 (dk_at dksL_law_32 5 rfl rfl)
theorem dL_law_856 : decode cL_law 856 = .ok (.invokestatic 156, 3) := dk_184 0 156 (dk_at dksL_law_32 6 rfl rfl)
theorem dL_law_859 : decode cL_law 859 = .ok (.istore 5, 2) := dk_54 5 (dk_at dksL_law_32 9 rfl rfl)
theorem dL_law_861 : decode cL_law 861 = .ok (.aload_n 2, 1) := dk_44 (dk_at dksL_law_32 11 rfl rfl)
theorem dL_law_862 : decode cL_law 862 = .ok (.aload_n 0, 1) := dk_42 (dk_at dksL_law_32 12 rfl rfl)
theorem dL_law_863 : decode cL_law 863 = .ok (.iload 4, 2) := dk_21 4 (dk_at dksL_law_32 13 rfl rfl)
theorem dL_law_865 : decode cL_law 865 = .ok (.iconst 1, 1) := dk_4 (dk_at dksL_law_32 15 rfl rfl)
theorem dL_law_866 : decode cL_law 866 = .ok (.iadd, 1) := dk_96 (dk_at dksL_law_32 16 rfl rfl)
theorem dL_law_867 : decode cL_law 867 = .ok (.iaload, 1) := dk_46 (dk_at dksL_law_32 17 rfl rfl)
theorem dL_law_868 : decode cL_law 868 = .ok (.aload_n 0, 1) := dk_42 (dk_at dksL_law_32 18 rfl rfl)
theorem dL_law_869 : decode cL_law 869 = .ok (.iload 4, 2) := dk_21 4 (dk_at dksL_law_32 19 rfl rfl)
theorem dL_law_871 : decode cL_law 871 = .ok (.iconst 2, 1) := dk_5 (dk_at dksL_law_32 21 rfl rfl)
theorem dL_law_872 : decode cL_law 872 = .ok (.iadd, 1) := dk_96 (dk_at dksL_law_32 22 rfl rfl)
theorem dL_law_873 : decode cL_law 873 = .ok (.iaload, 1) := dk_46 (dk_at dksL_law_32 23 rfl rfl)
theorem dL_law_874 : decode cL_law 874 = .ok (.ifCond .eq 7, 3) := dk_153 0 7 (dk_at dksL_law_33 0 rfl rfl)
theorem dL_law_877 : decode cL_law 877 = .ok (.iconst 1, 1) := dk_4 (dk_at dksL_law_33 3 rfl rfl)
theorem dL_law_878 : decode cL_law 878 = .ok (.goto 4, 3) := dk_167 0 4 (dk_at dksL_law_33 4 rfl rfl)
theorem dL_law_881 : decode cL_law 881 = .ok (.iconst 0, 1) := dk_3 (dk_at dksL_law_33 7 rfl rfl)
theorem dL_law_882 : decode cL_law 882 = .ok (.invokevirtual 158, 3) := dk_182 0 158 (dk_at dksL_law_33 8 rfl rfl)
theorem dL_law_885 : decode cL_law 885 = .ok (.istore 6, 2) := dk_54 6 (dk_at dksL_law_33 11 rfl rfl)
theorem dL_law_887 : decode cL_law 887 = .ok (.aload_n 2, 1) := dk_44 (dk_at dksL_law_33 13 rfl rfl)
theorem dL_law_888 : decode cL_law 888 = .ok (.invokevirtual 130, 3) := dk_182 0 130 (dk_at dksL_law_33 14 rfl rfl)
theorem dL_law_891 : decode cL_law 891 = .ok (.iload 5, 2) := dk_21 5 (dk_at dksL_law_33 17 rfl rfl)
theorem dL_law_893 : decode cL_law 893 = .ok (.if_icmp .eq 5, 3) := dk_159 0 5 (dk_at dksL_law_33 19 rfl rfl)
theorem dL_law_896 : decode cL_law 896 = .ok (.iconst 0, 1) := dk_3 (dk_at dksL_law_33 22 rfl rfl)
theorem dL_law_897 : decode cL_law 897 = .ok (.ireturn, 1) := dk_172 (dk_at dksL_law_33 23 rfl rfl)
theorem dL_law_898 : decode cL_law 898 = .ok (.iload 5, 2) := dk_21 5 (dk_at dksL_law_34 0 rfl rfl)
theorem dL_law_900 : decode cL_law 900 = .ok (.ifCond .ne 16, 3) := dk_154 0 16 (dk_at dksL_law_34 2 rfl rfl)
theorem dL_law_903 : decode cL_law 903 = .ok (.aload_n 3, 1) := dk_45 (dk_at dksL_law_34 5 rfl rfl)
theorem dL_law_904 : decode cL_law 904 = .ok (.getfield 13, 3) := dk_180 0 13 (dk_at dksL_law_34 6 rfl rfl)
theorem dL_law_907 : decode cL_law 907 = .ok (.iload 6, 2) := dk_21 6 (dk_at dksL_law_34 9 rfl rfl)
theorem dL_law_909 : decode cL_law 909 = .ok (.i2l, 1) := dk_133 (dk_at dksL_law_34 11 rfl rfl)
theorem dL_law_910 : decode cL_law 910 = .ok (.lcmp, 1) := dk_148 (dk_at dksL_law_34 12 rfl rfl)
theorem dL_law_911 : decode cL_law 911 = .ok (.ifCond .eq 5, 3) := dk_153 0 5 (dk_at dksL_law_34 13 rfl rfl)
theorem dL_law_914 : decode cL_law 914 = .ok (.iconst 0, 1) := dk_3 (dk_at dksL_law_34 16 rfl rfl)
theorem dL_law_915 : decode cL_law 915 = .ok (.ireturn, 1) := dk_172 (dk_at dksL_law_34 17 rfl rfl)
theorem dL_law_916 : decode cL_law 916 = .ok (.goto 1275, 3) := dk_167 4 251 (dk_at dksL_law_34 18 rfl rfl)
theorem dL_law_919 : decode cL_law 919 = .ok (.aload_n 1, 1) := dk_43 (dk_at dksL_law_34 21 rfl rfl)
theorem dL_law_920 : decode cL_law 920 = .ok (.aload_n 0, 1) := dk_42 (dk_at dksL_law_34 22 rfl rfl)
theorem dL_law_921 : decode cL_law 921 = .ok (.iload 4, 2) := dk_21 4 (dk_at dksL_law_35 0 rfl rfl)
theorem dL_law_923 : decode cL_law 923 = .ok (.iconst 1, 1) := dk_4 (dk_at dksL_law_35 2 rfl rfl)
theorem dL_law_924 : decode cL_law 924 = .ok (.iadd, 1) := dk_96 (dk_at dksL_law_35 3 rfl rfl)
theorem dL_law_925 : decode cL_law 925 = .ok (.iaload, 1) := dk_46 (dk_at dksL_law_35 4 rfl rfl)
theorem dL_law_926 : decode cL_law 926 = .ok (.aload_n 0, 1) := dk_42 (dk_at dksL_law_35 5 rfl rfl)
theorem dL_law_927 : decode cL_law 927 = .ok (.iload 4, 2) := dk_21 4 (dk_at dksL_law_35 6 rfl rfl)
theorem dL_law_929 : decode cL_law 929 = .ok (.iconst 2, 1) := dk_5 (dk_at dksL_law_35 8 rfl rfl)
theorem dL_law_930 : decode cL_law 930 = .ok (.iadd, 1) := dk_96 (dk_at dksL_law_35 9 rfl rfl)
theorem dL_law_931 : decode cL_law 931 = .ok (.iaload, 1) := dk_46 (dk_at dksL_law_35 10 rfl rfl)
theorem dL_law_932 : decode cL_law 932 = .ok (.aload_n 3, 1) := dk_45 (dk_at dksL_law_35 11 rfl rfl)
theorem dL_law_933 : decode cL_law 933 = .ok (.invokestatic 159, 3) := dk_184 0 159 (dk_at dksL_law_35 12 rfl rfl)
theorem dL_law_936 : decode cL_law 936 = .ok (.istore 5, 2) := dk_54 5 (dk_at dksL_law_35 15 rfl rfl)
theorem dL_law_938 : decode cL_law 938 = .ok (.aload_n 2, 1) := dk_44 (dk_at dksL_law_35 17 rfl rfl)
theorem dL_law_939 : decode cL_law 939 = .ok (.aload_n 0, 1) := dk_42 (dk_at dksL_law_35 18 rfl rfl)
theorem dL_law_940 : decode cL_law 940 = .ok (.iload 4, 2) := dk_21 4 (dk_at dksL_law_35 19 rfl rfl)
theorem dL_law_942 : decode cL_law 942 = .ok (.iconst 1, 1) := dk_4 (dk_at dksL_law_35 21 rfl rfl)
theorem dL_law_943 : decode cL_law 943 = .ok (.iadd, 1) := dk_96 (dk_at dksL_law_35 22 rfl rfl)
theorem dL_law_944 : decode cL_law 944 = .ok (.iaload, 1) := dk_46 (dk_at dksL_law_35 23 rfl rfl)
theorem dL_law_945 : decode cL_law 945 = .ok (.aload_n 0, 1) := dk_42 (dk_at dksL_law_36 0 rfl rfl)
theorem dL_law_946 : decode cL_law 946 = .ok (.iload 4, 2) := dk_21 4 (dk_at dksL_law_36 1 rfl rfl)
theorem dL_law_948 : decode cL_law 948 = .ok (.iconst 2, 1) := dk_5 (dk_at dksL_law_36 3 rfl rfl)
theorem dL_law_949 : decode cL_law 949 = .ok (.iadd, 1) := dk_96 (dk_at dksL_law_36 4 rfl rfl)
theorem dL_law_950 : decode cL_law 950 = .ok (.iaload, 1) := dk_46 (dk_at dksL_law_36 5 rfl rfl)
theorem dL_law_951 : decode cL_law 951 = .ok (.invokevirtual 162, 3) := dk_182 0 162 (dk_at dksL_law_36 6 rfl rfl)
theorem dL_law_954 : decode cL_law 954 = .ok (.istore 6, 2) := dk_54 6 (dk_at dksL_law_36 9 rfl rfl)
theorem dL_law_956 : decode cL_law 956 = .ok (.aload_n 2, 1) := dk_44 (dk_at dksL_law_36 11 rfl rfl)
theorem dL_law_957 : decode cL_law 957 = .ok (.invokevirtual 130, 3) := dk_182 0 130 (dk_at dksL_law_36 12 rfl rfl)
theorem dL_law_960 : decode cL_law 960 = .ok (.iload 5, 2) := dk_21 5 (dk_at dksL_law_36 15 rfl rfl)
theorem dL_law_962 : decode cL_law 962 = .ok (.if_icmp .eq 5, 3) := dk_159 0 5 (dk_at dksL_law_36 17 rfl rfl)
theorem dL_law_965 : decode cL_law 965 = .ok (.iconst 0, 1) := dk_3 (dk_at dksL_law_36 20 rfl rfl)
theorem dL_law_966 : decode cL_law 966 = .ok (.ireturn, 1) := dk_172 (dk_at dksL_law_36 21 rfl rfl)
theorem dL_law_967 : decode cL_law 967 = .ok (.iload 5, 2) := dk_21 5 (dk_at dksL_law_36 22 rfl rfl)
theorem dL_law_969 : decode cL_law 969 = .ok (.ifCond .ne 16, 3) := dk_154 0 16 (dk_at dksL_law_37 0 rfl rfl)
theorem dL_law_972 : decode cL_law 972 = .ok (.aload_n 3, 1) := dk_45 (dk_at dksL_law_37 3 rfl rfl)
theorem dL_law_973 : decode cL_law 973 = .ok (.getfield 13, 3) := dk_180 0 13 (dk_at dksL_law_37 4 rfl rfl)
theorem dL_law_976 : decode cL_law 976 = .ok (.iload 6, 2) := dk_21 6 (dk_at dksL_law_37 7 rfl rfl)
theorem dL_law_978 : decode cL_law 978 = .ok (.i2l, 1) := dk_133 (dk_at dksL_law_37 9 rfl rfl)
theorem dL_law_979 : decode cL_law 979 = .ok (.lcmp, 1) := dk_148 (dk_at dksL_law_37 10 rfl rfl)
theorem dL_law_980 : decode cL_law 980 = .ok (.ifCond .eq 5, 3) := dk_153 0 5 (dk_at dksL_law_37 11 rfl rfl)
theorem dL_law_983 : decode cL_law 983 = .ok (.iconst 0, 1) := dk_3 (dk_at dksL_law_37 14 rfl rfl)
theorem dL_law_984 : decode cL_law 984 = .ok (.ireturn, 1) := dk_172 (dk_at dksL_law_37 15 rfl rfl)
theorem dL_law_985 : decode cL_law 985 = .ok (.goto 1206, 3) := dk_167 4 182 (dk_at dksL_law_37 16 rfl rfl)
theorem dL_law_988 : decode cL_law 988 = .ok (.aload_n 1, 1) := dk_43 (dk_at dksL_law_37 19 rfl rfl)
theorem dL_law_989 : decode cL_law 989 = .ok (.aload_n 0, 1) := dk_42 (dk_at dksL_law_37 20 rfl rfl)
theorem dL_law_990 : decode cL_law 990 = .ok (.iload 4, 2) := dk_21 4 (dk_at dksL_law_37 21 rfl rfl)
theorem dL_law_992 : decode cL_law 992 = .ok (.iconst 1, 1) := dk_4 (dk_at dksL_law_37 23 rfl rfl)
theorem dL_law_993 : decode cL_law 993 = .ok (.iadd, 1) := dk_96 (dk_at dksL_law_38 0 rfl rfl)
theorem dL_law_994 : decode cL_law 994 = .ok (.iaload, 1) := dk_46 (dk_at dksL_law_38 1 rfl rfl)
theorem dL_law_995 : decode cL_law 995 = .ok (.aload_n 3, 1) := dk_45 (dk_at dksL_law_38 2 rfl rfl)
theorem dL_law_996 : decode cL_law 996 = .ok (.invokestatic 163, 3) := dk_184 0 163 (dk_at dksL_law_38 3 rfl rfl)
theorem dL_law_999 : decode cL_law 999 = .ok (.istore 5, 2) := dk_54 5 (dk_at dksL_law_38 6 rfl rfl)
theorem dL_law_1001 : decode cL_law 1001 = .ok (.aload_n 2, 1) := dk_44 (dk_at dksL_law_38 8 rfl rfl)
theorem dL_law_1002 : decode cL_law 1002 = .ok (.aload_n 0, 1) := dk_42 (dk_at dksL_law_38 9 rfl rfl)
theorem dL_law_1003 : decode cL_law 1003 = .ok (.iload 4, 2) := dk_21 4 (dk_at dksL_law_38 10 rfl rfl)
theorem dL_law_1005 : decode cL_law 1005 = .ok (.iconst 1, 1) := dk_4 (dk_at dksL_law_38 12 rfl rfl)
theorem dL_law_1006 : decode cL_law 1006 = .ok (.iadd, 1) := dk_96 (dk_at dksL_law_38 13 rfl rfl)
theorem dL_law_1007 : decode cL_law 1007 = .ok (.iaload, 1) := dk_46 (dk_at dksL_law_38 14 rfl rfl)
theorem dL_law_1008 : decode cL_law 1008 = .ok (.invokevirtual 165, 3) := dk_182 0 165 (dk_at dksL_law_38 15 rfl rfl)
theorem dL_law_1011 : decode cL_law 1011 = .ok (.istore 6, 2) := dk_54 6 (dk_at dksL_law_38 18 rfl rfl)
theorem dL_law_1013 : decode cL_law 1013 = .ok (.aload_n 2, 1) := dk_44 (dk_at dksL_law_38 20 rfl rfl)
theorem dL_law_1014 : decode cL_law 1014 = .ok (.invokevirtual 130, 3) := dk_182 0 130 (dk_at dksL_law_38 21 rfl rfl)
theorem dL_law_1017 : decode cL_law 1017 = .ok (.iload 5, 2) := dk_21 5 (dk_at dksL_law_39 0 rfl rfl)
theorem dL_law_1019 : decode cL_law 1019 = .ok (.if_icmp .eq 5, 3) := dk_159 0 5 (dk_at dksL_law_39 2 rfl rfl)
theorem dL_law_1022 : decode cL_law 1022 = .ok (.iconst 0, 1) := dk_3 (dk_at dksL_law_39 5 rfl rfl)
theorem dL_law_1023 : decode cL_law 1023 = .ok (.ireturn, 1) := dk_172 (dk_at dksL_law_39 6 rfl rfl)
theorem dL_law_1024 : decode cL_law 1024 = .ok (.iload 5, 2) := dk_21 5 (dk_at dksL_law_39 7 rfl rfl)
theorem dL_law_1026 : decode cL_law 1026 = .ok (.ifCond .ne 16, 3) := dk_154 0 16 (dk_at dksL_law_39 9 rfl rfl)
theorem dL_law_1029 : decode cL_law 1029 = .ok (.aload_n 3, 1) := dk_45 (dk_at dksL_law_39 12 rfl rfl)
theorem dL_law_1030 : decode cL_law 1030 = .ok (.getfield 13, 3) := dk_180 0 13 (dk_at dksL_law_39 13 rfl rfl)
theorem dL_law_1033 : decode cL_law 1033 = .ok (.iload 6, 2) := dk_21 6 (dk_at dksL_law_39 16 rfl rfl)
theorem dL_law_1035 : decode cL_law 1035 = .ok (.i2l, 1) := dk_133 (dk_at dksL_law_39 18 rfl rfl)
theorem dL_law_1036 : decode cL_law 1036 = .ok (.lcmp, 1) := dk_148 (dk_at dksL_law_39 19 rfl rfl)
theorem dL_law_1037 : decode cL_law 1037 = .ok (.ifCond .eq 5, 3) := dk_153 0 5 (dk_at dksL_law_39 20 rfl rfl)
theorem dL_law_1040 : decode cL_law 1040 = .ok (.iconst 0, 1) := dk_3 (dk_at dksL_law_39 23 rfl rfl)
theorem dL_law_1041 : decode cL_law 1041 = .ok (.ireturn, 1) := dk_172 (dk_at dksL_law_40 0 rfl rfl)
theorem dL_law_1042 : decode cL_law 1042 = .ok (.goto 1149, 3) := dk_167 4 125 (dk_at dksL_law_40 1 rfl rfl)
theorem dL_law_1045 : decode cL_law 1045 = .ok (.aload_n 1, 1) := dk_43 (dk_at dksL_law_40 4 rfl rfl)
theorem dL_law_1046 : decode cL_law 1046 = .ok (.aload_n 0, 1) := dk_42 (dk_at dksL_law_40 5 rfl rfl)
theorem dL_law_1047 : decode cL_law 1047 = .ok (.iload 4, 2) := dk_21 4 (dk_at dksL_law_40 6 rfl rfl)
theorem dL_law_1049 : decode cL_law 1049 = .ok (.iconst 1, 1) := dk_4 (dk_at dksL_law_40 8 rfl rfl)
theorem dL_law_1050 : decode cL_law 1050 = .ok (.iadd, 1) := dk_96 (dk_at dksL_law_40 9 rfl rfl)
theorem dL_law_1051 : decode cL_law 1051 = .ok (.iaload, 1) := dk_46 (dk_at dksL_law_40 10 rfl rfl)
theorem dL_law_1052 : decode cL_law 1052 = .ok (.aload_n 0, 1) := dk_42 (dk_at dksL_law_40 11 rfl rfl)
theorem dL_law_1053 : decode cL_law 1053 = .ok (.iload 4, 2) := dk_21 4 (dk_at dksL_law_40 12 rfl rfl)
theorem dL_law_1055 : decode cL_law 1055 = .ok (.iconst 2, 1) := dk_5 (dk_at dksL_law_40 14 rfl rfl)
theorem dL_law_1056 : decode cL_law 1056 = .ok (.iadd, 1) := dk_96 (dk_at dksL_law_40 15 rfl rfl)
theorem dL_law_1057 : decode cL_law 1057 = .ok (.iaload, 1) := dk_46 (dk_at dksL_law_40 16 rfl rfl)
theorem dL_law_1058 : decode cL_law 1058 = .ok (.aload_n 3, 1) := dk_45 (dk_at dksL_law_40 17 rfl rfl)
theorem dL_law_1059 : decode cL_law 1059 = .ok (.invokestatic 166, 3) := dk_184 0 166 (dk_at dksL_law_40 18 rfl rfl)
theorem dL_law_1062 : decode cL_law 1062 = .ok (.istore 5, 2) := dk_54 5 (dk_at dksL_law_40 21 rfl rfl)
theorem dL_law_1064 : decode cL_law 1064 = .ok (.aload_n 2, 1) := dk_44 (dk_at dksL_law_40 23 rfl rfl)
theorem dL_law_1065 : decode cL_law 1065 = .ok (.aload_n 0, 1) := dk_42 (dk_at dksL_law_41 0 rfl rfl)
theorem dL_law_1066 : decode cL_law 1066 = .ok (.iload 4, 2) := dk_21 4 (dk_at dksL_law_41 1 rfl rfl)
theorem dL_law_1068 : decode cL_law 1068 = .ok (.iconst 1, 1) := dk_4 (dk_at dksL_law_41 3 rfl rfl)
theorem dL_law_1069 : decode cL_law 1069 = .ok (.iadd, 1) := dk_96 (dk_at dksL_law_41 4 rfl rfl)
theorem dL_law_1070 : decode cL_law 1070 = .ok (.iaload, 1) := dk_46 (dk_at dksL_law_41 5 rfl rfl)
theorem dL_law_1071 : decode cL_law 1071 = .ok (.aload_n 0, 1) := dk_42 (dk_at dksL_law_41 6 rfl rfl)
theorem dL_law_1072 : decode cL_law 1072 = .ok (.iload 4, 2) := dk_21 4 (dk_at dksL_law_41 7 rfl rfl)
theorem dL_law_1074 : decode cL_law 1074 = .ok (.iconst 2, 1) := dk_5 (dk_at dksL_law_41 9 rfl rfl)
theorem dL_law_1075 : decode cL_law 1075 = .ok (.iadd, 1) := dk_96 (dk_at dksL_law_41 10 rfl rfl)
theorem dL_law_1076 : decode cL_law 1076 = .ok (.iaload, 1) := dk_46 (dk_at dksL_law_41 11 rfl rfl)
theorem dL_law_1077 : decode cL_law 1077 = .ok (.invokevirtual 168, 3) := dk_182 0 168 (dk_at dksL_law_41 12 rfl rfl)
theorem dL_law_1080 : decode cL_law 1080 = .ok (.istore 6, 2) := dk_54 6 (dk_at dksL_law_41 15 rfl rfl)
theorem dL_law_1082 : decode cL_law 1082 = .ok (.aload_n 2, 1) := dk_44 (dk_at dksL_law_41 17 rfl rfl)
theorem dL_law_1083 : decode cL_law 1083 = .ok (.invokevirtual 130, 3) := dk_182 0 130 (dk_at dksL_law_41 18 rfl rfl)
theorem dL_law_1086 : decode cL_law 1086 = .ok (.iload 5, 2) := dk_21 5 (dk_at dksL_law_41 21 rfl rfl)
theorem dL_law_1088 : decode cL_law 1088 = .ok (.if_icmp .eq 5, 3) := dk_159 0 5 (dk_at dksL_law_42 0 rfl rfl)
theorem dL_law_1091 : decode cL_law 1091 = .ok (.iconst 0, 1) := dk_3 (dk_at dksL_law_42 3 rfl rfl)
theorem dL_law_1092 : decode cL_law 1092 = .ok (.ireturn, 1) := dk_172 (dk_at dksL_law_42 4 rfl rfl)
theorem dL_law_1093 : decode cL_law 1093 = .ok (.iload 5, 2) := dk_21 5 (dk_at dksL_law_42 5 rfl rfl)
theorem dL_law_1095 : decode cL_law 1095 = .ok (.ifCond .ne 16, 3) := dk_154 0 16 (dk_at dksL_law_42 7 rfl rfl)
theorem dL_law_1098 : decode cL_law 1098 = .ok (.aload_n 3, 1) := dk_45 (dk_at dksL_law_42 10 rfl rfl)
theorem dL_law_1099 : decode cL_law 1099 = .ok (.getfield 13, 3) := dk_180 0 13 (dk_at dksL_law_42 11 rfl rfl)
theorem dL_law_1102 : decode cL_law 1102 = .ok (.iload 6, 2) := dk_21 6 (dk_at dksL_law_42 14 rfl rfl)
theorem dL_law_1104 : decode cL_law 1104 = .ok (.i2l, 1) := dk_133 (dk_at dksL_law_42 16 rfl rfl)
theorem dL_law_1105 : decode cL_law 1105 = .ok (.lcmp, 1) := dk_148 (dk_at dksL_law_42 17 rfl rfl)
theorem dL_law_1106 : decode cL_law 1106 = .ok (.ifCond .eq 5, 3) := dk_153 0 5 (dk_at dksL_law_42 18 rfl rfl)
theorem dL_law_1109 : decode cL_law 1109 = .ok (.iconst 0, 1) := dk_3 (dk_at dksL_law_42 21 rfl rfl)
theorem dL_law_1110 : decode cL_law 1110 = .ok (.ireturn, 1) := dk_172 (dk_at dksL_law_42 22 rfl rfl)
theorem dL_law_1111 : decode cL_law 1111 = .ok (.goto 1080, 3) := dk_167 4 56 (dk_at dksL_law_43 0 rfl rfl)
theorem dL_law_1114 : decode cL_law 1114 = .ok (.aload_n 1, 1) := dk_43 (dk_at dksL_law_43 3 rfl rfl)
theorem dL_law_1115 : decode cL_law 1115 = .ok (.aload_n 0, 1) := dk_42 (dk_at dksL_law_43 4 rfl rfl)
theorem dL_law_1116 : decode cL_law 1116 = .ok (.iload 4, 2) := dk_21 4 (dk_at dksL_law_43 5 rfl rfl)
theorem dL_law_1118 : decode cL_law 1118 = .ok (.iconst 1, 1) := dk_4 (dk_at dksL_law_43 7 rfl rfl)
theorem dL_law_1119 : decode cL_law 1119 = .ok (.iadd, 1) := dk_96 (dk_at dksL_law_43 8 rfl rfl)
theorem dL_law_1120 : decode cL_law 1120 = .ok (.iaload, 1) := dk_46 (dk_at dksL_law_43 9 rfl rfl)
theorem dL_law_1121 : decode cL_law 1121 = .ok (.aload_n 3, 1) := dk_45 (dk_at dksL_law_43 10 rfl rfl)
theorem dL_law_1122 : decode cL_law 1122 = .ok (.invokestatic 169, 3) := dk_184 0 169 (dk_at dksL_law_43 11 rfl rfl)
theorem dL_law_1125 : decode cL_law 1125 = .ok (.istore 5, 2) := dk_54 5 (dk_at dksL_law_43 14 rfl rfl)
theorem dL_law_1127 : decode cL_law 1127 = .ok (.aload_n 2, 1) := dk_44 (dk_at dksL_law_43 16 rfl rfl)
theorem dL_law_1128 : decode cL_law 1128 = .ok (.aload_n 0, 1) := dk_42 (dk_at dksL_law_43 17 rfl rfl)
theorem dL_law_1129 : decode cL_law 1129 = .ok (.iload 4, 2) := dk_21 4 (dk_at dksL_law_43 18 rfl rfl)
theorem dL_law_1131 : decode cL_law 1131 = .ok (.iconst 1, 1) := dk_4 (dk_at dksL_law_43 20 rfl rfl)
theorem dL_law_1132 : decode cL_law 1132 = .ok (.iadd, 1) := dk_96 (dk_at dksL_law_43 21 rfl rfl)
theorem dL_law_1133 : decode cL_law 1133 = .ok (.iaload, 1) := dk_46 (dk_at dksL_law_43 22 rfl rfl)
theorem dL_law_1134 : decode cL_law 1134 = .ok (.invokevirtual 171, 3) := dk_182 0 171 (dk_at dksL_law_44 0 rfl rfl)
theorem dL_law_1137 : decode cL_law 1137 = .ok (.istore 6, 2) := dk_54 6 (dk_at dksL_law_44 3 rfl rfl)
theorem dL_law_1139 : decode cL_law 1139 = .ok (.aload_n 2, 1) := dk_44 (dk_at dksL_law_44 5 rfl rfl)
theorem dL_law_1140 : decode cL_law 1140 = .ok (.invokevirtual 130, 3) := dk_182 0 130 (dk_at dksL_law_44 6 rfl rfl)
theorem dL_law_1143 : decode cL_law 1143 = .ok (.iload 5, 2) := dk_21 5 (dk_at dksL_law_44 9 rfl rfl)
theorem dL_law_1145 : decode cL_law 1145 = .ok (.if_icmp .eq 5, 3) := dk_159 0 5 (dk_at dksL_law_44 11 rfl rfl)
theorem dL_law_1148 : decode cL_law 1148 = .ok (.iconst 0, 1) := dk_3 (dk_at dksL_law_44 14 rfl rfl)
theorem dL_law_1149 : decode cL_law 1149 = .ok (.ireturn, 1) := dk_172 (dk_at dksL_law_44 15 rfl rfl)
theorem dL_law_1150 : decode cL_law 1150 = .ok (.iload 5, 2) := dk_21 5 (dk_at dksL_law_44 16 rfl rfl)
theorem dL_law_1152 : decode cL_law 1152 = .ok (.ifCond .ne 16, 3) := dk_154 0 16 (dk_at dksL_law_44 18 rfl rfl)
theorem dL_law_1155 : decode cL_law 1155 = .ok (.aload_n 3, 1) := dk_45 (dk_at dksL_law_44 21 rfl rfl)
theorem dL_law_1156 : decode cL_law 1156 = .ok (.getfield 13, 3) := dk_180 0 13 (dk_at dksL_law_45 0 rfl rfl)
theorem dL_law_1159 : decode cL_law 1159 = .ok (.iload 6, 2) := dk_21 6 (dk_at dksL_law_45 3 rfl rfl)
theorem dL_law_1161 : decode cL_law 1161 = .ok (.i2l, 1) := dk_133 (dk_at dksL_law_45 5 rfl rfl)
theorem dL_law_1162 : decode cL_law 1162 = .ok (.lcmp, 1) := dk_148 (dk_at dksL_law_45 6 rfl rfl)
theorem dL_law_1163 : decode cL_law 1163 = .ok (.ifCond .eq 5, 3) := dk_153 0 5 (dk_at dksL_law_45 7 rfl rfl)
theorem dL_law_1166 : decode cL_law 1166 = .ok (.iconst 0, 1) := dk_3 (dk_at dksL_law_45 10 rfl rfl)
theorem dL_law_1167 : decode cL_law 1167 = .ok (.ireturn, 1) := dk_172 (dk_at dksL_law_45 11 rfl rfl)
theorem dL_law_1168 : decode cL_law 1168 = .ok (.goto 1023, 3) := dk_167 3 255 (dk_at dksL_law_45 12 rfl rfl)
theorem dL_law_1171 : decode cL_law 1171 = .ok (.aload_n 1, 1) := dk_43 (dk_at dksL_law_45 15 rfl rfl)
theorem dL_law_1172 : decode cL_law 1172 = .ok (.invokevirtual 172, 3) := dk_182 0 172 (dk_at dksL_law_45 16 rfl rfl)
theorem dL_law_1175 : decode cL_law 1175 = .ok (.aload_n 2, 1) := dk_44 (dk_at dksL_law_45 19 rfl rfl)
theorem dL_law_1176 : decode cL_law 1176 = .ok (.invokevirtual 175, 3) := dk_182 0 175 (dk_at dksL_law_45 20 rfl rfl)
theorem dL_law_1179 : decode cL_law 1179 = .ok (.if_icmp .eq 1012, 3) := dk_159 3 244 (dk_at dksL_law_46 0 rfl rfl)
theorem dL_law_1182 : decode cL_law 1182 = .ok (.iconst 0, 1) := dk_3 (dk_at dksL_law_46 3 rfl rfl)
theorem dL_law_1183 : decode cL_law 1183 = .ok (.ireturn, 1) := dk_172 (dk_at dksL_law_46 4 rfl rfl)
theorem dL_law_1184 : decode cL_law 1184 = .ok (.aload_n 1, 1) := dk_43 (dk_at dksL_law_46 5 rfl rfl)
theorem dL_law_1185 : decode cL_law 1185 = .ok (.aload_n 0, 1) := dk_42 (dk_at dksL_law_46 6 rfl rfl)
theorem dL_law_1186 : decode cL_law 1186 = .ok (.iload 4, 2) := dk_21 4 (dk_at dksL_law_46 7 rfl rfl)
theorem dL_law_1188 : decode cL_law 1188 = .ok (.iconst 1, 1) := dk_4 (dk_at dksL_law_46 9 rfl rfl)
theorem dL_law_1189 : decode cL_law 1189 = .ok (.iadd, 1) := dk_96 (dk_at dksL_law_46 10 rfl rfl)
theorem dL_law_1190 : decode cL_law 1190 = .ok (.iaload, 1) := dk_46 (dk_at dksL_law_46 11 rfl rfl)
theorem dL_law_1191 : decode cL_law 1191 = .ok (.aload_n 0, 1) := dk_42 (dk_at dksL_law_46 12 rfl rfl)
theorem dL_law_1192 : decode cL_law 1192 = .ok (.iload 4, 2) := dk_21 4 (dk_at dksL_law_46 13 rfl rfl)
theorem dL_law_1194 : decode cL_law 1194 = .ok (.iconst 2, 1) := dk_5 (dk_at dksL_law_46 15 rfl rfl)
theorem dL_law_1195 : decode cL_law 1195 = .ok (.iadd, 1) := dk_96 (dk_at dksL_law_46 16 rfl rfl)
theorem dL_law_1196 : decode cL_law 1196 = .ok (.iaload, 1) := dk_46 (dk_at dksL_law_46 17 rfl rfl)
theorem dL_law_1197 : decode cL_law 1197 = .ok (.aload_n 0, 1) := dk_42 (dk_at dksL_law_46 18 rfl rfl)
theorem dL_law_1198 : decode cL_law 1198 = .ok (.iload 4, 2) := dk_21 4 (dk_at dksL_law_46 19 rfl rfl)
theorem dL_law_1200 : decode cL_law 1200 = .ok (.iconst 3, 1) := dk_6 (dk_at dksL_law_46 21 rfl rfl)
theorem dL_law_1201 : decode cL_law 1201 = .ok (.iadd, 1) := dk_96 (dk_at dksL_law_46 22 rfl rfl)
theorem dL_law_1202 : decode cL_law 1202 = .ok (.iaload, 1) := dk_46 (dk_at dksL_law_46 23 rfl rfl)
theorem dL_law_1203 : decode cL_law 1203 = .ok (.aload_n 3, 1) := dk_45 (dk_at dksL_law_47 0 rfl rfl)
theorem dL_law_1204 : decode cL_law 1204 = .ok (.invokestatic 176, 3) := dk_184 0 176 (dk_at dksL_law_47 1 rfl rfl)
theorem dL_law_1207 : decode cL_law 1207 = .ok (.istore 5, 2) := dk_54 5 (dk_at dksL_law_47 4 rfl rfl)
theorem dL_law_1209 : decode cL_law 1209 = .ok (.aload_n 2, 1) := dk_44 (dk_at dksL_law_47 6 rfl rfl)
theorem dL_law_1210 : decode cL_law 1210 = .ok (.aload_n 0, 1) := dk_42 (dk_at dksL_law_47 7 rfl rfl)
theorem dL_law_1211 : decode cL_law 1211 = .ok (.iload 4, 2) := dk_21 4 (dk_at dksL_law_47 8 rfl rfl)
theorem dL_law_1213 : decode cL_law 1213 = .ok (.iconst 1, 1) := dk_4 (dk_at dksL_law_47 10 rfl rfl)
theorem dL_law_1214 : decode cL_law 1214 = .ok (.iadd, 1) := dk_96 (dk_at dksL_law_47 11 rfl rfl)
theorem dL_law_1215 : decode cL_law 1215 = .ok (.iaload, 1) := dk_46 (dk_at dksL_law_47 12 rfl rfl)
theorem dL_law_1216 : decode cL_law 1216 = .ok (.aload_n 0, 1) := dk_42 (dk_at dksL_law_47 13 rfl rfl)
theorem dL_law_1217 : decode cL_law 1217 = .ok (.iload 4, 2) := dk_21 4 (dk_at dksL_law_47 14 rfl rfl)
theorem dL_law_1219 : decode cL_law 1219 = .ok (.iconst 2, 1) := dk_5 (dk_at dksL_law_47 16 rfl rfl)
theorem dL_law_1220 : decode cL_law 1220 = .ok (.iadd, 1) := dk_96 (dk_at dksL_law_47 17 rfl rfl)
theorem dL_law_1221 : decode cL_law 1221 = .ok (.iaload, 1) := dk_46 (dk_at dksL_law_47 18 rfl rfl)
theorem dL_law_1222 : decode cL_law 1222 = .ok (.aload_n 0, 1) := dk_42 (dk_at dksL_law_47 19 rfl rfl)
theorem dL_law_1223 : decode cL_law 1223 = .ok (.iload 4, 2) := dk_21 4 (dk_at dksL_law_47 20 rfl rfl)
theorem dL_law_1225 : decode cL_law 1225 = .ok (.iconst 3, 1) := dk_6 (dk_at dksL_law_47 22 rfl rfl)
theorem dL_law_1226 : decode cL_law 1226 = .ok (.iadd, 1) := dk_96 (dk_at dksL_law_47 23 rfl rfl)
theorem dL_law_1227 : decode cL_law 1227 = .ok (.iaload, 1) := dk_46 (dk_at dksL_law_48 0 rfl rfl)
theorem dL_law_1228 : decode cL_law 1228 = .ok (.invokevirtual 179, 3) := dk_182 0 179 (dk_at dksL_law_48 1 rfl rfl)
theorem dL_law_1231 : decode cL_law 1231 = .ok (.istore 6, 2) := dk_54 6 (dk_at dksL_law_48 4 rfl rfl)
theorem dL_law_1233 : decode cL_law 1233 = .ok (.aload_n 2, 1) := dk_44 (dk_at dksL_law_48 6 rfl rfl)
theorem dL_law_1234 : decode cL_law 1234 = .ok (.invokevirtual 130, 3) := dk_182 0 130 (dk_at dksL_law_48 7 rfl rfl)
theorem dL_law_1237 : decode cL_law 1237 = .ok (.iload 5, 2) := dk_21 5 (dk_at dksL_law_48 10 rfl rfl)
theorem dL_law_1239 : decode cL_law 1239 = .ok (.if_icmp .eq 5, 3) := dk_159 0 5 (dk_at dksL_law_48 12 rfl rfl)
theorem dL_law_1242 : decode cL_law 1242 = .ok (.iconst 0, 1) := dk_3 (dk_at dksL_law_48 15 rfl rfl)
theorem dL_law_1243 : decode cL_law 1243 = .ok (.ireturn, 1) := dk_172 (dk_at dksL_law_48 16 rfl rfl)
theorem dL_law_1244 : decode cL_law 1244 = .ok (.iload 5, 2) := dk_21 5 (dk_at dksL_law_48 17 rfl rfl)
theorem dL_law_1246 : decode cL_law 1246 = .ok (.ifCond .ne 16, 3) := dk_154 0 16 (dk_at dksL_law_48 19 rfl rfl)
theorem dL_law_1249 : decode cL_law 1249 = .ok (.aload_n 3, 1) := dk_45 (dk_at dksL_law_48 22 rfl rfl)
theorem dL_law_1250 : decode cL_law 1250 = .ok (.getfield 13, 3) := dk_180 0 13 (dk_at dksL_law_49 0 rfl rfl)
theorem dL_law_1253 : decode cL_law 1253 = .ok (.iload 6, 2) := dk_21 6 (dk_at dksL_law_49 3 rfl rfl)
theorem dL_law_1255 : decode cL_law 1255 = .ok (.i2l, 1) := dk_133 (dk_at dksL_law_49 5 rfl rfl)
theorem dL_law_1256 : decode cL_law 1256 = .ok (.lcmp, 1) := dk_148 (dk_at dksL_law_49 6 rfl rfl)
theorem dL_law_1257 : decode cL_law 1257 = .ok (.ifCond .eq 5, 3) := dk_153 0 5 (dk_at dksL_law_49 7 rfl rfl)
theorem dL_law_1260 : decode cL_law 1260 = .ok (.iconst 0, 1) := dk_3 (dk_at dksL_law_49 10 rfl rfl)
theorem dL_law_1261 : decode cL_law 1261 = .ok (.ireturn, 1) := dk_172 (dk_at dksL_law_49 11 rfl rfl)
theorem dL_law_1262 : decode cL_law 1262 = .ok (.goto 929, 3) := dk_167 3 161 (dk_at dksL_law_49 12 rfl rfl)
theorem dL_law_1265 : decode cL_law 1265 = .ok (.aload_n 1, 1) := dk_43 (dk_at dksL_law_49 15 rfl rfl)
theorem dL_law_1266 : decode cL_law 1266 = .ok (.aload_n 0, 1) := dk_42 (dk_at dksL_law_49 16 rfl rfl)
theorem dL_law_1267 : decode cL_law 1267 = .ok (.iload 4, 2) := dk_21 4 (dk_at dksL_law_49 17 rfl rfl)
theorem dL_law_1269 : decode cL_law 1269 = .ok (.iconst 1, 1) := dk_4 (dk_at dksL_law_49 19 rfl rfl)
theorem dL_law_1270 : decode cL_law 1270 = .ok (.iadd, 1) := dk_96 (dk_at dksL_law_49 20 rfl rfl)
theorem dL_law_1271 : decode cL_law 1271 = .ok (.iaload, 1) := dk_46 (dk_at dksL_law_49 21 rfl rfl)
theorem dL_law_1272 : decode cL_law 1272 = .ok (.aload_n 0, 1) := dk_42 (dk_at dksL_law_49 22 rfl rfl)
theorem dL_law_1273 : decode cL_law 1273 = .ok (.iload 4, 2) := dk_21 4 (dk_at dksL_law_50 0 rfl rfl)
theorem dL_law_1275 : decode cL_law 1275 = .ok (.iconst 2, 1) := dk_5 (dk_at dksL_law_50 2 rfl rfl)
theorem dL_law_1276 : decode cL_law 1276 = .ok (.iadd, 1) := dk_96 (dk_at dksL_law_50 3 rfl rfl)
theorem dL_law_1277 : decode cL_law 1277 = .ok (.iaload, 1) := dk_46 (dk_at dksL_law_50 4 rfl rfl)
theorem dL_law_1278 : decode cL_law 1278 = .ok (.aload_n 3, 1) := dk_45 (dk_at dksL_law_50 5 rfl rfl)
theorem dL_law_1279 : decode cL_law 1279 = .ok (.invokestatic 180, 3) := dk_184 0 180 (dk_at dksL_law_50 6 rfl rfl)
theorem dL_law_1282 : decode cL_law 1282 = .ok (.istore 5, 2) := dk_54 5 (dk_at dksL_law_50 9 rfl rfl)
theorem dL_law_1284 : decode cL_law 1284 = .ok (.aload_n 2, 1) := dk_44 (dk_at dksL_law_50 11 rfl rfl)
theorem dL_law_1285 : decode cL_law 1285 = .ok (.aload_n 0, 1) := dk_42 (dk_at dksL_law_50 12 rfl rfl)
theorem dL_law_1286 : decode cL_law 1286 = .ok (.iload 4, 2) := dk_21 4 (dk_at dksL_law_50 13 rfl rfl)
theorem dL_law_1288 : decode cL_law 1288 = .ok (.iconst 1, 1) := dk_4 (dk_at dksL_law_50 15 rfl rfl)
theorem dL_law_1289 : decode cL_law 1289 = .ok (.iadd, 1) := dk_96 (dk_at dksL_law_50 16 rfl rfl)
theorem dL_law_1290 : decode cL_law 1290 = .ok (.iaload, 1) := dk_46 (dk_at dksL_law_50 17 rfl rfl)
theorem dL_law_1291 : decode cL_law 1291 = .ok (.aload_n 0, 1) := dk_42 (dk_at dksL_law_50 18 rfl rfl)
theorem dL_law_1292 : decode cL_law 1292 = .ok (.iload 4, 2) := dk_21 4 (dk_at dksL_law_50 19 rfl rfl)
theorem dL_law_1294 : decode cL_law 1294 = .ok (.iconst 2, 1) := dk_5 (dk_at dksL_law_50 21 rfl rfl)
theorem dL_law_1295 : decode cL_law 1295 = .ok (.iadd, 1) := dk_96 (dk_at dksL_law_50 22 rfl rfl)
theorem dL_law_1296 : decode cL_law 1296 = .ok (.iaload, 1) := dk_46 (dk_at dksL_law_50 23 rfl rfl)
theorem dL_law_1297 : decode cL_law 1297 = .ok (.invokevirtual 182, 3) := dk_182 0 182 (dk_at dksL_law_51 0 rfl rfl)
theorem dL_law_1300 : decode cL_law 1300 = .ok (.istore 6, 2) := dk_54 6 (dk_at dksL_law_51 3 rfl rfl)
theorem dL_law_1302 : decode cL_law 1302 = .ok (.aload_n 2, 1) := dk_44 (dk_at dksL_law_51 5 rfl rfl)
theorem dL_law_1303 : decode cL_law 1303 = .ok (.invokevirtual 130, 3) := dk_182 0 130 (dk_at dksL_law_51 6 rfl rfl)
theorem dL_law_1306 : decode cL_law 1306 = .ok (.iload 5, 2) := dk_21 5 (dk_at dksL_law_51 9 rfl rfl)
theorem dL_law_1308 : decode cL_law 1308 = .ok (.if_icmp .eq 5, 3) := dk_159 0 5 (dk_at dksL_law_51 11 rfl rfl)
theorem dL_law_1311 : decode cL_law 1311 = .ok (.iconst 0, 1) := dk_3 (dk_at dksL_law_51 14 rfl rfl)
theorem dL_law_1312 : decode cL_law 1312 = .ok (.ireturn, 1) := dk_172 (dk_at dksL_law_51 15 rfl rfl)
theorem dL_law_1313 : decode cL_law 1313 = .ok (.iload 5, 2) := dk_21 5 (dk_at dksL_law_51 16 rfl rfl)
theorem dL_law_1315 : decode cL_law 1315 = .ok (.ifCond .ne 16, 3) := dk_154 0 16 (dk_at dksL_law_51 18 rfl rfl)
theorem dL_law_1318 : decode cL_law 1318 = .ok (.aload_n 3, 1) := dk_45 (dk_at dksL_law_51 21 rfl rfl)
theorem dL_law_1319 : decode cL_law 1319 = .ok (.getfield 13, 3) := dk_180 0 13 (dk_at dksL_law_52 0 rfl rfl)
theorem dL_law_1322 : decode cL_law 1322 = .ok (.iload 6, 2) := dk_21 6 (dk_at dksL_law_52 3 rfl rfl)
theorem dL_law_1324 : decode cL_law 1324 = .ok (.i2l, 1) := dk_133 (dk_at dksL_law_52 5 rfl rfl)
theorem dL_law_1325 : decode cL_law 1325 = .ok (.lcmp, 1) := dk_148 (dk_at dksL_law_52 6 rfl rfl)
theorem dL_law_1326 : decode cL_law 1326 = .ok (.ifCond .eq 5, 3) := dk_153 0 5 (dk_at dksL_law_52 7 rfl rfl)
theorem dL_law_1329 : decode cL_law 1329 = .ok (.iconst 0, 1) := dk_3 (dk_at dksL_law_52 10 rfl rfl)
theorem dL_law_1330 : decode cL_law 1330 = .ok (.ireturn, 1) := dk_172 (dk_at dksL_law_52 11 rfl rfl)
theorem dL_law_1331 : decode cL_law 1331 = .ok (.goto 860, 3) := dk_167 3 92 (dk_at dksL_law_52 12 rfl rfl)
theorem dL_law_1334 : decode cL_law 1334 = .ok (.aload_n 1, 1) := dk_43 (dk_at dksL_law_52 15 rfl rfl)
theorem dL_law_1335 : decode cL_law 1335 = .ok (.aload_n 0, 1) := dk_42 (dk_at dksL_law_52 16 rfl rfl)
theorem dL_law_1336 : decode cL_law 1336 = .ok (.iload 4, 2) := dk_21 4 (dk_at dksL_law_52 17 rfl rfl)
theorem dL_law_1338 : decode cL_law 1338 = .ok (.iconst 1, 1) := dk_4 (dk_at dksL_law_52 19 rfl rfl)
theorem dL_law_1339 : decode cL_law 1339 = .ok (.iadd, 1) := dk_96 (dk_at dksL_law_52 20 rfl rfl)
theorem dL_law_1340 : decode cL_law 1340 = .ok (.iaload, 1) := dk_46 (dk_at dksL_law_52 21 rfl rfl)
theorem dL_law_1341 : decode cL_law 1341 = .ok (.aload_n 3, 1) := dk_45 (dk_at dksL_law_52 22 rfl rfl)
theorem dL_law_1342 : decode cL_law 1342 = .ok (.invokestatic 183, 3) := dk_184 0 183 (dk_at dksL_law_53 0 rfl rfl)
theorem dL_law_1345 : decode cL_law 1345 = .ok (.istore 5, 2) := dk_54 5 (dk_at dksL_law_53 3 rfl rfl)
theorem dL_law_1347 : decode cL_law 1347 = .ok (.aload_n 2, 1) := dk_44 (dk_at dksL_law_53 5 rfl rfl)
theorem dL_law_1348 : decode cL_law 1348 = .ok (.aload_n 0, 1) := dk_42 (dk_at dksL_law_53 6 rfl rfl)
theorem dL_law_1349 : decode cL_law 1349 = .ok (.iload 4, 2) := dk_21 4 (dk_at dksL_law_53 7 rfl rfl)
theorem dL_law_1351 : decode cL_law 1351 = .ok (.iconst 1, 1) := dk_4 (dk_at dksL_law_53 9 rfl rfl)
theorem dL_law_1352 : decode cL_law 1352 = .ok (.iadd, 1) := dk_96 (dk_at dksL_law_53 10 rfl rfl)
theorem dL_law_1353 : decode cL_law 1353 = .ok (.iaload, 1) := dk_46 (dk_at dksL_law_53 11 rfl rfl)
theorem dL_law_1354 : decode cL_law 1354 = .ok (.invokevirtual 185, 3) := dk_182 0 185 (dk_at dksL_law_53 12 rfl rfl)
theorem dL_law_1357 : decode cL_law 1357 = .ok (.istore 6, 2) := dk_54 6 (dk_at dksL_law_53 15 rfl rfl)
theorem dL_law_1359 : decode cL_law 1359 = .ok (.aload_n 2, 1) := dk_44 (dk_at dksL_law_53 17 rfl rfl)
theorem dL_law_1360 : decode cL_law 1360 = .ok (.invokevirtual 130, 3) := dk_182 0 130 (dk_at dksL_law_53 18 rfl rfl)
theorem dL_law_1363 : decode cL_law 1363 = .ok (.iload 5, 2) := dk_21 5 (dk_at dksL_law_53 21 rfl rfl)
theorem dL_law_1365 : decode cL_law 1365 = .ok (.if_icmp .eq 5, 3) := dk_159 0 5 (dk_at dksL_law_54 0 rfl rfl)
theorem dL_law_1368 : decode cL_law 1368 = .ok (.iconst 0, 1) := dk_3 (dk_at dksL_law_54 3 rfl rfl)
theorem dL_law_1369 : decode cL_law 1369 = .ok (.ireturn, 1) := dk_172 (dk_at dksL_law_54 4 rfl rfl)
theorem dL_law_1370 : decode cL_law 1370 = .ok (.iload 5, 2) := dk_21 5 (dk_at dksL_law_54 5 rfl rfl)
theorem dL_law_1372 : decode cL_law 1372 = .ok (.ifCond .ne 16, 3) := dk_154 0 16 (dk_at dksL_law_54 7 rfl rfl)
theorem dL_law_1375 : decode cL_law 1375 = .ok (.aload_n 3, 1) := dk_45 (dk_at dksL_law_54 10 rfl rfl)
theorem dL_law_1376 : decode cL_law 1376 = .ok (.getfield 13, 3) := dk_180 0 13 (dk_at dksL_law_54 11 rfl rfl)
theorem dL_law_1379 : decode cL_law 1379 = .ok (.iload 6, 2) := dk_21 6 (dk_at dksL_law_54 14 rfl rfl)
theorem dL_law_1381 : decode cL_law 1381 = .ok (.i2l, 1) := dk_133 (dk_at dksL_law_54 16 rfl rfl)
theorem dL_law_1382 : decode cL_law 1382 = .ok (.lcmp, 1) := dk_148 (dk_at dksL_law_54 17 rfl rfl)
theorem dL_law_1383 : decode cL_law 1383 = .ok (.ifCond .eq 5, 3) := dk_153 0 5 (dk_at dksL_law_54 18 rfl rfl)
theorem dL_law_1386 : decode cL_law 1386 = .ok (.iconst 0, 1) := dk_3 (dk_at dksL_law_54 21 rfl rfl)
theorem dL_law_1387 : decode cL_law 1387 = .ok (.ireturn, 1) := dk_172 (dk_at dksL_law_54 22 rfl rfl)
theorem dL_law_1388 : decode cL_law 1388 = .ok (.goto 803, 3) := dk_167 3 35 (dk_at dksL_law_55 0 rfl rfl)
theorem dL_law_1391 : decode cL_law 1391 = .ok (.aload_n 1, 1) := dk_43 (dk_at dksL_law_55 3 rfl rfl)
theorem dL_law_1392 : decode cL_law 1392 = .ok (.aload_n 0, 1) := dk_42 (dk_at dksL_law_55 4 rfl rfl)
theorem dL_law_1393 : decode cL_law 1393 = .ok (.iload 4, 2) := dk_21 4 (dk_at dksL_law_55 5 rfl rfl)
theorem dL_law_1395 : decode cL_law 1395 = .ok (.iconst 1, 1) := dk_4 (dk_at dksL_law_55 7 rfl rfl)
theorem dL_law_1396 : decode cL_law 1396 = .ok (.iadd, 1) := dk_96 (dk_at dksL_law_55 8 rfl rfl)
theorem dL_law_1397 : decode cL_law 1397 = .ok (.iaload, 1) := dk_46 (dk_at dksL_law_55 9 rfl rfl)
theorem dL_law_1398 : decode cL_law 1398 = .ok (.aload_n 3, 1) := dk_45 (dk_at dksL_law_55 10 rfl rfl)
theorem dL_law_1399 : decode cL_law 1399 = .ok (.invokestatic 186, 3) := dk_184 0 186 (dk_at dksL_law_55 11 rfl rfl)
theorem dL_law_1402 : decode cL_law 1402 = .ok (.istore 5, 2) := dk_54 5 (dk_at dksL_law_55 14 rfl rfl)
theorem dL_law_1404 : decode cL_law 1404 = .ok (.aload_n 2, 1) := dk_44 (dk_at dksL_law_55 16 rfl rfl)
theorem dL_law_1405 : decode cL_law 1405 = .ok (.aload_n 0, 1) := dk_42 (dk_at dksL_law_55 17 rfl rfl)
theorem dL_law_1406 : decode cL_law 1406 = .ok (.iload 4, 2) := dk_21 4 (dk_at dksL_law_55 18 rfl rfl)
theorem dL_law_1408 : decode cL_law 1408 = .ok (.iconst 1, 1) := dk_4 (dk_at dksL_law_55 20 rfl rfl)
theorem dL_law_1409 : decode cL_law 1409 = .ok (.iadd, 1) := dk_96 (dk_at dksL_law_55 21 rfl rfl)
theorem dL_law_1410 : decode cL_law 1410 = .ok (.iaload, 1) := dk_46 (dk_at dksL_law_55 22 rfl rfl)
theorem dL_law_1411 : decode cL_law 1411 = .ok (.invokevirtual 188, 3) := dk_182 0 188 (dk_at dksL_law_56 0 rfl rfl)
theorem dL_law_1414 : decode cL_law 1414 = .ok (.astore 6, 2) := dk_58 6 (dk_at dksL_law_56 3 rfl rfl)
theorem dL_law_1416 : decode cL_law 1416 = .ok (.aload_n 2, 1) := dk_44 (dk_at dksL_law_56 5 rfl rfl)
theorem dL_law_1417 : decode cL_law 1417 = .ok (.invokevirtual 130, 3) := dk_182 0 130 (dk_at dksL_law_56 6 rfl rfl)
theorem dL_law_1420 : decode cL_law 1420 = .ok (.iload 5, 2) := dk_21 5 (dk_at dksL_law_56 9 rfl rfl)
theorem dL_law_1422 : decode cL_law 1422 = .ok (.if_icmp .eq 5, 3) := dk_159 0 5 (dk_at dksL_law_56 11 rfl rfl)
theorem dL_law_1425 : decode cL_law 1425 = .ok (.iconst 0, 1) := dk_3 (dk_at dksL_law_56 14 rfl rfl)
theorem dL_law_1426 : decode cL_law 1426 = .ok (.ireturn, 1) := dk_172 (dk_at dksL_law_56 15 rfl rfl)
theorem dL_law_1427 : decode cL_law 1427 = .ok (.iload 5, 2) := dk_21 5 (dk_at dksL_law_56 16 rfl rfl)
theorem dL_law_1429 : decode cL_law 1429 = .ok (.ifCond .ne 17, 3) := dk_154 0 17 (dk_at dksL_law_56 18 rfl rfl)
theorem dL_law_1432 : decode cL_law 1432 = .ok (.aload_n 3, 1) := dk_45 (dk_at dksL_law_56 21 rfl rfl)
theorem dL_law_1433 : decode cL_law 1433 = .ok (.getfield 78, 3) := dk_180 0 78 (dk_at dksL_law_57 0 rfl rfl)
theorem dL_law_1436 : decode cL_law 1436 = .ok (.aload 6, 2) := dk_25 6 (dk_at dksL_law_57 3 rfl rfl)
theorem dL_law_1438 : decode cL_law 1438 = .ok (.invokevirtual 189, 3) := dk_182 0 189 (dk_at dksL_law_57 5 rfl rfl)
theorem dL_law_1441 : decode cL_law 1441 = .ok (.ifCond .ne 5, 3) := dk_154 0 5 (dk_at dksL_law_57 8 rfl rfl)
theorem dL_law_1444 : decode cL_law 1444 = .ok (.iconst 0, 1) := dk_3 (dk_at dksL_law_57 11 rfl rfl)
theorem dL_law_1445 : decode cL_law 1445 = .ok (.ireturn, 1) := dk_172 (dk_at dksL_law_57 12 rfl rfl)
theorem dL_law_1446 : decode cL_law 1446 = .ok (.goto 745, 3) := dk_167 2 233 (dk_at dksL_law_57 13 rfl rfl)
theorem dL_law_1449 : decode cL_law 1449 = .ok (.aload_n 1, 1) := dk_43 (dk_at dksL_law_57 16 rfl rfl)
theorem dL_law_1450 : decode cL_law 1450 = .ok (.aload_n 0, 1) := dk_42 (dk_at dksL_law_57 17 rfl rfl)
theorem dL_law_1451 : decode cL_law 1451 = .ok (.iload 4, 2) := dk_21 4 (dk_at dksL_law_57 18 rfl rfl)
theorem dL_law_1453 : decode cL_law 1453 = .ok (.iconst 1, 1) := dk_4 (dk_at dksL_law_57 20 rfl rfl)
theorem dL_law_1454 : decode cL_law 1454 = .ok (.iadd, 1) := dk_96 (dk_at dksL_law_57 21 rfl rfl)
theorem dL_law_1455 : decode cL_law 1455 = .ok (.iaload, 1) := dk_46 (dk_at dksL_law_57 22 rfl rfl)
theorem dL_law_1456 : decode cL_law 1456 = .ok (.aload_n 0, 1) := dk_42 (dk_at dksL_law_57 23 rfl rfl)
theorem dL_law_1457 : decode cL_law 1457 = .ok (.iload 4, 2) := dk_21 4 (dk_at dksL_law_58 0 rfl rfl)
theorem dL_law_1459 : decode cL_law 1459 = .ok (.iconst 2, 1) := dk_5 (dk_at dksL_law_58 2 rfl rfl)
theorem dL_law_1460 : decode cL_law 1460 = .ok (.iadd, 1) := dk_96 (dk_at dksL_law_58 3 rfl rfl)
theorem dL_law_1461 : decode cL_law 1461 = .ok (.iaload, 1) := dk_46 (dk_at dksL_law_58 4 rfl rfl)
theorem dL_law_1462 : decode cL_law 1462 = .ok (.aload_n 0, 1) := dk_42 (dk_at dksL_law_58 5 rfl rfl)
theorem dL_law_1463 : decode cL_law 1463 = .ok (.iload 4, 2) := dk_21 4 (dk_at dksL_law_58 6 rfl rfl)
theorem dL_law_1465 : decode cL_law 1465 = .ok (.iconst 3, 1) := dk_6 (dk_at dksL_law_58 8 rfl rfl)
theorem dL_law_1466 : decode cL_law 1466 = .ok (.iadd, 1) := dk_96 (dk_at dksL_law_58 9 rfl rfl)
theorem dL_law_1467 : decode cL_law 1467 = .ok (.iaload, 1) := dk_46 (dk_at dksL_law_58 10 rfl rfl)
theorem dL_law_1468 : decode cL_law 1468 = .ok (.aload_n 3, 1) := dk_45 (dk_at dksL_law_58 11 rfl rfl)
theorem dL_law_1469 : decode cL_law 1469 = .ok (.invokestatic 195, 3) := dk_184 0 195 (dk_at dksL_law_58 12 rfl rfl)
theorem dL_law_1472 : decode cL_law 1472 = .ok (.istore 5, 2) := dk_54 5 (dk_at dksL_law_58 15 rfl rfl)
theorem dL_law_1474 : decode cL_law 1474 = .ok (.aload_n 2, 1) := dk_44 (dk_at dksL_law_58 17 rfl rfl)
theorem dL_law_1475 : decode cL_law 1475 = .ok (.aload_n 0, 1) := dk_42 (dk_at dksL_law_58 18 rfl rfl)
theorem dL_law_1476 : decode cL_law 1476 = .ok (.iload 4, 2) := dk_21 4 (dk_at dksL_law_58 19 rfl rfl)
theorem dL_law_1478 : decode cL_law 1478 = .ok (.iconst 1, 1) := dk_4 (dk_at dksL_law_58 21 rfl rfl)
theorem dL_law_1479 : decode cL_law 1479 = .ok (.iadd, 1) := dk_96 (dk_at dksL_law_58 22 rfl rfl)
theorem dL_law_1480 : decode cL_law 1480 = .ok (.iaload, 1) := dk_46 (dk_at dksL_law_58 23 rfl rfl)
theorem dL_law_1481 : decode cL_law 1481 = .ok (.aload_n 0, 1) := dk_42 (dk_at dksL_law_59 0 rfl rfl)
theorem dL_law_1482 : decode cL_law 1482 = .ok (.iload 4, 2) := dk_21 4 (dk_at dksL_law_59 1 rfl rfl)
theorem dL_law_1484 : decode cL_law 1484 = .ok (.iconst 2, 1) := dk_5 (dk_at dksL_law_59 3 rfl rfl)
theorem dL_law_1485 : decode cL_law 1485 = .ok (.iadd, 1) := dk_96 (dk_at dksL_law_59 4 rfl rfl)
theorem dL_law_1486 : decode cL_law 1486 = .ok (.iaload, 1) := dk_46 (dk_at dksL_law_59 5 rfl rfl)
theorem dL_law_1487 : decode cL_law 1487 = .ok (.aload_n 0, 1) := dk_42 (dk_at dksL_law_59 6 rfl rfl)
theorem dL_law_1488 : decode cL_law 1488 = .ok (.iload 4, 2) := dk_21 4 (dk_at dksL_law_59 7 rfl rfl)
theorem dL_law_1490 : decode cL_law 1490 = .ok (.iconst 3, 1) := dk_6 (dk_at dksL_law_59 9 rfl rfl)
theorem dL_law_1491 : decode cL_law 1491 = .ok (.iadd, 1) := dk_96 (dk_at dksL_law_59 10 rfl rfl)
theorem dL_law_1492 : decode cL_law 1492 = .ok (.iaload, 1) := dk_46 (dk_at dksL_law_59 11 rfl rfl)
theorem dL_law_1493 : decode cL_law 1493 = .ok (.invokevirtual 197, 3) := dk_182 0 197 (dk_at dksL_law_59 12 rfl rfl)
theorem dL_law_1496 : decode cL_law 1496 = .ok (.istore 6, 2) := dk_54 6 (dk_at dksL_law_59 15 rfl rfl)
theorem dL_law_1498 : decode cL_law 1498 = .ok (.aload_n 2, 1) := dk_44 (dk_at dksL_law_59 17 rfl rfl)
theorem dL_law_1499 : decode cL_law 1499 = .ok (.invokevirtual 130, 3) := dk_182 0 130 (dk_at dksL_law_59 18 rfl rfl)
theorem dL_law_1502 : decode cL_law 1502 = .ok (.iload 5, 2) := dk_21 5 (dk_at dksL_law_59 21 rfl rfl)
theorem dL_law_1504 : decode cL_law 1504 = .ok (.if_icmp .eq 5, 3) := dk_159 0 5 (dk_at dksL_law_60 0 rfl rfl)
theorem dL_law_1507 : decode cL_law 1507 = .ok (.iconst 0, 1) := dk_3 (dk_at dksL_law_60 3 rfl rfl)
theorem dL_law_1508 : decode cL_law 1508 = .ok (.ireturn, 1) := dk_172 (dk_at dksL_law_60 4 rfl rfl)
theorem dL_law_1509 : decode cL_law 1509 = .ok (.iload 5, 2) := dk_21 5 (dk_at dksL_law_60 5 rfl rfl)
theorem dL_law_1511 : decode cL_law 1511 = .ok (.ifCond .ne 16, 3) := dk_154 0 16 (dk_at dksL_law_60 7 rfl rfl)
theorem dL_law_1514 : decode cL_law 1514 = .ok (.aload_n 3, 1) := dk_45 (dk_at dksL_law_60 10 rfl rfl)
theorem dL_law_1515 : decode cL_law 1515 = .ok (.getfield 13, 3) := dk_180 0 13 (dk_at dksL_law_60 11 rfl rfl)
theorem dL_law_1518 : decode cL_law 1518 = .ok (.iload 6, 2) := dk_21 6 (dk_at dksL_law_60 14 rfl rfl)
theorem dL_law_1520 : decode cL_law 1520 = .ok (.i2l, 1) := dk_133 (dk_at dksL_law_60 16 rfl rfl)
theorem dL_law_1521 : decode cL_law 1521 = .ok (.lcmp, 1) := dk_148 (dk_at dksL_law_60 17 rfl rfl)
theorem dL_law_1522 : decode cL_law 1522 = .ok (.ifCond .eq 5, 3) := dk_153 0 5 (dk_at dksL_law_60 18 rfl rfl)
theorem dL_law_1525 : decode cL_law 1525 = .ok (.iconst 0, 1) := dk_3 (dk_at dksL_law_60 21 rfl rfl)
theorem dL_law_1526 : decode cL_law 1526 = .ok (.ireturn, 1) := dk_172 (dk_at dksL_law_60 22 rfl rfl)
theorem dL_law_1527 : decode cL_law 1527 = .ok (.goto 664, 3) := dk_167 2 152 (dk_at dksL_law_61 0 rfl rfl)
theorem dL_law_1530 : decode cL_law 1530 = .ok (.aload_n 1, 1) := dk_43 (dk_at dksL_law_61 3 rfl rfl)
theorem dL_law_1531 : decode cL_law 1531 = .ok (.aload_n 0, 1) := dk_42 (dk_at dksL_law_61 4 rfl rfl)
theorem dL_law_1532 : decode cL_law 1532 = .ok (.iload 4, 2) := dk_21 4 (dk_at dksL_law_61 5 rfl rfl)
theorem dL_law_1534 : decode cL_law 1534 = .ok (.iconst 1, 1) := dk_4 (dk_at dksL_law_61 7 rfl rfl)
theorem dL_law_1535 : decode cL_law 1535 = .ok (.iadd, 1) := dk_96 (dk_at dksL_law_61 8 rfl rfl)
theorem dL_law_1536 : decode cL_law 1536 = .ok (.iaload, 1) := dk_46 (dk_at dksL_law_61 9 rfl rfl)
theorem dL_law_1537 : decode cL_law 1537 = .ok (.aload_n 0, 1) := dk_42 (dk_at dksL_law_61 10 rfl rfl)
theorem dL_law_1538 : decode cL_law 1538 = .ok (.iload 4, 2) := dk_21 4 (dk_at dksL_law_61 11 rfl rfl)
theorem dL_law_1540 : decode cL_law 1540 = .ok (.iconst 2, 1) := dk_5 (dk_at dksL_law_61 13 rfl rfl)
theorem dL_law_1541 : decode cL_law 1541 = .ok (.iadd, 1) := dk_96 (dk_at dksL_law_61 14 rfl rfl)
theorem dL_law_1542 : decode cL_law 1542 = .ok (.iaload, 1) := dk_46 (dk_at dksL_law_61 15 rfl rfl)
theorem dL_law_1543 : decode cL_law 1543 = .ok (.aload_n 3, 1) := dk_45 (dk_at dksL_law_61 16 rfl rfl)
theorem dL_law_1544 : decode cL_law 1544 = .ok (.invokestatic 198, 3) := dk_184 0 198 (dk_at dksL_law_61 17 rfl rfl)
theorem dL_law_1547 : decode cL_law 1547 = .ok (.istore 5, 2) := dk_54 5 (dk_at dksL_law_61 20 rfl rfl)
theorem dL_law_1549 : decode cL_law 1549 = .ok (.aload_n 2, 1) := dk_44 (dk_at dksL_law_61 22 rfl rfl)
theorem dL_law_1550 : decode cL_law 1550 = .ok (.aload_n 0, 1) := dk_42 (dk_at dksL_law_61 23 rfl rfl)
theorem dL_law_1551 : decode cL_law 1551 = .ok (.iload 4, 2) := dk_21 4 (dk_at dksL_law_62 0 rfl rfl)
theorem dL_law_1553 : decode cL_law 1553 = .ok (.iconst 1, 1) := dk_4 (dk_at dksL_law_62 2 rfl rfl)
theorem dL_law_1554 : decode cL_law 1554 = .ok (.iadd, 1) := dk_96 (dk_at dksL_law_62 3 rfl rfl)
theorem dL_law_1555 : decode cL_law 1555 = .ok (.iaload, 1) := dk_46 (dk_at dksL_law_62 4 rfl rfl)
theorem dL_law_1556 : decode cL_law 1556 = .ok (.aload_n 0, 1) := dk_42 (dk_at dksL_law_62 5 rfl rfl)
theorem dL_law_1557 : decode cL_law 1557 = .ok (.iload 4, 2) := dk_21 4 (dk_at dksL_law_62 6 rfl rfl)
theorem dL_law_1559 : decode cL_law 1559 = .ok (.iconst 2, 1) := dk_5 (dk_at dksL_law_62 8 rfl rfl)
theorem dL_law_1560 : decode cL_law 1560 = .ok (.iadd, 1) := dk_96 (dk_at dksL_law_62 9 rfl rfl)
theorem dL_law_1561 : decode cL_law 1561 = .ok (.iaload, 1) := dk_46 (dk_at dksL_law_62 10 rfl rfl)
theorem dL_law_1562 : decode cL_law 1562 = .ok (.invokevirtual 200, 3) := dk_182 0 200 (dk_at dksL_law_62 11 rfl rfl)
theorem dL_law_1565 : decode cL_law 1565 = .ok (.istore 6, 2) := dk_54 6 (dk_at dksL_law_62 14 rfl rfl)
theorem dL_law_1567 : decode cL_law 1567 = .ok (.aload_n 2, 1) := dk_44 (dk_at dksL_law_62 16 rfl rfl)
theorem dL_law_1568 : decode cL_law 1568 = .ok (.invokevirtual 130, 3) := dk_182 0 130 (dk_at dksL_law_62 17 rfl rfl)
theorem dL_law_1571 : decode cL_law 1571 = .ok (.iload 5, 2) := dk_21 5 (dk_at dksL_law_62 20 rfl rfl)
theorem dL_law_1573 : decode cL_law 1573 = .ok (.if_icmp .eq 5, 3) := dk_159 0 5 (dk_at dksL_law_63 0 rfl rfl)
theorem dL_law_1576 : decode cL_law 1576 = .ok (.iconst 0, 1) := dk_3 (dk_at dksL_law_63 3 rfl rfl)
theorem dL_law_1577 : decode cL_law 1577 = .ok (.ireturn, 1) := dk_172 (dk_at dksL_law_63 4 rfl rfl)
theorem dL_law_1578 : decode cL_law 1578 = .ok (.iload 5, 2) := dk_21 5 (dk_at dksL_law_63 5 rfl rfl)
theorem dL_law_1580 : decode cL_law 1580 = .ok (.ifCond .ne 23, 3) := dk_154 0 23 (dk_at dksL_law_63 7 rfl rfl)
theorem dL_law_1583 : decode cL_law 1583 = .ok (.aload_n 3, 1) := dk_45 (dk_at dksL_law_63 10 rfl rfl)
theorem dL_law_1584 : decode cL_law 1584 = .ok (.getfield 13, 3) := dk_180 0 13 (dk_at dksL_law_63 11 rfl rfl)
theorem dL_law_1587 : decode cL_law 1587 = .ok (.iload 6, 2) := dk_21 6 (dk_at dksL_law_63 14 rfl rfl)
theorem dL_law_1589 : decode cL_law 1589 = .ok (.ifCond .eq 7, 3) := dk_153 0 7 (dk_at dksL_law_63 16 rfl rfl)
theorem dL_law_1592 : decode cL_law 1592 = .ok (.lconst 1, 1) := dk_10 (dk_at dksL_law_63 19 rfl rfl)
theorem dL_law_1593 : decode cL_law 1593 = .ok (.goto 4, 3) := dk_167 0 4 (dk_at dksL_law_63 20 rfl rfl)
theorem dL_law_1596 : decode cL_law 1596 = .ok (.lconst 0, 1) := dk_9 (dk_at dksL_law_63 23 rfl rfl)
theorem dL_law_1597 : decode cL_law 1597 = .ok (.lcmp, 1) := dk_148 (dk_at dksL_law_64 0 rfl rfl)
theorem dL_law_1598 : decode cL_law 1598 = .ok (.ifCond .eq 5, 3) := dk_153 0 5 (dk_at dksL_law_64 1 rfl rfl)
theorem dL_law_1601 : decode cL_law 1601 = .ok (.iconst 0, 1) := dk_3 (dk_at dksL_law_64 4 rfl rfl)
theorem dL_law_1602 : decode cL_law 1602 = .ok (.ireturn, 1) := dk_172 (dk_at dksL_law_64 5 rfl rfl)
theorem dL_law_1603 : decode cL_law 1603 = .ok (.goto 588, 3) := dk_167 2 76 (dk_at dksL_law_64 6 rfl rfl)
theorem dL_law_1606 : decode cL_law 1606 = .ok (.aload_n 1, 1) := dk_43 (dk_at dksL_law_64 9 rfl rfl)
theorem dL_law_1607 : decode cL_law 1607 = .ok (.aload_n 0, 1) := dk_42 (dk_at dksL_law_64 10 rfl rfl)
theorem dL_law_1608 : decode cL_law 1608 = .ok (.iload 4, 2) := dk_21 4 (dk_at dksL_law_64 11 rfl rfl)
theorem dL_law_1610 : decode cL_law 1610 = .ok (.iconst 1, 1) := dk_4 (dk_at dksL_law_64 13 rfl rfl)
theorem dL_law_1611 : decode cL_law 1611 = .ok (.iadd, 1) := dk_96 (dk_at dksL_law_64 14 rfl rfl)
theorem dL_law_1612 : decode cL_law 1612 = .ok (.iaload, 1) := dk_46 (dk_at dksL_law_64 15 rfl rfl)
theorem dL_law_1613 : decode cL_law 1613 = .ok (.aload_n 0, 1) := dk_42 (dk_at dksL_law_64 16 rfl rfl)
theorem dL_law_1614 : decode cL_law 1614 = .ok (.iload 4, 2) := dk_21 4 (dk_at dksL_law_64 17 rfl rfl)
theorem dL_law_1616 : decode cL_law 1616 = .ok (.iconst 2, 1) := dk_5 (dk_at dksL_law_64 19 rfl rfl)
theorem dL_law_1617 : decode cL_law 1617 = .ok (.iadd, 1) := dk_96 (dk_at dksL_law_64 20 rfl rfl)
theorem dL_law_1618 : decode cL_law 1618 = .ok (.iaload, 1) := dk_46 (dk_at dksL_law_64 21 rfl rfl)
theorem dL_law_1619 : decode cL_law 1619 = .ok (.aload_n 3, 1) := dk_45 (dk_at dksL_law_64 22 rfl rfl)
theorem dL_law_1620 : decode cL_law 1620 = .ok (.invokestatic 201, 3) := dk_184 0 201 (dk_at dksL_law_65 0 rfl rfl)
theorem dL_law_1623 : decode cL_law 1623 = .ok (.istore 5, 2) := dk_54 5 (dk_at dksL_law_65 3 rfl rfl)
theorem dL_law_1625 : decode cL_law 1625 = .ok (.aload_n 2, 1) := dk_44 (dk_at dksL_law_65 5 rfl rfl)
theorem dL_law_1626 : decode cL_law 1626 = .ok (.aload_n 0, 1) := dk_42 (dk_at dksL_law_65 6 rfl rfl)
theorem dL_law_1627 : decode cL_law 1627 = .ok (.iload 4, 2) := dk_21 4 (dk_at dksL_law_65 7 rfl rfl)
theorem dL_law_1629 : decode cL_law 1629 = .ok (.iconst 1, 1) := dk_4 (dk_at dksL_law_65 9 rfl rfl)
theorem dL_law_1630 : decode cL_law 1630 = .ok (.iadd, 1) := dk_96 (dk_at dksL_law_65 10 rfl rfl)
theorem dL_law_1631 : decode cL_law 1631 = .ok (.iaload, 1) := dk_46 (dk_at dksL_law_65 11 rfl rfl)
theorem dL_law_1632 : decode cL_law 1632 = .ok (.aload_n 0, 1) := dk_42 (dk_at dksL_law_65 12 rfl rfl)
theorem dL_law_1633 : decode cL_law 1633 = .ok (.iload 4, 2) := dk_21 4 (dk_at dksL_law_65 13 rfl rfl)
theorem dL_law_1635 : decode cL_law 1635 = .ok (.iconst 2, 1) := dk_5 (dk_at dksL_law_65 15 rfl rfl)
theorem dL_law_1636 : decode cL_law 1636 = .ok (.iadd, 1) := dk_96 (dk_at dksL_law_65 16 rfl rfl)
theorem dL_law_1637 : decode cL_law 1637 = .ok (.iaload, 1) := dk_46 (dk_at dksL_law_65 17 rfl rfl)
theorem dL_law_1638 : decode cL_law 1638 = .ok (.invokevirtual 203, 3) := dk_182 0 203 (dk_at dksL_law_65 18 rfl rfl)
theorem dL_law_1641 : decode cL_law 1641 = .ok (.lstore 6, 2) := dk_55 6 (dk_at dksL_law_65 21 rfl rfl)
theorem dL_law_1643 : decode cL_law 1643 = .ok (.aload_n 2, 1) := dk_44 (dk_at dksL_law_65 23 rfl rfl)
theorem dL_law_1644 : decode cL_law 1644 = .ok (.invokevirtual 130, 3) := dk_182 0 130 (dk_at dksL_law_66 0 rfl rfl)
theorem dL_law_1647 : decode cL_law 1647 = .ok (.iload 5, 2) := dk_21 5 (dk_at dksL_law_66 3 rfl rfl)
theorem dL_law_1649 : decode cL_law 1649 = .ok (.if_icmp .eq 5, 3) := dk_159 0 5 (dk_at dksL_law_66 5 rfl rfl)
theorem dL_law_1652 : decode cL_law 1652 = .ok (.iconst 0, 1) := dk_3 (dk_at dksL_law_66 8 rfl rfl)
theorem dL_law_1653 : decode cL_law 1653 = .ok (.ireturn, 1) := dk_172 (dk_at dksL_law_66 9 rfl rfl)
theorem dL_law_1654 : decode cL_law 1654 = .ok (.iload 5, 2) := dk_21 5 (dk_at dksL_law_66 10 rfl rfl)
theorem dL_law_1656 : decode cL_law 1656 = .ok (.ifCond .ne 15, 3) := dk_154 0 15 (dk_at dksL_law_66 12 rfl rfl)
theorem dL_law_1659 : decode cL_law 1659 = .ok (.aload_n 3, 1) := dk_45 (dk_at dksL_law_66 15 rfl rfl)
theorem dL_law_1660 : decode cL_law 1660 = .ok (.getfield 13, 3) := dk_180 0 13 (dk_at dksL_law_66 16 rfl rfl)
theorem dL_law_1663 : decode cL_law 1663 = .ok (.lload 6, 2) := dk_22 6 (dk_at dksL_law_66 19 rfl rfl)
theorem dL_law_1665 : decode cL_law 1665 = .ok (.lcmp, 1) := dk_148 (dk_at dksL_law_66 21 rfl rfl)
theorem dL_law_1666 : decode cL_law 1666 = .ok (.ifCond .eq 5, 3) := dk_153 0 5 (dk_at dksL_law_67 0 rfl rfl)
theorem dL_law_1669 : decode cL_law 1669 = .ok (.iconst 0, 1) := dk_3 (dk_at dksL_law_67 3 rfl rfl)
theorem dL_law_1670 : decode cL_law 1670 = .ok (.ireturn, 1) := dk_172 (dk_at dksL_law_67 4 rfl rfl)
theorem dL_law_1671 : decode cL_law 1671 = .ok (.goto 520, 3) := dk_167 2 8 (dk_at dksL_law_67 5 rfl rfl)
theorem dL_law_1674 : decode cL_law 1674 = .ok (.aload_n 1, 1) := dk_43 (dk_at dksL_law_67 8 rfl rfl)
theorem dL_law_1675 : decode cL_law 1675 = .ok (.aload_n 0, 1) := dk_42 (dk_at dksL_law_67 9 rfl rfl)
theorem dL_law_1676 : decode cL_law 1676 = .ok (.iload 4, 2) := dk_21 4 (dk_at dksL_law_67 10 rfl rfl)
theorem dL_law_1678 : decode cL_law 1678 = .ok (.iconst 1, 1) := dk_4 (dk_at dksL_law_67 12 rfl rfl)
theorem dL_law_1679 : decode cL_law 1679 = .ok (.iadd, 1) := dk_96 (dk_at dksL_law_67 13 rfl rfl)
theorem dL_law_1680 : decode cL_law 1680 = .ok (.iaload, 1) := dk_46 (dk_at dksL_law_67 14 rfl rfl)
theorem dL_law_1681 : decode cL_law 1681 = .ok (.aload_n 0, 1) := dk_42 (dk_at dksL_law_67 15 rfl rfl)
theorem dL_law_1682 : decode cL_law 1682 = .ok (.iload 4, 2) := dk_21 4 (dk_at dksL_law_67 16 rfl rfl)
theorem dL_law_1684 : decode cL_law 1684 = .ok (.iconst 2, 1) := dk_5 (dk_at dksL_law_67 18 rfl rfl)
theorem dL_law_1685 : decode cL_law 1685 = .ok (.iadd, 1) := dk_96 (dk_at dksL_law_67 19 rfl rfl)
theorem dL_law_1686 : decode cL_law 1686 = .ok (.iaload, 1) := dk_46 (dk_at dksL_law_67 20 rfl rfl)
theorem dL_law_1687 : decode cL_law 1687 = .ok (.aload_n 0, 1) := dk_42 (dk_at dksL_law_67 21 rfl rfl)
theorem dL_law_1688 : decode cL_law 1688 = .ok (.iload 4, 2) := dk_21 4 (dk_at dksL_law_67 22 rfl rfl)
theorem dL_law_1690 : decode cL_law 1690 = .ok (.iconst 3, 1) := dk_6 (dk_at dksL_law_68 0 rfl rfl)
theorem dL_law_1691 : decode cL_law 1691 = .ok (.iadd, 1) := dk_96 (dk_at dksL_law_68 1 rfl rfl)
theorem dL_law_1692 : decode cL_law 1692 = .ok (.iaload, 1) := dk_46 (dk_at dksL_law_68 2 rfl rfl)
theorem dL_law_1693 : decode cL_law 1693 = .ok (.aload_n 3, 1) := dk_45 (dk_at dksL_law_68 3 rfl rfl)
theorem dL_law_1694 : decode cL_law 1694 = .ok (.invokestatic 204, 3) := dk_184 0 204 (dk_at dksL_law_68 4 rfl rfl)
theorem dL_law_1697 : decode cL_law 1697 = .ok (.istore 5, 2) := dk_54 5 (dk_at dksL_law_68 7 rfl rfl)
theorem dL_law_1699 : decode cL_law 1699 = .ok (.aload_n 2, 1) := dk_44 (dk_at dksL_law_68 9 rfl rfl)
theorem dL_law_1700 : decode cL_law 1700 = .ok (.aload_n 0, 1) := dk_42 (dk_at dksL_law_68 10 rfl rfl)
theorem dL_law_1701 : decode cL_law 1701 = .ok (.iload 4, 2) := dk_21 4 (dk_at dksL_law_68 11 rfl rfl)
theorem dL_law_1703 : decode cL_law 1703 = .ok (.iconst 1, 1) := dk_4 (dk_at dksL_law_68 13 rfl rfl)
theorem dL_law_1704 : decode cL_law 1704 = .ok (.iadd, 1) := dk_96 (dk_at dksL_law_68 14 rfl rfl)
theorem dL_law_1705 : decode cL_law 1705 = .ok (.iaload, 1) := dk_46 (dk_at dksL_law_68 15 rfl rfl)
theorem dL_law_1706 : decode cL_law 1706 = .ok (.aload_n 0, 1) := dk_42 (dk_at dksL_law_68 16 rfl rfl)
theorem dL_law_1707 : decode cL_law 1707 = .ok (.iload 4, 2) := dk_21 4 (dk_at dksL_law_68 17 rfl rfl)
theorem dL_law_1709 : decode cL_law 1709 = .ok (.iconst 2, 1) := dk_5 (dk_at dksL_law_68 19 rfl rfl)
theorem dL_law_1710 : decode cL_law 1710 = .ok (.iadd, 1) := dk_96 (dk_at dksL_law_68 20 rfl rfl)
theorem dL_law_1711 : decode cL_law 1711 = .ok (.iaload, 1) := dk_46 (dk_at dksL_law_68 21 rfl rfl)
theorem dL_law_1712 : decode cL_law 1712 = .ok (.aload_n 0, 1) := dk_42 (dk_at dksL_law_68 22 rfl rfl)
theorem dL_law_1713 : decode cL_law 1713 = .ok (.iload 4, 2) := dk_21 4 (dk_at dksL_law_69 0 rfl rfl)
theorem dL_law_1715 : decode cL_law 1715 = .ok (.iconst 3, 1) := dk_6 (dk_at dksL_law_69 2 rfl rfl)
theorem dL_law_1716 : decode cL_law 1716 = .ok (.iadd, 1) := dk_96 (dk_at dksL_law_69 3 rfl rfl)
theorem dL_law_1717 : decode cL_law 1717 = .ok (.iaload, 1) := dk_46 (dk_at dksL_law_69 4 rfl rfl)
theorem dL_law_1718 : decode cL_law 1718 = .ok (.invokevirtual 206, 3) := dk_182 0 206 (dk_at dksL_law_69 5 rfl rfl)
theorem dL_law_1721 : decode cL_law 1721 = .ok (.istore 6, 2) := dk_54 6 (dk_at dksL_law_69 8 rfl rfl)
theorem dL_law_1723 : decode cL_law 1723 = .ok (.aload_n 2, 1) := dk_44 (dk_at dksL_law_69 10 rfl rfl)
theorem dL_law_1724 : decode cL_law 1724 = .ok (.invokevirtual 130, 3) := dk_182 0 130 (dk_at dksL_law_69 11 rfl rfl)
theorem dL_law_1727 : decode cL_law 1727 = .ok (.iload 5, 2) := dk_21 5 (dk_at dksL_law_69 14 rfl rfl)
theorem dL_law_1729 : decode cL_law 1729 = .ok (.if_icmp .eq 5, 3) := dk_159 0 5 (dk_at dksL_law_69 16 rfl rfl)
theorem dL_law_1732 : decode cL_law 1732 = .ok (.iconst 0, 1) := dk_3 (dk_at dksL_law_69 19 rfl rfl)
theorem dL_law_1733 : decode cL_law 1733 = .ok (.ireturn, 1) := dk_172 (dk_at dksL_law_69 20 rfl rfl)
theorem dL_law_1734 : decode cL_law 1734 = .ok (.iload 5, 2) := dk_21 5 (dk_at dksL_law_69 21 rfl rfl)
theorem dL_law_1736 : decode cL_law 1736 = .ok (.ifCond .ne 16, 3) := dk_154 0 16 (dk_at dksL_law_70 0 rfl rfl)
theorem dL_law_1739 : decode cL_law 1739 = .ok (.aload_n 3, 1) := dk_45 (dk_at dksL_law_70 3 rfl rfl)
theorem dL_law_1740 : decode cL_law 1740 = .ok (.getfield 13, 3) := dk_180 0 13 (dk_at dksL_law_70 4 rfl rfl)
theorem dL_law_1743 : decode cL_law 1743 = .ok (.iload 6, 2) := dk_21 6 (dk_at dksL_law_70 7 rfl rfl)
theorem dL_law_1745 : decode cL_law 1745 = .ok (.i2l, 1) := dk_133 (dk_at dksL_law_70 9 rfl rfl)
theorem dL_law_1746 : decode cL_law 1746 = .ok (.lcmp, 1) := dk_148 (dk_at dksL_law_70 10 rfl rfl)
theorem dL_law_1747 : decode cL_law 1747 = .ok (.ifCond .eq 5, 3) := dk_153 0 5 (dk_at dksL_law_70 11 rfl rfl)
theorem dL_law_1750 : decode cL_law 1750 = .ok (.iconst 0, 1) := dk_3 (dk_at dksL_law_70 14 rfl rfl)
theorem dL_law_1751 : decode cL_law 1751 = .ok (.ireturn, 1) := dk_172 (dk_at dksL_law_70 15 rfl rfl)
theorem dL_law_1752 : decode cL_law 1752 = .ok (.goto 439, 3) := dk_167 1 183 (dk_at dksL_law_70 16 rfl rfl)
theorem dL_law_1755 : decode cL_law 1755 = .ok (.aload_n 1, 1) := dk_43 (dk_at dksL_law_70 19 rfl rfl)
theorem dL_law_1756 : decode cL_law 1756 = .ok (.aload_n 0, 1) := dk_42 (dk_at dksL_law_70 20 rfl rfl)
theorem dL_law_1757 : decode cL_law 1757 = .ok (.iload 4, 2) := dk_21 4 (dk_at dksL_law_70 21 rfl rfl)
theorem dL_law_1759 : decode cL_law 1759 = .ok (.iconst 1, 1) := dk_4 (dk_at dksL_law_70 23 rfl rfl)
theorem dL_law_1760 : decode cL_law 1760 = .ok (.iadd, 1) := dk_96 (dk_at dksL_law_71 0 rfl rfl)
theorem dL_law_1761 : decode cL_law 1761 = .ok (.iaload, 1) := dk_46 (dk_at dksL_law_71 1 rfl rfl)
theorem dL_law_1762 : decode cL_law 1762 = .ok (.aload_n 0, 1) := dk_42 (dk_at dksL_law_71 2 rfl rfl)
theorem dL_law_1763 : decode cL_law 1763 = .ok (.iload 4, 2) := dk_21 4 (dk_at dksL_law_71 3 rfl rfl)
theorem dL_law_1765 : decode cL_law 1765 = .ok (.iconst 2, 1) := dk_5 (dk_at dksL_law_71 5 rfl rfl)
theorem dL_law_1766 : decode cL_law 1766 = .ok (.iadd, 1) := dk_96 (dk_at dksL_law_71 6 rfl rfl)
theorem dL_law_1767 : decode cL_law 1767 = .ok (.iaload, 1) := dk_46 (dk_at dksL_law_71 7 rfl rfl)
theorem dL_law_1768 : decode cL_law 1768 = .ok (.aload_n 3, 1) := dk_45 (dk_at dksL_law_71 8 rfl rfl)
theorem dL_law_1769 : decode cL_law 1769 = .ok (.invokestatic 207, 3) := dk_184 0 207 (dk_at dksL_law_71 9 rfl rfl)
theorem dL_law_1772 : decode cL_law 1772 = .ok (.istore 5, 2) := dk_54 5 (dk_at dksL_law_71 12 rfl rfl)
theorem dL_law_1774 : decode cL_law 1774 = .ok (.aload_n 2, 1) := dk_44 (dk_at dksL_law_71 14 rfl rfl)
theorem dL_law_1775 : decode cL_law 1775 = .ok (.aload_n 0, 1) := dk_42 (dk_at dksL_law_71 15 rfl rfl)
theorem dL_law_1776 : decode cL_law 1776 = .ok (.iload 4, 2) := dk_21 4 (dk_at dksL_law_71 16 rfl rfl)
theorem dL_law_1778 : decode cL_law 1778 = .ok (.iconst 1, 1) := dk_4 (dk_at dksL_law_71 18 rfl rfl)
theorem dL_law_1779 : decode cL_law 1779 = .ok (.iadd, 1) := dk_96 (dk_at dksL_law_71 19 rfl rfl)
theorem dL_law_1780 : decode cL_law 1780 = .ok (.iaload, 1) := dk_46 (dk_at dksL_law_71 20 rfl rfl)
theorem dL_law_1781 : decode cL_law 1781 = .ok (.aload_n 0, 1) := dk_42 (dk_at dksL_law_71 21 rfl rfl)
theorem dL_law_1782 : decode cL_law 1782 = .ok (.iload 4, 2) := dk_21 4 (dk_at dksL_law_71 22 rfl rfl)
theorem dL_law_1784 : decode cL_law 1784 = .ok (.iconst 2, 1) := dk_5 (dk_at dksL_law_72 0 rfl rfl)
theorem dL_law_1785 : decode cL_law 1785 = .ok (.iadd, 1) := dk_96 (dk_at dksL_law_72 1 rfl rfl)
theorem dL_law_1786 : decode cL_law 1786 = .ok (.iaload, 1) := dk_46 (dk_at dksL_law_72 2 rfl rfl)
theorem dL_law_1787 : decode cL_law 1787 = .ok (.invokevirtual 209, 3) := dk_182 0 209 (dk_at dksL_law_72 3 rfl rfl)
theorem dL_law_1790 : decode cL_law 1790 = .ok (.istore 6, 2) := dk_54 6 (dk_at dksL_law_72 6 rfl rfl)
theorem dL_law_1792 : decode cL_law 1792 = .ok (.aload_n 2, 1) := dk_44 (dk_at dksL_law_72 8 rfl rfl)
theorem dL_law_1793 : decode cL_law 1793 = .ok (.invokevirtual 130, 3) := dk_182 0 130 (dk_at dksL_law_72 9 rfl rfl)
theorem dL_law_1796 : decode cL_law 1796 = .ok (.iload 5, 2) := dk_21 5 (dk_at dksL_law_72 12 rfl rfl)
theorem dL_law_1798 : decode cL_law 1798 = .ok (.if_icmp .eq 5, 3) := dk_159 0 5 (dk_at dksL_law_72 14 rfl rfl)
theorem dL_law_1801 : decode cL_law 1801 = .ok (.iconst 0, 1) := dk_3 (dk_at dksL_law_72 17 rfl rfl)
theorem dL_law_1802 : decode cL_law 1802 = .ok (.ireturn, 1) := dk_172 (dk_at dksL_law_72 18 rfl rfl)
theorem dL_law_1803 : decode cL_law 1803 = .ok (.iload 5, 2) := dk_21 5 (dk_at dksL_law_72 19 rfl rfl)
theorem dL_law_1805 : decode cL_law 1805 = .ok (.ifCond .ne 16, 3) := dk_154 0 16 (dk_at dksL_law_72 21 rfl rfl)
theorem dL_law_1808 : decode cL_law 1808 = .ok (.aload_n 3, 1) := dk_45 (dk_at dksL_law_73 0 rfl rfl)
theorem dL_law_1809 : decode cL_law 1809 = .ok (.getfield 13, 3) := dk_180 0 13 (dk_at dksL_law_73 1 rfl rfl)
theorem dL_law_1812 : decode cL_law 1812 = .ok (.iload 6, 2) := dk_21 6 (dk_at dksL_law_73 4 rfl rfl)
theorem dL_law_1814 : decode cL_law 1814 = .ok (.i2l, 1) := dk_133 (dk_at dksL_law_73 6 rfl rfl)
theorem dL_law_1815 : decode cL_law 1815 = .ok (.lcmp, 1) := dk_148 (dk_at dksL_law_73 7 rfl rfl)
theorem dL_law_1816 : decode cL_law 1816 = .ok (.ifCond .eq 5, 3) := dk_153 0 5 (dk_at dksL_law_73 8 rfl rfl)
theorem dL_law_1819 : decode cL_law 1819 = .ok (.iconst 0, 1) := dk_3 (dk_at dksL_law_73 11 rfl rfl)
theorem dL_law_1820 : decode cL_law 1820 = .ok (.ireturn, 1) := dk_172 (dk_at dksL_law_73 12 rfl rfl)
theorem dL_law_1821 : decode cL_law 1821 = .ok (.goto 370, 3) := dk_167 1 114 (dk_at dksL_law_73 13 rfl rfl)
theorem dL_law_1824 : decode cL_law 1824 = .ok (.aload_n 1, 1) := dk_43 (dk_at dksL_law_73 16 rfl rfl)
theorem dL_law_1825 : decode cL_law 1825 = .ok (.aload_n 0, 1) := dk_42 (dk_at dksL_law_73 17 rfl rfl)
theorem dL_law_1826 : decode cL_law 1826 = .ok (.iload 4, 2) := dk_21 4 (dk_at dksL_law_73 18 rfl rfl)
theorem dL_law_1828 : decode cL_law 1828 = .ok (.iconst 1, 1) := dk_4 (dk_at dksL_law_73 20 rfl rfl)
theorem dL_law_1829 : decode cL_law 1829 = .ok (.iadd, 1) := dk_96 (dk_at dksL_law_73 21 rfl rfl)
theorem dL_law_1830 : decode cL_law 1830 = .ok (.iaload, 1) := dk_46 (dk_at dksL_law_73 22 rfl rfl)
theorem dL_law_1831 : decode cL_law 1831 = .ok (.aload_n 3, 1) := dk_45 (dk_at dksL_law_73 23 rfl rfl)
theorem dL_law_1832 : decode cL_law 1832 = .ok (.invokestatic 210, 3) := dk_184 0 210 (dk_at dksL_law_74 0 rfl rfl)
theorem dL_law_1835 : decode cL_law 1835 = .ok (.istore 5, 2) := dk_54 5 (dk_at dksL_law_74 3 rfl rfl)
theorem dL_law_1837 : decode cL_law 1837 = .ok (.aload_n 2, 1) := dk_44 (dk_at dksL_law_74 5 rfl rfl)
theorem dL_law_1838 : decode cL_law 1838 = .ok (.aload_n 0, 1) := dk_42 (dk_at dksL_law_74 6 rfl rfl)
theorem dL_law_1839 : decode cL_law 1839 = .ok (.iload 4, 2) := dk_21 4 (dk_at dksL_law_74 7 rfl rfl)
theorem dL_law_1841 : decode cL_law 1841 = .ok (.iconst 1, 1) := dk_4 (dk_at dksL_law_74 9 rfl rfl)
theorem dL_law_1842 : decode cL_law 1842 = .ok (.iadd, 1) := dk_96 (dk_at dksL_law_74 10 rfl rfl)
theorem dL_law_1843 : decode cL_law 1843 = .ok (.iaload, 1) := dk_46 (dk_at dksL_law_74 11 rfl rfl)
theorem dL_law_1844 : decode cL_law 1844 = .ok (.invokevirtual 212, 3) := dk_182 0 212 (dk_at dksL_law_74 12 rfl rfl)
theorem dL_law_1847 : decode cL_law 1847 = .ok (.dstore 6, 2) := dk_57 6 (dk_at dksL_law_74 15 rfl rfl)
theorem dL_law_1849 : decode cL_law 1849 = .ok (.aload_n 2, 1) := dk_44 (dk_at dksL_law_74 17 rfl rfl)
theorem dL_law_1850 : decode cL_law 1850 = .ok (.invokevirtual 130, 3) := dk_182 0 130 (dk_at dksL_law_74 18 rfl rfl)
theorem dL_law_1853 : decode cL_law 1853 = .ok (.iload 5, 2) := dk_21 5 (dk_at dksL_law_74 21 rfl rfl)
theorem dL_law_1855 : decode cL_law 1855 = .ok (.if_icmp .eq 5, 3) := dk_159 0 5 (dk_at dksL_law_75 0 rfl rfl)
theorem dL_law_1858 : decode cL_law 1858 = .ok (.iconst 0, 1) := dk_3 (dk_at dksL_law_75 3 rfl rfl)
theorem dL_law_1859 : decode cL_law 1859 = .ok (.ireturn, 1) := dk_172 (dk_at dksL_law_75 4 rfl rfl)
theorem dL_law_1860 : decode cL_law 1860 = .ok (.iload 5, 2) := dk_21 5 (dk_at dksL_law_75 5 rfl rfl)
theorem dL_law_1862 : decode cL_law 1862 = .ok (.ifCond .ne 35, 3) := dk_154 0 35 (dk_at dksL_law_75 7 rfl rfl)
theorem dL_law_1865 : decode cL_law 1865 = .ok (.aload_n 3, 1) := dk_45 (dk_at dksL_law_75 10 rfl rfl)
theorem dL_law_1866 : decode cL_law 1866 = .ok (.getfield 103, 3) := dk_180 0 103 (dk_at dksL_law_75 11 rfl rfl)
theorem dL_law_1869 : decode cL_law 1869 = .ok (.dload 6, 2) := dk_24 6 (dk_at dksL_law_75 14 rfl rfl)
theorem dL_law_1871 : decode cL_law 1871 = .ok (.dcmp .l, 1) := dk_151 (dk_at dksL_law_75 16 rfl rfl)
theorem dL_law_1872 : decode cL_law 1872 = .ok (.ifCond .eq 25, 3) := dk_153 0 25 (dk_at dksL_law_75 17 rfl rfl)
theorem dL_law_1875 : decode cL_law 1875 = .ok (.aload_n 3, 1) := dk_45 (dk_at dksL_law_75 20 rfl rfl)
theorem dL_law_1876 : decode cL_law 1876 = .ok (.getfield 103, 3) := dk_180 0 103 (dk_at dksL_law_75 21 rfl rfl)
theorem dL_law_1879 : decode cL_law 1879 = .ok (.aload_n 3, 1) := dk_45 (dk_at dksL_law_76 0 rfl rfl)
theorem dL_law_1880 : decode cL_law 1880 = .ok (.getfield 103, 3) := dk_180 0 103 (dk_at dksL_law_76 1 rfl rfl)
theorem dL_law_1883 : decode cL_law 1883 = .ok (.dcmp .l, 1) := dk_151 (dk_at dksL_law_76 4 rfl rfl)
theorem dL_law_1884 : decode cL_law 1884 = .ok (.ifCond .eq 11, 3) := dk_153 0 11 (dk_at dksL_law_76 5 rfl rfl)
theorem dL_law_1887 : decode cL_law 1887 = .ok (.dload 6, 2) := dk_24 6 (dk_at dksL_law_76 8 rfl rfl)
theorem dL_law_1889 : decode cL_law 1889 = .ok (.dload 6, 2) := dk_24 6 (dk_at dksL_law_76 10 rfl rfl)
theorem dL_law_1891 : decode cL_law 1891 = .ok (.dcmp .l, 1) := dk_151 (dk_at dksL_law_76 12 rfl rfl)
theorem dL_law_1892 : decode cL_law 1892 = .ok (.ifCond .ne 5, 3) := dk_154 0 5 (dk_at dksL_law_76 13 rfl rfl)
theorem dL_law_1895 : decode cL_law 1895 = .ok (.iconst 0, 1) := dk_3 (dk_at dksL_law_76 16 rfl rfl)
theorem dL_law_1896 : decode cL_law 1896 = .ok (.ireturn, 1) := dk_172 (dk_at dksL_law_76 17 rfl rfl)
theorem dL_law_1897 : decode cL_law 1897 = .ok (.goto 294, 3) := dk_167 1 38 (dk_at dksL_law_76 18 rfl rfl)
theorem dL_law_1900 : decode cL_law 1900 = .ok (.aload_n 1, 1) := dk_43 (dk_at dksL_law_76 21 rfl rfl)
theorem dL_law_1901 : decode cL_law 1901 = .ok (.aload_n 0, 1) := dk_42 (dk_at dksL_law_76 22 rfl rfl)
theorem dL_law_1902 : decode cL_law 1902 = .ok (.iload 4, 2) := dk_21 4 (dk_at dksL_law_77 0 rfl rfl)
theorem dL_law_1904 : decode cL_law 1904 = .ok (.iconst 1, 1) := dk_4 (dk_at dksL_law_77 2 rfl rfl)
theorem dL_law_1905 : decode cL_law 1905 = .ok (.iadd, 1) := dk_96 (dk_at dksL_law_77 3 rfl rfl)
theorem dL_law_1906 : decode cL_law 1906 = .ok (.iaload, 1) := dk_46 (dk_at dksL_law_77 4 rfl rfl)
theorem dL_law_1907 : decode cL_law 1907 = .ok (.aload_n 0, 1) := dk_42 (dk_at dksL_law_77 5 rfl rfl)
theorem dL_law_1908 : decode cL_law 1908 = .ok (.iload 4, 2) := dk_21 4 (dk_at dksL_law_77 6 rfl rfl)
theorem dL_law_1910 : decode cL_law 1910 = .ok (.iconst 2, 1) := dk_5 (dk_at dksL_law_77 8 rfl rfl)
theorem dL_law_1911 : decode cL_law 1911 = .ok (.iadd, 1) := dk_96 (dk_at dksL_law_77 9 rfl rfl)
theorem dL_law_1912 : decode cL_law 1912 = .ok (.iaload, 1) := dk_46 (dk_at dksL_law_77 10 rfl rfl)
theorem dL_law_1913 : decode cL_law 1913 = .ok (.aload_n 3, 1) := dk_45 (dk_at dksL_law_77 11 rfl rfl)
theorem dL_law_1914 : decode cL_law 1914 = .ok (.invokestatic 213, 3) := dk_184 0 213 (dk_at dksL_law_77 12 rfl rfl)
theorem dL_law_1917 : decode cL_law 1917 = .ok (.istore 5, 2) := dk_54 5 (dk_at dksL_law_77 15 rfl rfl)
theorem dL_law_1919 : decode cL_law 1919 = .ok (.aload_n 2, 1) := dk_44 (dk_at dksL_law_77 17 rfl rfl)
theorem dL_law_1920 : decode cL_law 1920 = .ok (.aload_n 0, 1) := dk_42 (dk_at dksL_law_77 18 rfl rfl)
theorem dL_law_1921 : decode cL_law 1921 = .ok (.iload 4, 2) := dk_21 4 (dk_at dksL_law_77 19 rfl rfl)
theorem dL_law_1923 : decode cL_law 1923 = .ok (.iconst 1, 1) := dk_4 (dk_at dksL_law_77 21 rfl rfl)
theorem dL_law_1924 : decode cL_law 1924 = .ok (.iadd, 1) := dk_96 (dk_at dksL_law_77 22 rfl rfl)
theorem dL_law_1925 : decode cL_law 1925 = .ok (.iaload, 1) := dk_46 (dk_at dksL_law_77 23 rfl rfl)
theorem dL_law_1926 : decode cL_law 1926 = .ok (.aload_n 0, 1) := dk_42 (dk_at dksL_law_78 0 rfl rfl)
theorem dL_law_1927 : decode cL_law 1927 = .ok (.iload 4, 2) := dk_21 4 (dk_at dksL_law_78 1 rfl rfl)
theorem dL_law_1929 : decode cL_law 1929 = .ok (.iconst 2, 1) := dk_5 (dk_at dksL_law_78 3 rfl rfl)
theorem dL_law_1930 : decode cL_law 1930 = .ok (.iadd, 1) := dk_96 (dk_at dksL_law_78 4 rfl rfl)
theorem dL_law_1931 : decode cL_law 1931 = .ok (.iaload, 1) := dk_46 (dk_at dksL_law_78 5 rfl rfl)
theorem dL_law_1932 : decode cL_law 1932 = .ok (.invokevirtual 215, 3) := dk_182 0 215 (dk_at dksL_law_78 6 rfl rfl)
theorem dL_law_1935 : decode cL_law 1935 = .ok (.istore 6, 2) := dk_54 6 (dk_at dksL_law_78 9 rfl rfl)
theorem dL_law_1937 : decode cL_law 1937 = .ok (.aload_n 2, 1) := dk_44 (dk_at dksL_law_78 11 rfl rfl)
theorem dL_law_1938 : decode cL_law 1938 = .ok (.invokevirtual 130, 3) := dk_182 0 130 (dk_at dksL_law_78 12 rfl rfl)
theorem dL_law_1941 : decode cL_law 1941 = .ok (.iload 5, 2) := dk_21 5 (dk_at dksL_law_78 15 rfl rfl)
theorem dL_law_1943 : decode cL_law 1943 = .ok (.if_icmp .eq 5, 3) := dk_159 0 5 (dk_at dksL_law_78 17 rfl rfl)
theorem dL_law_1946 : decode cL_law 1946 = .ok (.iconst 0, 1) := dk_3 (dk_at dksL_law_78 20 rfl rfl)
theorem dL_law_1947 : decode cL_law 1947 = .ok (.ireturn, 1) := dk_172 (dk_at dksL_law_78 21 rfl rfl)
theorem dL_law_1948 : decode cL_law 1948 = .ok (.iload 5, 2) := dk_21 5 (dk_at dksL_law_78 22 rfl rfl)
theorem dL_law_1950 : decode cL_law 1950 = .ok (.ifCond .ne 16, 3) := dk_154 0 16 (dk_at dksL_law_79 0 rfl rfl)
theorem dL_law_1953 : decode cL_law 1953 = .ok (.aload_n 3, 1) := dk_45 (dk_at dksL_law_79 3 rfl rfl)
theorem dL_law_1954 : decode cL_law 1954 = .ok (.getfield 13, 3) := dk_180 0 13 (dk_at dksL_law_79 4 rfl rfl)
theorem dL_law_1957 : decode cL_law 1957 = .ok (.iload 6, 2) := dk_21 6 (dk_at dksL_law_79 7 rfl rfl)
theorem dL_law_1959 : decode cL_law 1959 = .ok (.i2l, 1) := dk_133 (dk_at dksL_law_79 9 rfl rfl)
theorem dL_law_1960 : decode cL_law 1960 = .ok (.lcmp, 1) := dk_148 (dk_at dksL_law_79 10 rfl rfl)
theorem dL_law_1961 : decode cL_law 1961 = .ok (.ifCond .eq 5, 3) := dk_153 0 5 (dk_at dksL_law_79 11 rfl rfl)
theorem dL_law_1964 : decode cL_law 1964 = .ok (.iconst 0, 1) := dk_3 (dk_at dksL_law_79 14 rfl rfl)
theorem dL_law_1965 : decode cL_law 1965 = .ok (.ireturn, 1) := dk_172 (dk_at dksL_law_79 15 rfl rfl)
theorem dL_law_1966 : decode cL_law 1966 = .ok (.goto 225, 3) := dk_167 0 225 (dk_at dksL_law_79 16 rfl rfl)
theorem dL_law_1969 : decode cL_law 1969 = .ok (.aload_n 1, 1) := dk_43 (dk_at dksL_law_79 19 rfl rfl)
theorem dL_law_1970 : decode cL_law 1970 = .ok (.aload_n 0, 1) := dk_42 (dk_at dksL_law_79 20 rfl rfl)
theorem dL_law_1971 : decode cL_law 1971 = .ok (.iload 4, 2) := dk_21 4 (dk_at dksL_law_79 21 rfl rfl)
theorem dL_law_1973 : decode cL_law 1973 = .ok (.iconst 1, 1) := dk_4 (dk_at dksL_law_79 23 rfl rfl)
theorem dL_law_1974 : decode cL_law 1974 = .ok (.iadd, 1) := dk_96 (dk_at dksL_law_80 0 rfl rfl)
theorem dL_law_1975 : decode cL_law 1975 = .ok (.iaload, 1) := dk_46 (dk_at dksL_law_80 1 rfl rfl)
theorem dL_law_1976 : decode cL_law 1976 = .ok (.aload_n 3, 1) := dk_45 (dk_at dksL_law_80 2 rfl rfl)
theorem dL_law_1977 : decode cL_law 1977 = .ok (.invokestatic 216, 3) := dk_184 0 216 (dk_at dksL_law_80 3 rfl rfl)
theorem dL_law_1980 : decode cL_law 1980 = .ok (.istore 5, 2) := dk_54 5 (dk_at dksL_law_80 6 rfl rfl)
theorem dL_law_1982 : decode cL_law 1982 = .ok (.aload_n 2, 1) := dk_44 (dk_at dksL_law_80 8 rfl rfl)
theorem dL_law_1983 : decode cL_law 1983 = .ok (.aload_n 0, 1) := dk_42 (dk_at dksL_law_80 9 rfl rfl)
theorem dL_law_1984 : decode cL_law 1984 = .ok (.iload 4, 2) := dk_21 4 (dk_at dksL_law_80 10 rfl rfl)
theorem dL_law_1986 : decode cL_law 1986 = .ok (.iconst 1, 1) := dk_4 (dk_at dksL_law_80 12 rfl rfl)
theorem dL_law_1987 : decode cL_law 1987 = .ok (.iadd, 1) := dk_96 (dk_at dksL_law_80 13 rfl rfl)
theorem dL_law_1988 : decode cL_law 1988 = .ok (.iaload, 1) := dk_46 (dk_at dksL_law_80 14 rfl rfl)
theorem dL_law_1989 : decode cL_law 1989 = .ok (.invokevirtual 218, 3) := dk_182 0 218 (dk_at dksL_law_80 15 rfl rfl)
theorem dL_law_1992 : decode cL_law 1992 = .ok (.istore 6, 2) := dk_54 6 (dk_at dksL_law_80 18 rfl rfl)
theorem dL_law_1994 : decode cL_law 1994 = .ok (.aload_n 2, 1) := dk_44 (dk_at dksL_law_80 20 rfl rfl)
theorem dL_law_1995 : decode cL_law 1995 = .ok (.invokevirtual 130, 3) := dk_182 0 130 (dk_at dksL_law_80 21 rfl rfl)
theorem dL_law_1998 : decode cL_law 1998 = .ok (.iload 5, 2) := dk_21 5 (dk_at dksL_law_81 0 rfl rfl)
theorem dL_law_2000 : decode cL_law 2000 = .ok (.if_icmp .eq 5, 3) := dk_159 0 5 (dk_at dksL_law_81 2 rfl rfl)
theorem dL_law_2003 : decode cL_law 2003 = .ok (.iconst 0, 1) := dk_3 (dk_at dksL_law_81 5 rfl rfl)
theorem dL_law_2004 : decode cL_law 2004 = .ok (.ireturn, 1) := dk_172 (dk_at dksL_law_81 6 rfl rfl)
theorem dL_law_2005 : decode cL_law 2005 = .ok (.iload 5, 2) := dk_21 5 (dk_at dksL_law_81 7 rfl rfl)
theorem dL_law_2007 : decode cL_law 2007 = .ok (.ifCond .ne 16, 3) := dk_154 0 16 (dk_at dksL_law_81 9 rfl rfl)
theorem dL_law_2010 : decode cL_law 2010 = .ok (.aload_n 3, 1) := dk_45 (dk_at dksL_law_81 12 rfl rfl)
theorem dL_law_2011 : decode cL_law 2011 = .ok (.getfield 13, 3) := dk_180 0 13 (dk_at dksL_law_81 13 rfl rfl)
theorem dL_law_2014 : decode cL_law 2014 = .ok (.iload 6, 2) := dk_21 6 (dk_at dksL_law_81 16 rfl rfl)
theorem dL_law_2016 : decode cL_law 2016 = .ok (.i2l, 1) := dk_133 (dk_at dksL_law_81 18 rfl rfl)
theorem dL_law_2017 : decode cL_law 2017 = .ok (.lcmp, 1) := dk_148 (dk_at dksL_law_81 19 rfl rfl)
theorem dL_law_2018 : decode cL_law 2018 = .ok (.ifCond .eq 5, 3) := dk_153 0 5 (dk_at dksL_law_81 20 rfl rfl)
theorem dL_law_2021 : decode cL_law 2021 = .ok (.iconst 0, 1) := dk_3 (dk_at dksL_law_81 23 rfl rfl)
theorem dL_law_2022 : decode cL_law 2022 = .ok (.ireturn, 1) := dk_172 (dk_at dksL_law_82 0 rfl rfl)
theorem dL_law_2023 : decode cL_law 2023 = .ok (.goto 168, 3) := dk_167 0 168 (dk_at dksL_law_82 1 rfl rfl)
theorem dL_law_2026 : decode cL_law 2026 = .ok (.aload_n 1, 1) := dk_43 (dk_at dksL_law_82 4 rfl rfl)
theorem dL_law_2027 : decode cL_law 2027 = .ok (.aload_n 0, 1) := dk_42 (dk_at dksL_law_82 5 rfl rfl)
theorem dL_law_2028 : decode cL_law 2028 = .ok (.iload 4, 2) := dk_21 4 (dk_at dksL_law_82 6 rfl rfl)
theorem dL_law_2030 : decode cL_law 2030 = .ok (.iconst 1, 1) := dk_4 (dk_at dksL_law_82 8 rfl rfl)
theorem dL_law_2031 : decode cL_law 2031 = .ok (.iadd, 1) := dk_96 (dk_at dksL_law_82 9 rfl rfl)
theorem dL_law_2032 : decode cL_law 2032 = .ok (.iaload, 1) := dk_46 (dk_at dksL_law_82 10 rfl rfl)
theorem dL_law_2033 : decode cL_law 2033 = .ok (.aload_n 0, 1) := dk_42 (dk_at dksL_law_82 11 rfl rfl)
theorem dL_law_2034 : decode cL_law 2034 = .ok (.iload 4, 2) := dk_21 4 (dk_at dksL_law_82 12 rfl rfl)
theorem dL_law_2036 : decode cL_law 2036 = .ok (.iconst 2, 1) := dk_5 (dk_at dksL_law_82 14 rfl rfl)
theorem dL_law_2037 : decode cL_law 2037 = .ok (.iadd, 1) := dk_96 (dk_at dksL_law_82 15 rfl rfl)
theorem dL_law_2038 : decode cL_law 2038 = .ok (.iaload, 1) := dk_46 (dk_at dksL_law_82 16 rfl rfl)
theorem dL_law_2039 : decode cL_law 2039 = .ok (.aload_n 3, 1) := dk_45 (dk_at dksL_law_82 17 rfl rfl)
theorem dL_law_2040 : decode cL_law 2040 = .ok (.invokestatic 219, 3) := dk_184 0 219 (dk_at dksL_law_82 18 rfl rfl)
theorem dL_law_2043 : decode cL_law 2043 = .ok (.istore 5, 2) := dk_54 5 (dk_at dksL_law_82 21 rfl rfl)
theorem dL_law_2045 : decode cL_law 2045 = .ok (.aload_n 2, 1) := dk_44 (dk_at dksL_law_82 23 rfl rfl)
theorem dL_law_2046 : decode cL_law 2046 = .ok (.aload_n 0, 1) := dk_42 (dk_at dksL_law_83 0 rfl rfl)
theorem dL_law_2047 : decode cL_law 2047 = .ok (.iload 4, 2) := dk_21 4 (dk_at dksL_law_83 1 rfl rfl)
theorem dL_law_2049 : decode cL_law 2049 = .ok (.iconst 1, 1) := dk_4 (dk_at dksL_law_83 3 rfl rfl)
theorem dL_law_2050 : decode cL_law 2050 = .ok (.iadd, 1) := dk_96 (dk_at dksL_law_83 4 rfl rfl)
theorem dL_law_2051 : decode cL_law 2051 = .ok (.iaload, 1) := dk_46 (dk_at dksL_law_83 5 rfl rfl)
theorem dL_law_2052 : decode cL_law 2052 = .ok (.aload_n 0, 1) := dk_42 (dk_at dksL_law_83 6 rfl rfl)
theorem dL_law_2053 : decode cL_law 2053 = .ok (.iload 4, 2) := dk_21 4 (dk_at dksL_law_83 7 rfl rfl)
theorem dL_law_2055 : decode cL_law 2055 = .ok (.iconst 2, 1) := dk_5 (dk_at dksL_law_83 9 rfl rfl)
theorem dL_law_2056 : decode cL_law 2056 = .ok (.iadd, 1) := dk_96 (dk_at dksL_law_83 10 rfl rfl)
theorem dL_law_2057 : decode cL_law 2057 = .ok (.iaload, 1) := dk_46 (dk_at dksL_law_83 11 rfl rfl)
theorem dL_law_2058 : decode cL_law 2058 = .ok (.invokevirtual 221, 3) := dk_182 0 221 (dk_at dksL_law_83 12 rfl rfl)
theorem dL_law_2061 : decode cL_law 2061 = .ok (.istore 6, 2) := dk_54 6 (dk_at dksL_law_83 15 rfl rfl)
theorem dL_law_2063 : decode cL_law 2063 = .ok (.aload_n 2, 1) := dk_44 (dk_at dksL_law_83 17 rfl rfl)
theorem dL_law_2064 : decode cL_law 2064 = .ok (.invokevirtual 130, 3) := dk_182 0 130 (dk_at dksL_law_83 18 rfl rfl)
theorem dL_law_2067 : decode cL_law 2067 = .ok (.iload 5, 2) := dk_21 5 (dk_at dksL_law_83 21 rfl rfl)
theorem dL_law_2069 : decode cL_law 2069 = .ok (.if_icmp .eq 5, 3) := dk_159 0 5 (dk_at dksL_law_84 0 rfl rfl)
theorem dL_law_2072 : decode cL_law 2072 = .ok (.iconst 0, 1) := dk_3 (dk_at dksL_law_84 3 rfl rfl)
theorem dL_law_2073 : decode cL_law 2073 = .ok (.ireturn, 1) := dk_172 (dk_at dksL_law_84 4 rfl rfl)
theorem dL_law_2074 : decode cL_law 2074 = .ok (.iload 5, 2) := dk_21 5 (dk_at dksL_law_84 5 rfl rfl)
theorem dL_law_2076 : decode cL_law 2076 = .ok (.ifCond .ne 16, 3) := dk_154 0 16 (dk_at dksL_law_84 7 rfl rfl)
theorem dL_law_2079 : decode cL_law 2079 = .ok (.aload_n 3, 1) := dk_45 (dk_at dksL_law_84 10 rfl rfl)
theorem dL_law_2080 : decode cL_law 2080 = .ok (.getfield 13, 3) := dk_180 0 13 (dk_at dksL_law_84 11 rfl rfl)
theorem dL_law_2083 : decode cL_law 2083 = .ok (.iload 6, 2) := dk_21 6 (dk_at dksL_law_84 14 rfl rfl)
theorem dL_law_2085 : decode cL_law 2085 = .ok (.i2l, 1) := dk_133 (dk_at dksL_law_84 16 rfl rfl)
theorem dL_law_2086 : decode cL_law 2086 = .ok (.lcmp, 1) := dk_148 (dk_at dksL_law_84 17 rfl rfl)
theorem dL_law_2087 : decode cL_law 2087 = .ok (.ifCond .eq 5, 3) := dk_153 0 5 (dk_at dksL_law_84 18 rfl rfl)
theorem dL_law_2090 : decode cL_law 2090 = .ok (.iconst 0, 1) := dk_3 (dk_at dksL_law_84 21 rfl rfl)
theorem dL_law_2091 : decode cL_law 2091 = .ok (.ireturn, 1) := dk_172 (dk_at dksL_law_84 22 rfl rfl)
theorem dL_law_2092 : decode cL_law 2092 = .ok (.goto 99, 3) := dk_167 0 99 (dk_at dksL_law_85 0 rfl rfl)
theorem dL_law_2095 : decode cL_law 2095 = .ok (.aload_n 1, 1) := dk_43 (dk_at dksL_law_85 3 rfl rfl)
theorem dL_law_2096 : decode cL_law 2096 = .ok (.aload_n 0, 1) := dk_42 (dk_at dksL_law_85 4 rfl rfl)
theorem dL_law_2097 : decode cL_law 2097 = .ok (.iload 4, 2) := dk_21 4 (dk_at dksL_law_85 5 rfl rfl)
theorem dL_law_2099 : decode cL_law 2099 = .ok (.iconst 1, 1) := dk_4 (dk_at dksL_law_85 7 rfl rfl)
theorem dL_law_2100 : decode cL_law 2100 = .ok (.iadd, 1) := dk_96 (dk_at dksL_law_85 8 rfl rfl)
theorem dL_law_2101 : decode cL_law 2101 = .ok (.iaload, 1) := dk_46 (dk_at dksL_law_85 9 rfl rfl)
theorem dL_law_2102 : decode cL_law 2102 = .ok (.aload_n 0, 1) := dk_42 (dk_at dksL_law_85 10 rfl rfl)
theorem dL_law_2103 : decode cL_law 2103 = .ok (.iload 4, 2) := dk_21 4 (dk_at dksL_law_85 11 rfl rfl)
theorem dL_law_2105 : decode cL_law 2105 = .ok (.iconst 2, 1) := dk_5 (dk_at dksL_law_85 13 rfl rfl)
theorem dL_law_2106 : decode cL_law 2106 = .ok (.iadd, 1) := dk_96 (dk_at dksL_law_85 14 rfl rfl)
theorem dL_law_2107 : decode cL_law 2107 = .ok (.iaload, 1) := dk_46 (dk_at dksL_law_85 15 rfl rfl)
theorem dL_law_2108 : decode cL_law 2108 = .ok (.aload_n 3, 1) := dk_45 (dk_at dksL_law_85 16 rfl rfl)
theorem dL_law_2109 : decode cL_law 2109 = .ok (.invokestatic 222, 3) := dk_184 0 222 (dk_at dksL_law_85 17 rfl rfl)
theorem dL_law_2112 : decode cL_law 2112 = .ok (.istore 5, 2) := dk_54 5 (dk_at dksL_law_85 20 rfl rfl)
theorem dL_law_2114 : decode cL_law 2114 = .ok (.aload_n 2, 1) := dk_44 (dk_at dksL_law_85 22 rfl rfl)
theorem dL_law_2115 : decode cL_law 2115 = .ok (.aload_n 0, 1) := dk_42 (dk_at dksL_law_85 23 rfl rfl)
theorem dL_law_2116 : decode cL_law 2116 = .ok (.iload 4, 2) := dk_21 4 (dk_at dksL_law_86 0 rfl rfl)
theorem dL_law_2118 : decode cL_law 2118 = .ok (.iconst 1, 1) := dk_4 (dk_at dksL_law_86 2 rfl rfl)
theorem dL_law_2119 : decode cL_law 2119 = .ok (.iadd, 1) := dk_96 (dk_at dksL_law_86 3 rfl rfl)
theorem dL_law_2120 : decode cL_law 2120 = .ok (.iaload, 1) := dk_46 (dk_at dksL_law_86 4 rfl rfl)
theorem dL_law_2121 : decode cL_law 2121 = .ok (.aload_n 0, 1) := dk_42 (dk_at dksL_law_86 5 rfl rfl)
theorem dL_law_2122 : decode cL_law 2122 = .ok (.iload 4, 2) := dk_21 4 (dk_at dksL_law_86 6 rfl rfl)
theorem dL_law_2124 : decode cL_law 2124 = .ok (.iconst 2, 1) := dk_5 (dk_at dksL_law_86 8 rfl rfl)
theorem dL_law_2125 : decode cL_law 2125 = .ok (.iadd, 1) := dk_96 (dk_at dksL_law_86 9 rfl rfl)
theorem dL_law_2126 : decode cL_law 2126 = .ok (.iaload, 1) := dk_46 (dk_at dksL_law_86 10 rfl rfl)
theorem dL_law_2127 : decode cL_law 2127 = .ok (.invokevirtual 224, 3) := dk_182 0 224 (dk_at dksL_law_86 11 rfl rfl)
theorem dL_law_2130 : decode cL_law 2130 = .ok (.istore 6, 2) := dk_54 6 (dk_at dksL_law_86 14 rfl rfl)
theorem dL_law_2132 : decode cL_law 2132 = .ok (.aload_n 2, 1) := dk_44 (dk_at dksL_law_86 16 rfl rfl)
theorem dL_law_2133 : decode cL_law 2133 = .ok (.invokevirtual 130, 3) := dk_182 0 130 (dk_at dksL_law_86 17 rfl rfl)
theorem dL_law_2136 : decode cL_law 2136 = .ok (.iload 5, 2) := dk_21 5 (dk_at dksL_law_86 20 rfl rfl)
theorem dL_law_2138 : decode cL_law 2138 = .ok (.if_icmp .eq 5, 3) := dk_159 0 5 (dk_at dksL_law_87 0 rfl rfl)
theorem dL_law_2141 : decode cL_law 2141 = .ok (.iconst 0, 1) := dk_3 (dk_at dksL_law_87 3 rfl rfl)
theorem dL_law_2142 : decode cL_law 2142 = .ok (.ireturn, 1) := dk_172 (dk_at dksL_law_87 4 rfl rfl)
theorem dL_law_2143 : decode cL_law 2143 = .ok (.iload 5, 2) := dk_21 5 (dk_at dksL_law_87 5 rfl rfl)
theorem dL_law_2145 : decode cL_law 2145 = .ok (.ifCond .ne 16, 3) := dk_154 0 16 (dk_at dksL_law_87 7 rfl rfl)
theorem dL_law_2148 : decode cL_law 2148 = .ok (.aload_n 3, 1) := dk_45 (dk_at dksL_law_87 10 rfl rfl)
theorem dL_law_2149 : decode cL_law 2149 = .ok (.getfield 13, 3) := dk_180 0 13 (dk_at dksL_law_87 11 rfl rfl)
theorem dL_law_2152 : decode cL_law 2152 = .ok (.iload 6, 2) := dk_21 6 (dk_at dksL_law_87 14 rfl rfl)
theorem dL_law_2154 : decode cL_law 2154 = .ok (.i2l, 1) := dk_133 (dk_at dksL_law_87 16 rfl rfl)
theorem dL_law_2155 : decode cL_law 2155 = .ok (.lcmp, 1) := dk_148 (dk_at dksL_law_87 17 rfl rfl)
theorem dL_law_2156 : decode cL_law 2156 = .ok (.ifCond .eq 5, 3) := dk_153 0 5 (dk_at dksL_law_87 18 rfl rfl)
theorem dL_law_2159 : decode cL_law 2159 = .ok (.iconst 0, 1) := dk_3 (dk_at dksL_law_87 21 rfl rfl)
theorem dL_law_2160 : decode cL_law 2160 = .ok (.ireturn, 1) := dk_172 (dk_at dksL_law_87 22 rfl rfl)
theorem dL_law_2161 : decode cL_law 2161 = .ok (.goto 30, 3) := dk_167 0 30 (dk_at dksL_law_88 0 rfl rfl)
theorem dL_law_2164 : decode cL_law 2164 = .ok (.aload_n 1, 1) := dk_43 (dk_at dksL_law_88 3 rfl rfl)
theorem dL_law_2165 : decode cL_law 2165 = .ok (.invokevirtual 225, 3) := dk_182 0 225 (dk_at dksL_law_88 4 rfl rfl)
theorem dL_law_2168 : decode cL_law 2168 = .ok (.aload_n 2, 1) := dk_44 (dk_at dksL_law_88 7 rfl rfl)
theorem dL_law_2169 : decode cL_law 2169 = .ok (.invokevirtual 229, 3) := dk_182 0 229 (dk_at dksL_law_88 8 rfl rfl)
theorem dL_law_2172 : decode cL_law 2172 = .ok (.if_icmp .eq 19, 3) := dk_159 0 19 (dk_at dksL_law_88 11 rfl rfl)
theorem dL_law_2175 : decode cL_law 2175 = .ok (.iconst 0, 1) := dk_3 (dk_at dksL_law_88 14 rfl rfl)
theorem dL_law_2176 : decode cL_law 2176 = .ok (.ireturn, 1) := dk_172 (dk_at dksL_law_88 15 rfl rfl)
theorem dL_law_2177 : decode cL_law 2177 = .ok (.aload_n 1, 1) := dk_43 (dk_at dksL_law_88 16 rfl rfl)
theorem dL_law_2178 : decode cL_law 2178 = .ok (.invokevirtual 230, 3) := dk_182 0 230 (dk_at dksL_law_88 17 rfl rfl)
theorem dL_law_2181 : decode cL_law 2181 = .ok (.aload_n 2, 1) := dk_44 (dk_at dksL_law_88 20 rfl rfl)
theorem dL_law_2182 : decode cL_law 2182 = .ok (.invokevirtual 234, 3) := dk_182 0 234 (dk_at dksL_law_88 21 rfl rfl)
theorem dL_law_2185 : decode cL_law 2185 = .ok (.lcmp, 1) := dk_148 (dk_at dksL_law_89 0 rfl rfl)
theorem dL_law_2186 : decode cL_law 2186 = .ok (.ifCond .eq 5, 3) := dk_153 0 5 (dk_at dksL_law_89 1 rfl rfl)
theorem dL_law_2189 : decode cL_law 2189 = .ok (.iconst 0, 1) := dk_3 (dk_at dksL_law_89 4 rfl rfl)
theorem dL_law_2190 : decode cL_law 2190 = .ok (.ireturn, 1) := dk_172 (dk_at dksL_law_89 5 rfl rfl)
theorem dL_law_2191 : decode cL_law 2191 = .ok (.iinc 4 5, 3) := dk_132 4 5 (dk_at dksL_law_89 6 rfl rfl)
theorem dL_law_2194 : decode cL_law 2194 = .ok (.goto (-2167), 3) := dk_167 247 137 (dk_at dksL_law_89 9 rfl rfl)
theorem dL_law_2197 : decode cL_law 2197 = .ok (.iconst 1, 1) := dk_4 (dk_at dksL_law_89 12 rfl rfl)
theorem dL_law_2198 : decode cL_law 2198 = .ok (.ireturn, 1) := dk_172 (dk_at dksL_law_89 13 rfl rfl)
