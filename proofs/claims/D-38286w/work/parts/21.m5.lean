/-! BumpwardModel: leaves -/
theorem cdV_X11_many : yX11_many.cls = "BumpwardModel$Walker" ∧ yX11_many.cls ≠ "java/lang/invoke/MethodHandle" ∧ yX11_many.cls ≠ "java/lang/invoke/VarHandle" ∧ (parseMethodDescriptor yX11_many.desc).map (fun d => d.parameters.length) = some 0 := by decide +kernel
theorem cd_X6_beyond : yX6_beyond.cls ≠ "java/lang/invoke/MethodHandle" ∧ yX6_beyond.cls ≠ "java/lang/invoke/VarHandle" ∧ (parseMethodDescriptor yX6_beyond.desc).map (fun d => d.parameters.length) = some 2 := by decide +kernel
theorem cd_X6_isIn : yX6_isIn.cls ≠ "java/lang/invoke/MethodHandle" ∧ yX6_isIn.cls ≠ "java/lang/invoke/VarHandle" ∧ (parseMethodDescriptor yX6_isIn.desc).map (fun d => d.parameters.length) = some 3 := by decide +kernel
theorem cdV_X6_isOpen : yX6_isOpen.cls = "BumpwardModel" ∧ yX6_isOpen.cls ≠ "java/lang/invoke/MethodHandle" ∧ yX6_isOpen.cls ≠ "java/lang/invoke/VarHandle" ∧ (parseMethodDescriptor yX6_isOpen.desc).map (fun d => d.parameters.length) = some 2 := by decide +kernel
theorem cdV_X6_isWallBy : yX6_isWallBy.cls = "BumpwardModel" ∧ yX6_isWallBy.cls ≠ "java/lang/invoke/MethodHandle" ∧ yX6_isWallBy.cls ≠ "java/lang/invoke/VarHandle" ∧ (parseMethodDescriptor yX6_isWallBy.desc).map (fun d => d.parameters.length) = some 2 := by decide +kernel
theorem cd_X6_isWithin : yX6_isWithin.cls ≠ "java/lang/invoke/MethodHandle" ∧ yX6_isWithin.cls ≠ "java/lang/invoke/VarHandle" ∧ (parseMethodDescriptor yX6_isWithin.desc).map (fun d => d.parameters.length) = some 2 := by decide +kernel
theorem cd_X6_keeper : yX6_keeper.cls ≠ "java/lang/invoke/MethodHandle" ∧ yX6_keeper.cls ≠ "java/lang/invoke/VarHandle" ∧ (parseMethodDescriptor yX6_keeper.desc).map (fun d => d.parameters.length) = some 2 := by decide +kernel
theorem cdV_X6_refuse : yX6_refuse.cls = "BumpwardModel" ∧ yX6_refuse.cls ≠ "java/lang/invoke/MethodHandle" ∧ yX6_refuse.cls ≠ "java/lang/invoke/VarHandle" ∧ (parseMethodDescriptor yX6_refuse.desc).map (fun d => d.parameters.length) = some 2 := by decide +kernel
theorem cd_X6_way : yX6_way.cls ≠ "java/lang/invoke/MethodHandle" ∧ yX6_way.cls ≠ "java/lang/invoke/VarHandle" ∧ (parseMethodDescriptor yX6_way.desc).map (fun d => d.parameters.length) = some 1 := by decide +kernel
set_option maxHeartbeats 4000000 in
theorem m_X6_isIn (l : Launch) (X : gk_X) (v a b : Int32)  : CtP l X yX6_isIn cX6_isIn 3 (some .boolean) 1 0 0 [.int (v), .int (a), .int (b)] [] (some (.int (bI (decide (a ≤ v) && decide (v ≤ b))))) := by
  unfold CtP
  refine Ct.of (by decide) (Nat.le_of_ble_eq_true rfl) "BumpwardModel" "isIn" rfl rfl (fun K F eL R => ?_)
  subst eL
  show G K X 3 0 0 [] [(0, .int (v)), (1, .int (a)), (2, .int (b))] 0 []
  refine g_iload_n 0 1 F dX6_isIn_0 rfl rfl 0 rfl ?_
  refine g_iload_n 1 2 F dX6_isIn_1 rfl rfl 1 rfl ?_
  refine g_icmp_lt 2 5 14 F dX6_isIn_2 rfl (by decide) (fun c_1 => ?_) (fun c_1 => ?_)
  · refine g_iconst 14 15 F (nI (0)) dX6_isIn_14 rfl (by decide) ?_
    exact g_zret 15 F R dX6_isIn_15 (Nat.zero_le _) (Nat.zero_le _) (by decide) (⟨congrArg (fun z => some (Value.int z)) (by first | (rw [decide_eq_false (Int32.not_le.mpr c_1)]; rfl) | (rw [decide_eq_true (Int32.not_lt.mp c_1)]; rfl)), rfl⟩)
  · refine g_iload_n 5 6 F dX6_isIn_5 rfl rfl 0 rfl ?_
    refine g_iload_n 6 7 F dX6_isIn_6 rfl rfl 2 rfl ?_
    refine g_dia_gt 7 14 15 F dX6_isIn_7 (by decide) dX6_isIn_10 dX6_isIn_11 (by decide) dX6_isIn_14 rfl ?_
    exact g_bret 15 F R dX6_isIn_15 (Nat.zero_le _) (Nat.zero_le _) (⟨congrArg (fun z => some (Value.int z)) (by first | (rw [decide_eq_false (Int32.not_le.mpr c_1)]; rfl) | (rw [decide_eq_true (Int32.not_lt.mp c_1)]; rfl)), rfl⟩)

set_option maxHeartbeats 4000000 in
theorem m_X6_isNoCell (l : Launch) (X : gk_X) (v : Int32)  : CtP l X yX6_isNoCell cX6_isNoCell 1 (some .boolean) 2 0 0 [.int (v)] [] (some (.int (bI (!(decide (nI (0) ≤ v) && decide (v ≤ nI (35))))))) := by
  unfold CtP
  refine Ct.of (by decide) (Nat.le_of_ble_eq_true rfl) "BumpwardModel" "isNoCell" rfl rfl (fun K F eL R => ?_)
  subst eL
  show G K X 1 0 0 [] [(0, .int (v))] 0 []
  refine g_iload_n 0 1 F dX6_isNoCell_0 rfl rfl 0 rfl ?_
  refine g_iconst 1 2 F (nI (0)) dX6_isNoCell_1 rfl (by decide) ?_
  refine g_bipush 2 4 F (nI (35)) dX6_isNoCell_2 rfl (by decide) ?_
  refine g_callP 3 7 F (CallOk.S (As := [.int (v), .int (nI (0)), .int (nI (35))]) (rest := []) F 3 q1417 q1418 q58 q1419 cd_X6_isIn rfl rfl (Nat.le_of_ble_eq_true rfl) (Nat.le_of_ble_eq_true rfl) dX6_isNoCell_4) (m_X6_isIn (kL K) X v (nI (0)) (nI (35)) ) rfl (Mr := []) [] [] rfl 0 rfl (by decide +kernel) rfl rfl (rc_T) (Nat.le_of_ble_eq_true rfl) (c2 := 0) (s2 := 0) (Nat.zero_le _) (Nat.zero_le _) rfl rfl (st1 := [.int (bI (decide ((nI (0)) ≤ v) && decide (v ≤ (nI (35)))))]) rfl ?_
  refine g_diaB_ne 7 14 15 F dX6_isNoCell_7 (by decide) dX6_isNoCell_10 dX6_isNoCell_11 (by decide) dX6_isNoCell_14 rfl ?_
  exact g_bret 15 F R dX6_isNoCell_15 (Nat.zero_le _) (Nat.zero_le _) (⟨congrArg (fun z => some (Value.int z)) (rfl), rfl⟩)

set_option maxHeartbeats 4000000 in
theorem m_X6_isNoSide (l : Launch) (X : gk_X) (v : Int32)  : CtP l X yX6_isNoSide cX6_isNoSide 1 (some .boolean) 2 0 0 [.int (v)] [] (some (.int (bI (!(decide (nI (0) ≤ v) && decide (v ≤ nI (3))))))) := by
  unfold CtP
  refine Ct.of (by decide) (Nat.le_of_ble_eq_true rfl) "BumpwardModel" "isNoSide" rfl rfl (fun K F eL R => ?_)
  subst eL
  show G K X 1 0 0 [] [(0, .int (v))] 0 []
  refine g_iload_n 0 1 F dX6_isNoSide_0 rfl rfl 0 rfl ?_
  refine g_iconst 1 2 F (nI (0)) dX6_isNoSide_1 rfl (by decide) ?_
  refine g_iconst 2 3 F (nI (3)) dX6_isNoSide_2 rfl (by decide) ?_
  refine g_callP 3 6 F (CallOk.S (As := [.int (v), .int (nI (0)), .int (nI (3))]) (rest := []) F 3 q1417 q1418 q58 q1419 cd_X6_isIn rfl rfl (Nat.le_of_ble_eq_true rfl) (Nat.le_of_ble_eq_true rfl) dX6_isNoSide_3) (m_X6_isIn (kL K) X v (nI (0)) (nI (3)) ) rfl (Mr := []) [] [] rfl 0 rfl (by decide +kernel) rfl rfl (rc_T) (Nat.le_of_ble_eq_true rfl) (c2 := 0) (s2 := 0) (Nat.zero_le _) (Nat.zero_le _) rfl rfl (st1 := [.int (bI (decide ((nI (0)) ≤ v) && decide (v ≤ (nI (3)))))]) rfl ?_
  refine g_diaB_ne 6 13 14 F dX6_isNoSide_6 (by decide) dX6_isNoSide_9 dX6_isNoSide_10 (by decide) dX6_isNoSide_13 rfl ?_
  exact g_bret 14 F R dX6_isNoSide_14 (Nat.zero_le _) (Nat.zero_le _) (⟨congrArg (fun z => some (Value.int z)) (rfl), rfl⟩)

set_option maxHeartbeats 4000000 in
theorem m_X6_beyond (l : Launch) (X : gk_X) (c s : Nat) (hc : c < 36) (hs : s < 4) : CtP l X yX6_beyond cX6_beyond 4 (some .int) 2 0 0 [.int (nI (c)), .int (nI (s))] [] (some (.int (bsI c s))) := by
  unfold CtP
  refine Ct.of (by decide) (Nat.le_of_ble_eq_true rfl) "BumpwardModel" "beyond" rfl rfl (fun K F eL R => ?_)
  subst eL
  show G K X 4 0 0 [] [(0, .int (nI (c))), (1, .int (nI (s)))] 0 []
  refine g_iload_n 0 1 F dX6_beyond_0 rfl rfl 0 rfl ?_
  refine g_bipush 1 3 F (nI (6)) dX6_beyond_1 rfl (by decide) ?_
  refine g_idiv 3 4 F (v := nI (c / 6)) dX6_beyond_3 rfl (by decide) (pk_div (by omega) (by omega) (by omega)) ?_
  have J_1 : G K X 4 0 0 [] [(0, .int (nI (c))), (1, .int (nI (s)))] 22 [.int (rwI s), .int (nI (c / 6))] := by
    refine g_iadd 22 23 F (v := (nI (c / 6)) + (rwI s)) dX6_beyond_22 rfl (rfl) ?_
    refine g_istore_n 23 24 F [(2, .int ((nI (c / 6)) + (rwI s))), (0, .int (nI (c))), (1, .int (nI (s)))] dX6_beyond_23 rfl rfl (Nat.le_of_ble_eq_true rfl) rfl ?_
    refine g_iload_n 24 25 F dX6_beyond_24 rfl rfl 1 rfl ?_
    refine g_bipush 25 27 F (nI (6)) dX6_beyond_25 rfl (by decide) ?_
    refine g_irem 27 28 F (v := nI (c % 6)) dX6_beyond_27 rfl (by decide) (pk_rem (by omega) (by omega) (by omega)) ?_
    have J_2 : G K X 4 0 0 [] [(2, .int ((nI (c / 6)) + (rwI s))), (0, .int (nI (c))), (1, .int (nI (s)))] 47 [.int (clI s), .int (nI (c % 6))] := by
      refine g_iadd 47 48 F (v := (nI (c % 6)) + (clI s)) dX6_beyond_47 rfl (rfl) ?_
      refine g_istore_n 48 49 F [(3, .int ((nI (c % 6)) + (clI s))), (2, .int ((nI (c / 6)) + (rwI s))), (0, .int (nI (c))), (1, .int (nI (s)))] dX6_beyond_48 rfl rfl (Nat.le_of_ble_eq_true rfl) rfl ?_
      refine g_iload_n 49 50 F dX6_beyond_49 rfl rfl 1 rfl ?_
      refine g_iconst 50 51 F (nI (0)) dX6_beyond_50 rfl (by decide) ?_
      refine g_iconst 51 52 F (nI (5)) dX6_beyond_51 rfl (by decide) ?_
      refine g_callP 3 55 F (CallOk.S (As := [.int ((nI (c / 6)) + (rwI s)), .int (nI (0)), .int (nI (5))]) (rest := []) F 3 q1417 q1418 q58 q1419 cd_X6_isIn rfl rfl (Nat.le_of_ble_eq_true rfl) (Nat.le_of_ble_eq_true rfl) dX6_beyond_52) (m_X6_isIn (kL K) X ((nI (c / 6)) + (rwI s)) (nI (0)) (nI (5)) ) rfl (Mr := []) [] [] rfl 0 rfl (by decide +kernel) rfl rfl (rc_T) (Nat.le_of_ble_eq_true rfl) (c2 := 0) (s2 := 0) (Nat.zero_le _) (Nat.zero_le _) rfl rfl (st1 := [.int (bI (decide ((nI (0)) ≤ ((nI (c / 6)) + (rwI s))) && decide (((nI (c / 6)) + (rwI s)) ≤ (nI (5)))))]) rfl ?_
      refine g_ifB_eq 55 58 76 F dX6_beyond_55 rfl (by decide) (fun c_3 => ?_) (fun c_3 => ?_)
      · refine g_iconst 76 77 F (-1) dX6_beyond_76 rfl (by decide) ?_
        exact g_iret 77 F R dX6_beyond_77 (Nat.zero_le _) (Nat.zero_le _) (⟨congrArg (fun z => some (Value.int z)) (by clear R; revert s; revert c; decide +kernel), rfl⟩)
      · refine g_iload_n 58 59 F dX6_beyond_58 rfl rfl 0 rfl ?_
        refine g_iconst 59 60 F (nI (0)) dX6_beyond_59 rfl (by decide) ?_
        refine g_iconst 60 61 F (nI (5)) dX6_beyond_60 rfl (by decide) ?_
        refine g_callP 3 64 F (CallOk.S (As := [.int ((nI (c % 6)) + (clI s)), .int (nI (0)), .int (nI (5))]) (rest := []) F 3 q1417 q1418 q58 q1419 cd_X6_isIn rfl rfl (Nat.le_of_ble_eq_true rfl) (Nat.le_of_ble_eq_true rfl) dX6_beyond_61) (m_X6_isIn (kL K) X ((nI (c % 6)) + (clI s)) (nI (0)) (nI (5)) ) rfl (Mr := []) [] [] rfl 0 rfl (by decide +kernel) rfl rfl (rc_T) (Nat.le_of_ble_eq_true rfl) (c2 := 0) (s2 := 0) (Nat.zero_le _) (Nat.zero_le _) rfl rfl (st1 := [.int (bI (decide ((nI (0)) ≤ ((nI (c % 6)) + (clI s))) && decide (((nI (c % 6)) + (clI s)) ≤ (nI (5)))))]) rfl ?_
        refine g_ifB_eq 64 67 76 F dX6_beyond_64 rfl (by decide) (fun c_4 => ?_) (fun c_4 => ?_)
        · refine g_iconst 76 77 F (-1) dX6_beyond_76 rfl (by decide) ?_
          exact g_iret 77 F R dX6_beyond_77 (Nat.zero_le _) (Nat.zero_le _) (⟨congrArg (fun z => some (Value.int z)) (by clear R; revert s; revert c; decide +kernel), rfl⟩)
        · refine g_bipush 67 69 F (nI (6)) dX6_beyond_67 rfl (by decide) ?_
          refine g_iload_n 69 70 F dX6_beyond_69 rfl rfl 1 rfl ?_
          refine g_imul 70 71 F (v := (nI (6)) * ((nI (c / 6)) + (rwI s))) dX6_beyond_70 rfl (rfl) ?_
          refine g_iload_n 71 72 F dX6_beyond_71 rfl rfl 0 rfl ?_
          refine g_iadd 72 73 F (v := ((nI (6)) * ((nI (c / 6)) + (rwI s))) + ((nI (c % 6)) + (clI s))) dX6_beyond_72 rfl (rfl) ?_
          refine g_goto 73 77 F dX6_beyond_73 (by decide) ?_
          exact g_iret 77 F R dX6_beyond_77 (Nat.zero_le _) (Nat.zero_le _) (⟨congrArg (fun z => some (Value.int z)) (by clear R; revert s; revert c; decide +kernel), rfl⟩)
    refine g_iload_n 28 29 F dX6_beyond_28 rfl rfl 2 rfl ?_
    refine g_iconst 29 30 F (nI (1)) dX6_beyond_29 rfl (by decide) ?_
    refine g_icmpN_ne 30 33 37 F dX6_beyond_30 rfl (by decide) (by omega) (by omega) (fun c_5 => ?_) (fun c_5 => ?_)
    · refine g_iload_n 37 38 F dX6_beyond_37 rfl rfl 2 rfl ?_
      refine g_iconst 38 39 F (nI (3)) dX6_beyond_38 rfl (by decide) ?_
      refine g_icmpN_ne 39 42 46 F dX6_beyond_39 rfl (by decide) (by omega) (by omega) (fun c_6 => ?_) (fun c_6 => ?_)
      · refine g_iconst 46 47 F (nI (0)) dX6_beyond_46 rfl (by decide) ?_
        refine g_top (v := clI s) (by first | exact cl_1 (by assumption) | exact cl_3 (by assumption) | exact cl_n (by assumption) (by assumption)) ?_
        exact J_2
      · refine g_iconst 42 43 F (-1) dX6_beyond_42 rfl (by decide) ?_
        refine g_goto 43 47 F dX6_beyond_43 (by decide) ?_
        refine g_top (v := clI s) (by first | exact cl_1 (by assumption) | exact cl_3 (by assumption) | exact cl_n (by assumption) (by assumption)) ?_
        exact J_2
    · refine g_iconst 33 34 F (nI (1)) dX6_beyond_33 rfl (by decide) ?_
      refine g_goto 34 47 F dX6_beyond_34 (by decide) ?_
      refine g_top (v := clI s) (by first | exact cl_1 (by assumption) | exact cl_3 (by assumption) | exact cl_n (by assumption) (by assumption)) ?_
      exact J_2
  refine g_iload_n 4 5 F dX6_beyond_4 rfl rfl 1 rfl ?_
  refine g_ifN_ne 5 8 12 F dX6_beyond_5 rfl (by decide) (by omega) (fun c_7 => ?_) (fun c_7 => ?_)
  · refine g_iload_n 12 13 F dX6_beyond_12 rfl rfl 1 rfl ?_
    refine g_iconst 13 14 F (nI (2)) dX6_beyond_13 rfl (by decide) ?_
    refine g_diaN_ne 14 21 22 F dX6_beyond_14 (by decide) dX6_beyond_17 dX6_beyond_18 (by decide) dX6_beyond_21 rfl (by omega) (by omega) ?_
    refine g_top (v := rwI s) (by first | exact rw_0 (by assumption) | exact rw_n (by assumption)) ?_
    exact J_1
  · refine g_iconst 8 9 F (-1) dX6_beyond_8 rfl (by decide) ?_
    refine g_goto 9 22 F dX6_beyond_9 (by decide) ?_
    refine g_top (v := rwI s) (by first | exact rw_0 (by assumption) | exact rw_n (by assumption)) ?_
    exact J_1

set_option maxHeartbeats 4000000 in
theorem m_X6_keeper (l : Launch) (X : gk_X) (c s : Nat) (hc : c < 36) (hs : s < 4) (hb : ¬ bsD c s = 36) : CtP l X yX6_keeper cX6_keeper 2 (some .int) 3 0 0 [.int (nI (c)), .int (nI (s))] [] (some (.int (nI (kpD c s)))) := by
  unfold CtP
  refine Ct.of (by decide) (Nat.le_of_ble_eq_true rfl) "BumpwardModel" "keeper" rfl rfl (fun K F eL R => ?_)
  subst eL
  show G K X 2 0 0 [] [(0, .int (nI (c))), (1, .int (nI (s)))] 0 []
  refine g_iload_n 0 1 F dX6_keeper_0 rfl rfl 1 rfl ?_
  refine g_ifN_eq 1 4 9 F dX6_keeper_1 rfl (by decide) (by omega) (fun c_1 => ?_) (fun c_1 => ?_)
  · refine g_iload_n 9 10 F dX6_keeper_9 rfl rfl 0 rfl ?_
    refine g_iload_n 10 11 F dX6_keeper_10 rfl rfl 1 rfl ?_
    refine g_callP 3 14 F (CallOk.S (As := [.int (nI (c)), .int (nI (s))]) (rest := []) F 2 q1431 q1432 q58 q1433 cd_X6_beyond rfl rfl (Nat.le_of_ble_eq_true rfl) (Nat.le_of_ble_eq_true rfl) dX6_keeper_11) (m_X6_beyond (kL K) X c s (by omega) (by omega)) rfl (Mr := []) [] [] rfl 0 rfl (by decide +kernel) rfl rfl (rc_T) (Nat.le_of_ble_eq_true rfl) (c2 := 0) (s2 := 0) (Nat.zero_le _) (Nat.zero_le _) rfl rfl (st1 := [.int (bsI c s)]) rfl ?_
    refine g_goto 14 18 F dX6_keeper_14 (by decide) ?_
    exact g_iret 18 F R dX6_keeper_18 (Nat.zero_le _) (Nat.zero_le _) (⟨congrArg (fun z => some (Value.int z)) (by first | rw [kpD, if_pos (by omega), ← bsI_nI hb] | rw [kpD, if_neg (by omega)]), rfl⟩)
  · refine g_iload_n 4 5 F dX6_keeper_4 rfl rfl 1 rfl ?_
    refine g_iconst 5 6 F (nI (3)) dX6_keeper_5 rfl (by decide) ?_
    refine g_icmpN_ne 6 9 17 F dX6_keeper_6 rfl (by decide) (by omega) (by omega) (fun c_2 => ?_) (fun c_2 => ?_)
    · refine g_iload_n 17 18 F dX6_keeper_17 rfl rfl 0 rfl ?_
      exact g_iret 18 F R dX6_keeper_18 (Nat.zero_le _) (Nat.zero_le _) (⟨congrArg (fun z => some (Value.int z)) (by first | rw [kpD, if_pos (by omega), ← bsI_nI hb] | rw [kpD, if_neg (by omega)]), rfl⟩)
    · refine g_iload_n 9 10 F dX6_keeper_9 rfl rfl 0 rfl ?_
      refine g_iload_n 10 11 F dX6_keeper_10 rfl rfl 1 rfl ?_
      refine g_callP 3 14 F (CallOk.S (As := [.int (nI (c)), .int (nI (s))]) (rest := []) F 2 q1431 q1432 q58 q1433 cd_X6_beyond rfl rfl (Nat.le_of_ble_eq_true rfl) (Nat.le_of_ble_eq_true rfl) dX6_keeper_11) (m_X6_beyond (kL K) X c s (by omega) (by omega)) rfl (Mr := []) [] [] rfl 0 rfl (by decide +kernel) rfl rfl (rc_T) (Nat.le_of_ble_eq_true rfl) (c2 := 0) (s2 := 0) (Nat.zero_le _) (Nat.zero_le _) rfl rfl (st1 := [.int (bsI c s)]) rfl ?_
      refine g_goto 14 18 F dX6_keeper_14 (by decide) ?_
      exact g_iret 18 F R dX6_keeper_18 (Nat.zero_le _) (Nat.zero_le _) (⟨congrArg (fun z => some (Value.int z)) (by first | rw [kpD, if_pos (by omega), ← bsI_nI hb] | rw [kpD, if_neg (by omega)]), rfl⟩)

set_option maxHeartbeats 4000000 in
theorem m_X6_way (l : Launch) (X : gk_X) (s : Nat) (hs : s < 4) : CtP l X yX6_way cX6_way 1 (some .int) 1 0 0 [.int (nI (s))] [] (some (.int (nI (wyD s)))) := by
  unfold CtP
  refine Ct.of (by decide) (Nat.le_of_ble_eq_true rfl) "BumpwardModel" "way" rfl rfl (fun K F eL R => ?_)
  subst eL
  show G K X 1 0 0 [] [(0, .int (nI (s)))] 0 []
  refine g_iload_n 0 1 F dX6_way_0 rfl rfl 0 rfl ?_
  refine g_iconst 1 2 F (nI (2)) dX6_way_1 rfl (by decide) ?_
  refine g_irem 2 3 F (v := nI (s % 2)) dX6_way_2 rfl (by decide) (pk_rem (by omega) (by omega) (by omega)) ?_
  refine g_iconst 3 4 F (nI (1)) dX6_way_3 rfl (by decide) ?_
  refine g_icmpN_ne 4 7 11 F dX6_way_4 rfl (by decide) (by omega) (by omega) (fun c_1 => ?_) (fun c_1 => ?_)
  · refine g_iconst 11 12 F (nI (1)) dX6_way_11 rfl (by decide) ?_
    exact g_iret 12 F R dX6_way_12 (Nat.zero_le _) (Nat.zero_le _) (⟨congrArg (fun z => some (Value.int z)) (by simp [wyD, *]), rfl⟩)
  · refine g_iconst 7 8 F (nI (0)) dX6_way_7 rfl (by decide) ?_
    refine g_goto 8 12 F dX6_way_8 (by decide) ?_
    exact g_iret 12 F R dX6_way_12 (Nat.zero_le _) (Nat.zero_le _) (⟨congrArg (fun z => some (Value.int z)) (by simp [wyD, *]), rfl⟩)

set_option maxHeartbeats 4000000 in
theorem m_X6_isWithin (l : Launch) (X : gk_X) (c w : Nat) (hc : c < 36) (hw : w < 2) : CtP l X yX6_isWithin cX6_isWithin 2 (some .boolean) 3 0 0 [.int (nI (c)), .int (nI (w))] [] (some (.int (bI (inB c w)))) := by
  unfold CtP
  refine Ct.of (by decide) (Nat.le_of_ble_eq_true rfl) "BumpwardModel" "isWithin" rfl rfl (fun K F eL R => ?_)
  subst eL
  show G K X 2 0 0 [] [(0, .int (nI (c))), (1, .int (nI (w)))] 0 []
  refine g_iload_n 0 1 F dX6_isWithin_0 rfl rfl 0 rfl ?_
  refine g_iload_n 1 2 F dX6_isWithin_1 rfl rfl 1 rfl ?_
  refine g_ifN_ne 2 5 9 F dX6_isWithin_2 rfl (by decide) (by omega) (fun c_1 => ?_) (fun c_1 => ?_)
  · refine g_iconst 9 10 F (nI (2)) dX6_isWithin_9 rfl (by decide) ?_
    refine g_callP 3 13 F (CallOk.S (As := [.int (nI (c)), .int (nI (2))]) (rest := []) F 2 q1431 q1432 q58 q1433 cd_X6_beyond rfl rfl (Nat.le_of_ble_eq_true rfl) (Nat.le_of_ble_eq_true rfl) dX6_isWithin_10) (m_X6_beyond (kL K) X c 2 (by omega) (by omega)) rfl (Mr := []) [] [] rfl 0 rfl (by decide +kernel) rfl rfl (rc_T) (Nat.le_of_ble_eq_true rfl) (c2 := 0) (s2 := 0) (Nat.zero_le _) (Nat.zero_le _) rfl rfl (st1 := [.int (bsI c 2)]) rfl ?_
    refine g_iconst 13 14 F (-1) dX6_isWithin_13 rfl (by decide) ?_
    refine g_dia_eq 14 21 22 F dX6_isWithin_14 (by decide) dX6_isWithin_17 dX6_isWithin_18 (by decide) dX6_isWithin_21 rfl ?_
    exact g_bret 22 F R dX6_isWithin_22 (Nat.zero_le _) (Nat.zero_le _) (⟨congrArg (fun z => some (Value.int z)) (by clear R; revert w; revert c; decide +kernel), rfl⟩)
  · refine g_iconst 5 6 F (nI (1)) dX6_isWithin_5 rfl (by decide) ?_
    refine g_goto 6 10 F dX6_isWithin_6 (by decide) ?_
    refine g_callP 3 13 F (CallOk.S (As := [.int (nI (c)), .int (nI (1))]) (rest := []) F 2 q1431 q1432 q58 q1433 cd_X6_beyond rfl rfl (Nat.le_of_ble_eq_true rfl) (Nat.le_of_ble_eq_true rfl) dX6_isWithin_10) (m_X6_beyond (kL K) X c 1 (by omega) (by omega)) rfl (Mr := []) [] [] rfl 0 rfl (by decide +kernel) rfl rfl (rc_T) (Nat.le_of_ble_eq_true rfl) (c2 := 0) (s2 := 0) (Nat.zero_le _) (Nat.zero_le _) rfl rfl (st1 := [.int (bsI c 1)]) rfl ?_
    refine g_iconst 13 14 F (-1) dX6_isWithin_13 rfl (by decide) ?_
    refine g_dia_eq 14 21 22 F dX6_isWithin_14 (by decide) dX6_isWithin_17 dX6_isWithin_18 (by decide) dX6_isWithin_21 rfl ?_
    exact g_bret 22 F R dX6_isWithin_22 (Nat.zero_le _) (Nat.zero_le _) (⟨congrArg (fun z => some (Value.int z)) (by clear R; revert w; revert c; decide +kernel), rfl⟩)

set_option maxHeartbeats 4000000 in
theorem m_X6_turned (l : Launch) (X : gk_X) (p k : Nat) (hp : p < 144) (hk : k < 4) : CtP l X yX6_turned cX6_turned 2 (some .int) 1 0 0 [.int (nI (p)), .int (nI (k))] [] (some (.int (nI (p / 4 * 4 + ((p + k) % 4))))) := by
  unfold CtP
  refine Ct.of (by decide) (Nat.le_of_ble_eq_true rfl) "BumpwardModel" "turned" rfl rfl (fun K F eL R => ?_)
  subst eL
  show G K X 2 0 0 [] [(0, .int (nI (p))), (1, .int (nI (k)))] 0 []
  refine g_iload_n 0 1 F dX6_turned_0 rfl rfl 0 rfl ?_
  refine g_iconst 1 2 F (nI (4)) dX6_turned_1 rfl (by decide) ?_
  refine g_idiv 2 3 F (v := nI (p / 4)) dX6_turned_2 rfl (by decide) (pk_div (by omega) (by omega) (by omega)) ?_
  refine g_iconst 3 4 F (nI (4)) dX6_turned_3 rfl (by decide) ?_
  refine g_imul 4 5 F (v := nI ((p / 4) * 4)) dX6_turned_4 rfl (pk_mul _ _) ?_
  refine g_iload_n 5 6 F dX6_turned_5 rfl rfl 0 rfl ?_
  refine g_iload_n 6 7 F dX6_turned_6 rfl rfl 1 rfl ?_
  refine g_iadd 7 8 F (v := nI (p + k)) dX6_turned_7 rfl (nI_add _ _) ?_
  refine g_iconst 8 9 F (nI (4)) dX6_turned_8 rfl (by decide) ?_
  refine g_irem 9 10 F (v := nI ((p + k) % 4)) dX6_turned_9 rfl (by decide) (pk_rem (by omega) (by omega) (by omega)) ?_
  refine g_iadd 10 11 F (v := nI ((p / 4) * 4 + ((p + k) % 4))) dX6_turned_10 rfl (nI_add _ _) ?_
  exact g_iret 11 F R dX6_turned_11 (Nat.zero_le _) (Nat.zero_le _) (⟨congrArg (fun z => some (Value.int z)) (rfl), rfl⟩)

set_option maxHeartbeats 4000000 in
theorem m_X6_all (l : Launch) (X : gk_X) (a n : Nat) (f : Nat → Bool) (hn : n ≤ 144) : CtP l X yX6_all cX6_all 6 (some .int) 1 0 0 [.ref a] [[(a, zA X n (f))]] (some (.int (nI (cnt f n)))) := by
  unfold CtP
  refine Ct.of (by decide) (Nat.le_of_ble_eq_true rfl) "BumpwardModel" "all" rfl rfl (fun K F eL R => ?_)
  subst eL
  show G K X 6 0 0 [[(a, zA X n (f))]] [(0, .ref a)] 0 []
  refine g_iconst 0 1 F (nI (0)) dX6_all_0 rfl (by decide) ?_
  refine g_istore_n 1 2 F [(1, .int (nI (0))), (0, .ref a)] dX6_all_1 rfl rfl (Nat.le_of_ble_eq_true rfl) rfl ?_
  refine g_aload_n 2 3 F dX6_all_2 rfl rfl 1 rfl ?_
  refine g_astore_n 3 4 F [(2, .ref a), (1, .int (nI (0))), (0, .ref a)] dX6_all_3 rfl rfl (Nat.le_of_ble_eq_true rfl) rfl ?_
  refine g_aload_n 4 5 F dX6_all_4 rfl rfl 0 rfl ?_
  refine g_alen 5 6 F dX6_all_5 rfl 0 0 rfl rfl (n := n) rfl ?_
  refine g_istore_n 6 7 F [(3, .int (nI (n))), (2, .ref a), (1, .int (nI (0))), (0, .ref a)] dX6_all_6 rfl rfl (Nat.le_of_ble_eq_true rfl) rfl ?_
  refine g_iconst 7 8 F (nI (0)) dX6_all_7 rfl (by decide) ?_
  refine g_istore 8 10 F [(4, .int (nI (0))), (3, .int (nI (n))), (2, .ref a), (1, .int (nI (0))), (0, .ref a)] dX6_all_8 rfl (Nat.le_of_ble_eq_true rfl) rfl ?_
  refine g_ls [(0, .ref a), (1, .int (nI (cnt f 0))), (2, .ref a), (3, .int (nI (n))), (4, .int (nI (0)))] [4, 3, 2, 1, 0] (rfl) ?_
  refine g_down (P := fun i => G K X 6 0 0 [[(a, zA X n (f))]] [(0, .ref a), (1, .int (nI (cnt f i))), (2, .ref a), (3, .int (nI (n))), (4, .int (nI (i)))] 10 []) n 0 (by omega) ?_ (fun i hl_i hi_i ih_i => ?_)
  · show G K X 6 0 0 [[(a, zA X n (f))]] [(0, .ref a), (1, .int (nI (cnt f n))), (2, .ref a), (3, .int (nI (n))), (4, .int (nI (n)))] 10 []
    refine g_iload 10 12 F dX6_all_10 rfl 4 rfl ?_
    refine g_iload_n 12 13 F dX6_all_12 rfl rfl 3 rfl ?_
    refine g_icmpN_ge 13 16 41 F dX6_all_13 rfl (by decide) (by omega) (by omega) (fun c_1 => ?_) (fun c_1 => ?_)
    · refine g_iload_n 41 42 F dX6_all_41 rfl rfl 1 rfl ?_
      exact g_iret 42 F R dX6_all_42 (Nat.zero_le _) (Nat.zero_le _) (⟨rfl, rfl⟩)
    · exact absurd c_1 (by omega)
  · show G K X 6 0 0 [[(a, zA X n (f))]] [(0, .ref a), (1, .int (nI (cnt f i))), (2, .ref a), (3, .int (nI (n))), (4, .int (nI (i)))] 10 []
    refine g_iload 10 12 F dX6_all_10 rfl 4 rfl ?_
    refine g_iload_n 12 13 F dX6_all_12 rfl rfl 3 rfl ?_
    refine g_icmpN_ge 13 16 41 F dX6_all_13 rfl (by decide) (by omega) (by omega) (fun c_2 => ?_) (fun c_2 => ?_)
    · exact absurd c_2 (by omega)
    · refine g_aload_n 16 17 F dX6_all_16 rfl rfl 2 rfl ?_
      refine g_iload 17 19 F dX6_all_17 rfl 4 rfl ?_
      refine g_zald 19 20 F dX6_all_19 rfl 0 (i := i) rfl (by omega) (by omega) ?_
      refine g_istore 20 22 F [(5, .int (bI (f i))), (0, .ref a), (1, .int (nI (cnt f i))), (2, .ref a), (3, .int (nI (n))), (4, .int (nI (i)))] dX6_all_20 rfl (Nat.le_of_ble_eq_true rfl) rfl ?_
      refine g_iload_n 22 23 F dX6_all_22 rfl rfl 2 rfl ?_
      refine g_iload 23 25 F dX6_all_23 rfl 0 rfl ?_
      refine g_diaB_eq 25 32 33 F dX6_all_25 (by decide) dX6_all_28 dX6_all_29 (by decide) dX6_all_32 rfl ?_
      refine g_iadd 33 34 F (v := nI (cnt f i + (bN (f i)))) dX6_all_33 rfl (nI_addB _ _) ?_
      refine g_istore_n 34 35 F [(1, .int (nI (cnt f i + (bN (f i))))), (5, .int (bI (f i))), (0, .ref a), (2, .ref a), (3, .int (nI (n))), (4, .int (nI (i)))] dX6_all_34 rfl rfl (Nat.le_of_ble_eq_true rfl) rfl ?_
      refine g_iinc 35 38 F (v := nI (i + 1)) [(4, .int (nI (i + 1))), (1, .int (nI (cnt f i + (bN (f i))))), (5, .int (bI (f i))), (0, .ref a), (2, .ref a), (3, .int (nI (n)))] dX6_all_35 rfl 5 rfl (nI_add _ _) (Nat.le_of_ble_eq_true rfl) rfl ?_
      refine g_goto 38 10 F dX6_all_38 (by decide) ?_
      refine g_ls [(0, .ref a), (1, .int (nI (cnt f (i + 1)))), (2, .ref a), (3, .int (nI (n))), (4, .int (nI (i + 1)))] [3, 1, 4, 5, 0] (rfl) ?_
      exact ih_i

set_option maxHeartbeats 4000000 in
theorem m_X11_many (l : Launch) (X : gk_X) (w ma mg : Nat) (po ho : Nat) (ch lo ac bu sl : Int32) (f : Nat → Bool)  : CtP l X yX11_many cX11_many 6 (some .int) 1 0 0 [.ref w] [[(w, ob 8 [.int (nI (po)), .int (nI (ho)), .int (ch), .ref ma, .ref mg, .int (lo), .int (ac), .int (bu), .int (sl)])], [(ma, zA X 144 (f))]] (some (.int (nI (cnt f 144)))) := by
  unfold CtP
  refine Ct.of (by decide) (Nat.le_of_ble_eq_true rfl) "BumpwardModel$Walker" "many" rfl rfl (fun K F eL R => ?_)
  subst eL
  show G K X 6 0 0 [[(w, ob 8 [.int (nI (po)), .int (nI (ho)), .int (ch), .ref ma, .ref mg, .int (lo), .int (ac), .int (bu), .int (sl)])], [(ma, zA X 144 (f))]] [(0, .ref w)] 0 []
  refine g_iconst 0 1 F (nI (0)) dX11_many_0 rfl (by decide) ?_
  refine g_istore_n 1 2 F [(1, .int (nI (0))), (0, .ref w)] dX11_many_1 rfl rfl (Nat.le_of_ble_eq_true rfl) rfl ?_
  refine g_aload_n 2 3 F dX11_many_2 rfl rfl 1 rfl ?_
  refine g_get 3 6 F (ci := 8) in_X11 rfl 3 (by decide) q1475 (fun _ h => h) dX11_many_3 rfl 0 rfl (v := .ref ma) rfl ?_
  refine g_astore_n 6 7 F [(2, .ref ma), (1, .int (nI (0))), (0, .ref w)] dX11_many_6 rfl rfl (Nat.le_of_ble_eq_true rfl) rfl ?_
  refine g_aload_n 7 8 F dX11_many_7 rfl rfl 0 rfl ?_
  refine g_alen 8 9 F dX11_many_8 rfl 1 0 rfl rfl (n := 144) rfl ?_
  refine g_istore_n 9 10 F [(3, .int (nI (144))), (2, .ref ma), (1, .int (nI (0))), (0, .ref w)] dX11_many_9 rfl rfl (Nat.le_of_ble_eq_true rfl) rfl ?_
  refine g_iconst 10 11 F (nI (0)) dX11_many_10 rfl (by decide) ?_
  refine g_istore 11 13 F [(4, .int (nI (0))), (3, .int (nI (144))), (2, .ref ma), (1, .int (nI (0))), (0, .ref w)] dX11_many_11 rfl (Nat.le_of_ble_eq_true rfl) rfl ?_
  refine g_ls [(0, .ref w), (1, .int (nI (cnt f 0))), (2, .ref ma), (3, .int (nI (144))), (4, .int (nI (0)))] [4, 3, 2, 1, 0] (rfl) ?_
  refine g_down (P := fun i => G K X 6 0 0 [[(w, ob 8 [.int (nI (po)), .int (nI (ho)), .int (ch), .ref ma, .ref mg, .int (lo), .int (ac), .int (bu), .int (sl)])], [(ma, zA X 144 (f))]] [(0, .ref w), (1, .int (nI (cnt f i))), (2, .ref ma), (3, .int (nI (144))), (4, .int (nI (i)))] 13 []) 144 0 (by omega) ?_ (fun i hl_i hi_i ih_i => ?_)
  · show G K X 6 0 0 [[(w, ob 8 [.int (nI (po)), .int (nI (ho)), .int (ch), .ref ma, .ref mg, .int (lo), .int (ac), .int (bu), .int (sl)])], [(ma, zA X 144 (f))]] [(0, .ref w), (1, .int (nI (cnt f 144))), (2, .ref ma), (3, .int (nI (144))), (4, .int (nI (144)))] 13 []
    refine g_iload 13 15 F dX11_many_13 rfl 4 rfl ?_
    refine g_iload_n 15 16 F dX11_many_15 rfl rfl 3 rfl ?_
    refine g_icmpN_ge 16 19 44 F dX11_many_16 rfl (by decide) (by omega) (by omega) (fun c_1 => ?_) (fun c_1 => ?_)
    · refine g_iload_n 44 45 F dX11_many_44 rfl rfl 1 rfl ?_
      exact g_iret 45 F R dX11_many_45 (Nat.zero_le _) (Nat.zero_le _) (⟨rfl, rfl⟩)
    · exact absurd c_1 (by omega)
  · show G K X 6 0 0 [[(w, ob 8 [.int (nI (po)), .int (nI (ho)), .int (ch), .ref ma, .ref mg, .int (lo), .int (ac), .int (bu), .int (sl)])], [(ma, zA X 144 (f))]] [(0, .ref w), (1, .int (nI (cnt f i))), (2, .ref ma), (3, .int (nI (144))), (4, .int (nI (i)))] 13 []
    refine g_iload 13 15 F dX11_many_13 rfl 4 rfl ?_
    refine g_iload_n 15 16 F dX11_many_15 rfl rfl 3 rfl ?_
    refine g_icmpN_ge 16 19 44 F dX11_many_16 rfl (by decide) (by omega) (by omega) (fun c_2 => ?_) (fun c_2 => ?_)
    · exact absurd c_2 (by omega)
    · refine g_aload_n 19 20 F dX11_many_19 rfl rfl 2 rfl ?_
      refine g_iload 20 22 F dX11_many_20 rfl 4 rfl ?_
      refine g_zald 22 23 F dX11_many_22 rfl 1 (i := i) rfl (Nat.le_of_ble_eq_true rfl) (by omega) ?_
      refine g_istore 23 25 F [(5, .int (bI (f i))), (0, .ref w), (1, .int (nI (cnt f i))), (2, .ref ma), (3, .int (nI (144))), (4, .int (nI (i)))] dX11_many_23 rfl (Nat.le_of_ble_eq_true rfl) rfl ?_
      refine g_iload_n 25 26 F dX11_many_25 rfl rfl 2 rfl ?_
      refine g_iload 26 28 F dX11_many_26 rfl 0 rfl ?_
      refine g_diaB_eq 28 35 36 F dX11_many_28 (by decide) dX11_many_31 dX11_many_32 (by decide) dX11_many_35 rfl ?_
      refine g_iadd 36 37 F (v := nI (cnt f i + (bN (f i)))) dX11_many_36 rfl (nI_addB _ _) ?_
      refine g_istore_n 37 38 F [(1, .int (nI (cnt f i + (bN (f i))))), (5, .int (bI (f i))), (0, .ref w), (2, .ref ma), (3, .int (nI (144))), (4, .int (nI (i)))] dX11_many_37 rfl rfl (Nat.le_of_ble_eq_true rfl) rfl ?_
      refine g_iinc 38 41 F (v := nI (i + 1)) [(4, .int (nI (i + 1))), (1, .int (nI (cnt f i + (bN (f i))))), (5, .int (bI (f i))), (0, .ref w), (2, .ref ma), (3, .int (nI (144)))] dX11_many_38 rfl 5 rfl (nI_add _ _) (Nat.le_of_ble_eq_true rfl) rfl ?_
      refine g_goto 41 13 F dX11_many_41 (by decide) ?_
      refine g_ls [(0, .ref w), (1, .int (nI (cnt f (i + 1)))), (2, .ref ma), (3, .int (nI (144))), (4, .int (nI (i + 1)))] [3, 1, 4, 5, 0] (rfl) ?_
      exact ih_i

set_option maxHeartbeats 4000000 in
theorem m_X11_sure (l : Launch) (X : gk_X) (w ma mg : Nat) (po ho : Nat) (ch lo ac bu sl : Int32) (f : Nat → Bool)  : CtP l X yX11_sure cX11_sure 2 (some .int) 2 0 0 [.ref w] [[(w, ob 8 [.int (nI (po)), .int (nI (ho)), .int (ch), .ref ma, .ref mg, .int (lo), .int (ac), .int (bu), .int (sl)])], [(ma, zA X 144 (f))]] (some (.int (suI f))) := by
  unfold CtP
  refine Ct.of (by decide) (Nat.le_of_ble_eq_true rfl) "BumpwardModel$Walker" "sure" rfl rfl (fun K F eL R => ?_)
  subst eL
  show G K X 2 0 0 [[(w, ob 8 [.int (nI (po)), .int (nI (ho)), .int (ch), .ref ma, .ref mg, .int (lo), .int (ac), .int (bu), .int (sl)])], [(ma, zA X 144 (f))]] [(0, .ref w)] 0 []
  have hcn := cnt_le f 144
  have hfl := first_le f
  refine g_aload_n 0 1 F dX11_sure_0 rfl rfl 0 rfl ?_
  refine g_callP 3 4 F (CallOk.V (C := "BumpwardModel$Walker") (b := w) (As := []) (rest := []) F 0 q1519 q1520 q1521 q77 q1522 cdV_X11_many rfl rfl (Nat.le_of_ble_eq_true rfl) (Nat.le_of_ble_eq_true rfl) dX11_sure_1) (m_X11_many (kL K) X w ma mg po ho ch lo ac bu sl f ) rfl (Mr := []) [0, 1] [] rfl 2 rfl (by decide +kernel) rfl rfl (rc_of F 0 8 rfl rfl) (Nat.le_of_ble_eq_true rfl) (c2 := 0) (s2 := 0) (Nat.zero_le _) (Nat.zero_le _) rfl rfl (st1 := [.int (nI (cnt f 144))]) rfl ?_
  refine g_iconst 4 5 F (nI (1)) dX11_sure_4 rfl (by decide) ?_
  refine g_icmpN_eq 5 8 10 F dX11_sure_5 rfl (by decide) (by omega) (by omega) (fun c_1 => ?_) (fun c_1 => ?_)
  · refine g_iconst 10 11 F (nI (0)) dX11_sure_10 rfl (by decide) ?_
    refine g_istore_n 11 12 F [(1, .int (nI (0))), (0, .ref w)] dX11_sure_11 rfl rfl (Nat.le_of_ble_eq_true rfl) rfl ?_
    refine g_ls [(0, .ref w), (1, .int (nI (0)))] [1, 0] (rfl) ?_
    refine g_down (P := fun p => G K X 2 0 0 [[(w, ob 8 [.int (nI (po)), .int (nI (ho)), .int (ch), .ref ma, .ref mg, .int (lo), .int (ac), .int (bu), .int (sl)])], [(ma, zA X 144 (f))]] [(0, .ref w), (1, .int (nI (p)))] 12 []) (first f) 0 (by omega) ?_ (fun p hl_p hi_p ih_p => ?_)
    · show G K X 2 0 0 [[(w, ob 8 [.int (nI (po)), .int (nI (ho)), .int (ch), .ref ma, .ref mg, .int (lo), .int (ac), .int (bu), .int (sl)])], [(ma, zA X 144 (f))]] [(0, .ref w), (1, .int (nI (first f)))] 12 []
      refine g_aload_n 12 13 F dX11_sure_12 rfl rfl 0 rfl ?_
      refine g_get 13 16 F (ci := 8) in_X11 rfl 3 (by decide) q1475 (fun _ h => h) dX11_sure_13 rfl 0 rfl (v := .ref ma) rfl ?_
      refine g_iload_n 16 17 F dX11_sure_16 rfl rfl 1 rfl ?_
      refine g_zald 17 18 F dX11_sure_17 rfl 1 (i := first f) rfl (Nat.le_of_ble_eq_true rfl) (by omega) ?_
      refine g_ifB_ne 18 21 27 F dX11_sure_18 rfl (by decide) (fun c_2 => ?_) (fun c_2 => ?_)
      · refine g_iload_n 27 28 F dX11_sure_27 rfl rfl 1 rfl ?_
        exact g_iret 28 F R dX11_sure_28 (Nat.zero_le _) (Nat.zero_le _) (⟨congrArg (fun z => some (Value.int z)) (by first | rw [suI, if_pos c_1] | rw [suI, if_neg c_1]), rfl⟩)
      · exact absurd (first_true c_1) (by rw [c_2]; decide)
    · show G K X 2 0 0 [[(w, ob 8 [.int (nI (po)), .int (nI (ho)), .int (ch), .ref ma, .ref mg, .int (lo), .int (ac), .int (bu), .int (sl)])], [(ma, zA X 144 (f))]] [(0, .ref w), (1, .int (nI (p)))] 12 []
      refine g_aload_n 12 13 F dX11_sure_12 rfl rfl 0 rfl ?_
      refine g_get 13 16 F (ci := 8) in_X11 rfl 3 (by decide) q1475 (fun _ h => h) dX11_sure_13 rfl 0 rfl (v := .ref ma) rfl ?_
      refine g_iload_n 16 17 F dX11_sure_16 rfl rfl 1 rfl ?_
      refine g_zald 17 18 F dX11_sure_17 rfl 1 (i := p) rfl (Nat.le_of_ble_eq_true rfl) (by omega) ?_
      refine g_ifB_ne 18 21 27 F dX11_sure_18 rfl (by decide) (fun c_3 => ?_) (fun c_3 => ?_)
      · exact absurd (first_lt f hi_p) (by rw [c_3]; decide)
      · refine g_iinc 21 24 F (v := nI (p + 1)) [(1, .int (nI (p + 1))), (0, .ref w)] dX11_sure_21 rfl 1 rfl (nI_add _ _) (Nat.le_of_ble_eq_true rfl) rfl ?_
        refine g_goto 24 12 F dX11_sure_24 (by decide) ?_
        refine g_ls [(0, .ref w), (1, .int (nI (p + 1)))] [1, 0] (rfl) ?_
        exact ih_p
  · refine g_iconst 8 9 F (-1) dX11_sure_8 rfl (by decide) ?_
    exact g_iret 9 F R dX11_sure_9 (Nat.zero_le _) (Nat.zero_le _) (⟨congrArg (fun z => some (Value.int z)) (by first | rw [suI, if_pos c_1] | rw [suI, if_neg c_1]), rfl⟩)

set_option maxHeartbeats 4000000 in
theorem m_X11_cell (l : Launch) (X : gk_X) (w ma mg : Nat) (po ho : Nat) (ch lo ac bu sl : Int32) (hpo : po < 144) : CtP l X yX11_cell cX11_cell 1 (some .int) 1 0 0 [.ref w] [[(w, ob 8 [.int (nI (po)), .int (nI (ho)), .int (ch), .ref ma, .ref mg, .int (lo), .int (ac), .int (bu), .int (sl)])]] (some (.int (nI (po / 4)))) := by
  unfold CtP
  refine Ct.of (by decide) (Nat.le_of_ble_eq_true rfl) "BumpwardModel$Walker" "cell" rfl rfl (fun K F eL R => ?_)
  subst eL
  show G K X 1 0 0 [[(w, ob 8 [.int (nI (po)), .int (nI (ho)), .int (ch), .ref ma, .ref mg, .int (lo), .int (ac), .int (bu), .int (sl)])]] [(0, .ref w)] 0 []
  refine g_aload_n 0 1 F dX11_cell_0 rfl rfl 0 rfl ?_
  refine g_get 1 4 F (ci := 8) in_X11 rfl 0 (by decide) q1471 (fun _ h => h) dX11_cell_1 rfl 0 rfl (v := .int (nI (po))) rfl ?_
  refine g_iconst 4 5 F (nI (4)) dX11_cell_4 rfl (by decide) ?_
  refine g_idiv 5 6 F (v := nI (po / 4)) dX11_cell_5 rfl (by decide) (pk_div (by omega) (by omega) (by omega)) ?_
  exact g_iret 6 F R dX11_cell_6 (Nat.zero_le _) (Nat.zero_le _) (⟨rfl, rfl⟩)

set_option maxHeartbeats 4000000 in
theorem m_X11_init (l : Launch) (X : gk_X) (w : Nat)  : Ct l X yX11_init cX11_init 1 none 2 38 252 [.ref w] [[(w, ob 8 [.int (nI (0)), .int (nI (0)), .int (nI (0)), .null, .null, .int (nI (0)), .int (nI (0)), .int (nI (0)), .int (nI (0))])]] (fun v M' => ∃ (ma mg : Nat) (mr : Nat → Nat), v = none ∧ M' = [[(w, ob 8 [.int (nI (0)), .int (nI (0)), .int (nI (0)), .ref ma, .ref mg, .int (nI (0)), .int (nI (0)), .int (nI (0)), .int (nI (0))])], [(ma, zA X 144 (fun _ => false))], [(mg, oA X 5 36 (fun j => some (mr j)))], poolW 36 (fun j => [(mr j, iA X 2 (fun z => nI (mpN zP j z)))])]) := by
  refine Ct.of (by decide) (Nat.le_of_ble_eq_true rfl) "BumpwardModel$Walker" "<init>" rfl rfl (fun K F eL R => ?_)
  subst eL
  show G K X 1 0 0 [[(w, ob 8 [.int (nI (0)), .int (nI (0)), .int (nI (0)), .null, .null, .int (nI (0)), .int (nI (0)), .int (nI (0)), .int (nI (0))])]] [(0, .ref w)] 0 []
  refine g_aload_n 0 1 F dX11_init_0 rfl rfl 0 rfl ?_
  refine g_objInit 1 4 F q1469 q93 q94 dX11_init_1 rfl (Nat.le_of_ble_eq_true rfl) (Nat.le_of_ble_eq_true rfl) ?_
  refine g_aload_n 4 5 F dX11_init_4 rfl rfl 0 rfl ?_
  refine g_sipush 5 8 F (nI (144)) dX11_init_5 rfl (by decide) ?_
  refine g_newZ 8 10 F dX11_init_8 rfl (n := 144) (Nat.le_of_ble_eq_true rfl) (c2 := 1) (s2 := 144) (Nat.le_of_ble_eq_true rfl) (Nat.le_of_ble_eq_true rfl) rfl rfl (M' := fun ma => [[(w, ob 8 [.int (nI (0)), .int (nI (0)), .int (nI (0)), .null, .null, .int (nI (0)), .int (nI (0)), .int (nI (0)), .int (nI (0))])], [(ma, zA X 144 (fun _ => false))]]) (fun _ => rfl) (fun ma => ?_)
  show G K X 1 1 144 [[(w, ob 8 [.int (nI (0)), .int (nI (0)), .int (nI (0)), .null, .null, .int (nI (0)), .int (nI (0)), .int (nI (0)), .int (nI (0))])], [(ma, zA X 144 (fun _ => false))]] [(0, .ref w)] 10 [.ref ma, .ref w]
  refine g_put 10 13 F (ci := 8) in_X11 tyX11 tyX11_ok nmX11 rfl 3 (by decide) q1475 (fun _ h => h) rfl dX11_init_10 rfl 0 (rfl) (rfl) (Nat.le_of_ble_eq_true rfl) rfl (M' := [[(w, ob 8 [.int (nI (0)), .int (nI (0)), .int (nI (0)), .ref ma, .null, .int (nI (0)), .int (nI (0)), .int (nI (0)), .int (nI (0))])], [(ma, zA X 144 (fun _ => false))]]) rfl ?_
  refine g_aload_n 13 14 F dX11_init_13 rfl rfl 0 rfl ?_
  refine g_bipush 14 16 F (nI (36)) dX11_init_14 rfl (by decide) ?_
  refine g_iconst 16 17 F (nI (2)) dX11_init_16 rfl (by decide) ?_
  refine g_newG 17 21 F q1470 dX11_init_17 rfl (n := 36) (k := 2) (Nat.le_of_ble_eq_true rfl) (Nat.le_of_ble_eq_true rfl) (c2 := 38) (s2 := 252) (Nat.le_refl _) (Nat.le_refl _) rfl rfl (M' := fun mg mgr => [[(w, ob 8 [.int (nI (0)), .int (nI (0)), .int (nI (0)), .ref ma, .null, .int (nI (0)), .int (nI (0)), .int (nI (0)), .int (nI (0))])], [(ma, zA X 144 (fun _ => false))], [(mg, oA X 5 36 (fun j => some (mgr j)))], poolW 36 (fun j => [(mgr j, iA X 2 (fun _ => 0))])]) (fun _ _ => rfl) (fun mg mgr => ?_)
  show G K X 1 38 252 [[(w, ob 8 [.int (nI (0)), .int (nI (0)), .int (nI (0)), .ref ma, .null, .int (nI (0)), .int (nI (0)), .int (nI (0)), .int (nI (0))])], [(ma, zA X 144 (fun _ => false))], [(mg, oA X 5 36 (fun j => some (mgr j)))], poolW 36 (fun j => [(mgr j, iA X 2 (fun _ => 0))])] [(0, .ref w)] 21 [.ref mg, .ref w]
  refine g_putF 21 24 F (ci := 8) in_X11 tyX11 tyX11_ok nmX11 rfl 4 (by decide) q1477 (fun _ h => h) rfl rfl dX11_init_21 rfl 0 (rfl) (rfl) (Nat.le_of_ble_eq_true rfl) rfl (M' := [[(w, ob 8 [.int (nI (0)), .int (nI (0)), .int (nI (0)), .ref ma, .ref mg, .int (nI (0)), .int (nI (0)), .int (nI (0)), .int (nI (0))])], [(ma, zA X 144 (fun _ => false))], [(mg, oA X 5 36 (fun j => some (mgr j)))], poolW 36 (fun j => [(mgr j, iA X 2 (fun _ => 0))])]) rfl ?_
  exact g_vret 24 F R dX11_init_24 (Nat.le_refl _) (Nat.le_refl _) (⟨ma, mg, mgr, rfl, by rw [mpN_z]; rfl⟩)

set_option maxHeartbeats 4000000 in
theorem m_X6_fill (l : Launch) (X : gk_X) (w ma mg : Nat) (po ho : Nat) (ch lo ac bu sl : Int32) (f : Nat → Bool)  : Ct l X yX6_fill cX6_fill 2 none 1 0 0 [.ref w] [[(w, ob 8 [.int (nI (po)), .int (nI (ho)), .int (ch), .ref ma, .ref mg, .int (lo), .int (ac), .int (bu), .int (sl)])], [(ma, zA X 144 (f))]] (fun v M' => v = none ∧ M' = [[(w, ob 8 [.int (nI (po)), .int (nI (ho)), .int (ch), .ref ma, .ref mg, .int (lo), .int (ac), .int (bu), .int (sl)])], [(ma, zA X 144 (fun _ => true))]]) := by
  refine Ct.of (by decide) (Nat.le_of_ble_eq_true rfl) "BumpwardModel" "fill" rfl rfl (fun K F eL R => ?_)
  subst eL
  show G K X 2 0 0 [[(w, ob 8 [.int (nI (po)), .int (nI (ho)), .int (ch), .ref ma, .ref mg, .int (lo), .int (ac), .int (bu), .int (sl)])], [(ma, zA X 144 (f))]] [(0, .ref w)] 0 []
  refine g_iconst 0 1 F (nI (0)) dX6_fill_0 rfl (by decide) ?_
  refine g_istore_n 1 2 F [(1, .int (nI (0))), (0, .ref w)] dX6_fill_1 rfl rfl (Nat.le_of_ble_eq_true rfl) rfl ?_
  refine g_ls [(0, .ref w), (1, .int (nI (0)))] [1, 0] (rfl) ?_
  refine g_arrZ 1 rfl (g := fun j => decide (j < 0) || f j) (fun j hj => by simp) rfl ?_
  refine g_down (P := fun i => G K X 2 0 0 [[(w, ob 8 [.int (nI (po)), .int (nI (ho)), .int (ch), .ref ma, .ref mg, .int (lo), .int (ac), .int (bu), .int (sl)])], [(ma, zA X 144 (fun j => decide (j < i) || f j))]] [(0, .ref w), (1, .int (nI (i)))] 2 []) 144 0 (by omega) ?_ (fun i hl_i hi_i ih_i => ?_)
  · show G K X 2 0 0 [[(w, ob 8 [.int (nI (po)), .int (nI (ho)), .int (ch), .ref ma, .ref mg, .int (lo), .int (ac), .int (bu), .int (sl)])], [(ma, zA X 144 (fun j => decide (j < 144) || f j))]] [(0, .ref w), (1, .int (nI (144)))] 2 []
    refine g_iload_n 2 3 F dX6_fill_2 rfl rfl 1 rfl ?_
    refine g_sipush 3 6 F (nI (144)) dX6_fill_3 rfl (by decide) ?_
    refine g_icmpN_ge 6 9 22 F dX6_fill_6 rfl (by decide) (by omega) (by omega) (fun c_1 => ?_) (fun c_1 => ?_)
    · refine g_arrZ 1 rfl (g := fun _ => true) (fun j hj => by simp [hj]) rfl ?_
      exact g_vret 22 F R dX6_fill_22 (Nat.zero_le _) (Nat.zero_le _) (⟨rfl, rfl⟩)
    · exact absurd c_1 (by omega)
  · show G K X 2 0 0 [[(w, ob 8 [.int (nI (po)), .int (nI (ho)), .int (ch), .ref ma, .ref mg, .int (lo), .int (ac), .int (bu), .int (sl)])], [(ma, zA X 144 (fun j => decide (j < i) || f j))]] [(0, .ref w), (1, .int (nI (i)))] 2 []
    refine g_iload_n 2 3 F dX6_fill_2 rfl rfl 1 rfl ?_
    refine g_sipush 3 6 F (nI (144)) dX6_fill_3 rfl (by decide) ?_
    refine g_icmpN_ge 6 9 22 F dX6_fill_6 rfl (by decide) (by omega) (by omega) (fun c_2 => ?_) (fun c_2 => ?_)
    · exact absurd c_2 (by omega)
    · refine g_aload_n 9 10 F dX6_fill_9 rfl rfl 0 rfl ?_
      refine g_get 10 13 F (ci := 8) in_X11 rfl 3 (by decide) q1476 (fun _ h => h) dX6_fill_10 rfl 0 rfl (v := .ref ma) rfl ?_
      refine g_iload_n 13 14 F dX6_fill_13 rfl rfl 1 rfl ?_
      refine g_iconst 14 15 F (nI (1)) dX6_fill_14 rfl (by decide) ?_
      refine g_top (v := bI true) rfl ?_
      refine g_zast 15 16 F dX6_fill_15 rfl 1 (i := i) rfl (Nat.le_of_ble_eq_true rfl) (by omega) (f' := fun j => decide (j < i + 1) || f j) (updB_or f i) (M' := [[(w, ob 8 [.int (nI (po)), .int (nI (ho)), .int (ch), .ref ma, .ref mg, .int (lo), .int (ac), .int (bu), .int (sl)])], [(ma, zA X 144 (fun j => decide (j < i + 1) || f j))]]) rfl ?_
      refine g_iinc 16 19 F (v := nI (i + 1)) [(1, .int (nI (i + 1))), (0, .ref w)] dX6_fill_16 rfl 1 rfl (nI_add _ _) (Nat.le_of_ble_eq_true rfl) rfl ?_
      refine g_goto 19 2 F dX6_fill_19 (by decide) ?_
      refine g_ls [(0, .ref w), (1, .int (nI (i + 1)))] [1, 0] (rfl) ?_
      exact ih_i

set_option maxHeartbeats 4000000 in
theorem m_X6_known (l : Launch) (X : gk_X) (w ma mg : Nat) (mr : Nat → Nat) (po ho : Nat) (ch lo ac bu sl : Int32) (e : Nat → Nat) (c s : Nat) (hc : c < 36) (hs : s < 4) : CtP l X yX6_known cX6_known 3 (some .int) 4 0 0 [.ref w, .int (nI (c)), .int (nI (s))] [[(w, ob 8 [.int (nI (po)), .int (nI (ho)), .int (ch), .ref ma, .ref mg, .int (lo), .int (ac), .int (bu), .int (sl)])], [(mg, oA X 5 36 (fun j => some (mr j)))], poolW 36 (fun j => [(mr j, iA X 2 (fun z => nI (mpN e j z)))])] (some (.int (nI (atN e c s)))) := by
  unfold CtP
  refine Ct.of (by decide) (Nat.le_of_ble_eq_true rfl) "BumpwardModel" "known" rfl rfl (fun K F eL R => ?_)
  subst eL
  show G K X 3 0 0 [[(w, ob 8 [.int (nI (po)), .int (nI (ho)), .int (ch), .ref ma, .ref mg, .int (lo), .int (ac), .int (bu), .int (sl)])], [(mg, oA X 5 36 (fun j => some (mr j)))], poolW 36 (fun j => [(mr j, iA X 2 (fun z => nI (mpN e j z)))])] [(0, .ref w), (1, .int (nI (c))), (2, .int (nI (s)))] 0 []
  refine g_iload_n 0 1 F dX6_known_0 rfl rfl 1 rfl ?_
  refine g_iload_n 1 2 F dX6_known_1 rfl rfl 2 rfl ?_
  refine g_callP 3 5 F (CallOk.S (As := [.int (nI (c)), .int (nI (s))]) (rest := []) F 2 q1431 q1432 q58 q1433 cd_X6_beyond rfl rfl (Nat.le_of_ble_eq_true rfl) (Nat.le_of_ble_eq_true rfl) dX6_known_2) (m_X6_beyond (kL K) X c s (by omega) (by omega)) rfl (Mr := [[(w, ob 8 [.int (nI (po)), .int (nI (ho)), .int (ch), .ref ma, .ref mg, .int (lo), .int (ac), .int (bu), .int (sl)])], [(mg, oA X 5 36 (fun j => some (mr j)))], poolW 36 (fun j => [(mr j, iA X 2 (fun z => nI (mpN e j z)))])]) [] [0, 1, 2] rfl 3 rfl (by decide +kernel) rfl rfl (rc_T) (Nat.le_of_ble_eq_true rfl) (c2 := 0) (s2 := 0) (Nat.zero_le _) (Nat.zero_le _) rfl rfl (st1 := [.int (bsI c s)]) rfl ?_
  refine g_iconst 5 6 F (-1) dX6_known_5 rfl (by decide) ?_
  refine g_icmp_ne 6 9 13 F dX6_known_6 rfl (by decide) (fun c_1 => ?_) (fun c_1 => ?_)
  · have hb := bsI_no hc hs c_1
    have hkp := kpD_lt hc hs hb
    have hwy := wyD_lt s
    refine g_aload_n 13 14 F dX6_known_13 rfl rfl 0 rfl ?_
    refine g_get 14 17 F (ci := 8) in_X11 rfl 4 (by decide) q1478 (fun _ h => h) dX6_known_14 rfl 0 rfl (v := .ref mg) rfl ?_
    refine g_iload_n 17 18 F dX6_known_17 rfl rfl 1 rfl ?_
    refine g_iload_n 18 19 F dX6_known_18 rfl rfl 2 rfl ?_
    refine g_callP 3 22 F (CallOk.S (As := [.int (nI (c)), .int (nI (s))]) (rest := [.ref mg]) F 2 q1435 q1436 q58 q1437 cd_X6_keeper rfl rfl (Nat.le_of_ble_eq_true rfl) (Nat.le_of_ble_eq_true rfl) dX6_known_19) (m_X6_keeper (kL K) X c s (by omega) (by omega) (by omega)) rfl (Mr := [[(w, ob 8 [.int (nI (po)), .int (nI (ho)), .int (ch), .ref ma, .ref mg, .int (lo), .int (ac), .int (bu), .int (sl)])], [(mg, oA X 5 36 (fun j => some (mr j)))], poolW 36 (fun j => [(mr j, iA X 2 (fun z => nI (mpN e j z)))])]) [] [0, 1, 2] rfl 3 rfl (by decide +kernel) rfl rfl (rc_T) (Nat.le_of_ble_eq_true rfl) (c2 := 0) (s2 := 0) (Nat.zero_le _) (Nat.zero_le _) rfl rfl (st1 := [.int (nI (kpD c s)), .ref mg]) rfl ?_
    refine g_rald 22 23 F dX6_known_22 rfl 1 (i := kpD c s) rfl (Nat.le_of_ble_eq_true rfl) (by omega) (w := mr (kpD c s)) (rfl) ?_
    refine g_iload_n 23 24 F dX6_known_23 rfl rfl 2 rfl ?_
    refine g_callP 3 27 F (CallOk.S (As := [.int (nI (s))]) (rest := [.ref (mr (kpD c s))]) F 1 q1438 q1439 q58 q1440 cd_X6_way rfl rfl (Nat.le_of_ble_eq_true rfl) (Nat.le_of_ble_eq_true rfl) dX6_known_24) (m_X6_way (kL K) X s (by omega)) rfl (Mr := [[(w, ob 8 [.int (nI (po)), .int (nI (ho)), .int (ch), .ref ma, .ref mg, .int (lo), .int (ac), .int (bu), .int (sl)])], [(mg, oA X 5 36 (fun j => some (mr j)))], poolW 36 (fun j => [(mr j, iA X 2 (fun z => nI (mpN e j z)))])]) [] [0, 1, 2] rfl 3 rfl (by decide +kernel) rfl rfl (rc_T) (Nat.le_of_ble_eq_true rfl) (c2 := 0) (s2 := 0) (Nat.zero_le _) (Nat.zero_le _) rfl rfl (st1 := [.int (nI (wyD s)), .ref (mr (kpD c s))]) rfl ?_
    refine g_ialdM 27 28 F dX6_known_27 rfl (i := wyD s) (fl_mem (bi := 2) rfl (mem_pool (c := kpD c s) (by omega) (List.mem_singleton.mpr rfl))) (Nat.le_of_ble_eq_true rfl) (by omega) ?_
    refine g_top (v := nI (mpN e (kpD c s) (wyD s))) rfl ?_
    exact g_iret 28 F R dX6_known_28 (Nat.zero_le _) (Nat.zero_le _) (⟨congrArg (fun z => some (Value.int z)) (by first | rw [atN, if_pos ((bsI_eq hc hs).mp c_1)] | rw [atN, if_neg hb, mp_kp hc hs hb]), rfl⟩)
  · refine g_iconst 9 10 F (nI (2)) dX6_known_9 rfl (by decide) ?_
    refine g_goto 10 28 F dX6_known_10 (by decide) ?_
    exact g_iret 28 F R dX6_known_28 (Nat.zero_le _) (Nat.zero_le _) (⟨congrArg (fun z => some (Value.int z)) (by first | rw [atN, if_pos ((bsI_eq hc hs).mp c_1)] | rw [atN, if_neg hb, mp_kp hc hs hb]), rfl⟩)

set_option maxHeartbeats 4000000 in
theorem m_X6_learn (l : Launch) (X : gk_X) (w ma mg : Nat) (mr : Nat → Nat) (po ho : Nat) (ch lo ac bu sl : Int32) (e : Nat → Nat) (c s : Nat) (b : Bool) (hc : c < 36) (hs : s < 4) : Ct l X yX6_learn cX6_learn 4 none 4 0 0 [.ref w, .int (nI (c)), .int (nI (s)), .int (bI (b))] [[(w, ob 8 [.int (nI (po)), .int (nI (ho)), .int (ch), .ref ma, .ref mg, .int (lo), .int (ac), .int (bu), .int (sl)])], [(mg, oA X 5 36 (fun j => some (mr j)))], poolW 36 (fun j => [(mr j, iA X 2 (fun z => nI (mpN e j z)))])] (fun v M' => v = none ∧ M' = [[(w, ob 8 [.int (nI (po)), .int (nI (ho)), .int (ch), .ref ma, .ref mg, .int (lo), .int (ac), .int (bu), .int (sl)])], [(mg, oA X 5 36 (fun j => some (mr j)))], poolW 36 (fun j => [(mr j, iA X 2 (fun z => nI (mpN (tlN e c s b) j z)))])]) := by
  refine Ct.of (by decide) (Nat.le_of_ble_eq_true rfl) "BumpwardModel" "learn" rfl rfl (fun K F eL R => ?_)
  subst eL
  show G K X 4 0 0 [[(w, ob 8 [.int (nI (po)), .int (nI (ho)), .int (ch), .ref ma, .ref mg, .int (lo), .int (ac), .int (bu), .int (sl)])], [(mg, oA X 5 36 (fun j => some (mr j)))], poolW 36 (fun j => [(mr j, iA X 2 (fun z => nI (mpN e j z)))])] [(0, .ref w), (1, .int (nI (c))), (2, .int (nI (s))), (3, .int (bI (b)))] 0 []
  refine g_iload_n 0 1 F dX6_learn_0 rfl rfl 1 rfl ?_
  refine g_iload_n 1 2 F dX6_learn_1 rfl rfl 2 rfl ?_
  refine g_callP 3 5 F (CallOk.S (As := [.int (nI (c)), .int (nI (s))]) (rest := []) F 2 q1431 q1432 q58 q1433 cd_X6_beyond rfl rfl (Nat.le_of_ble_eq_true rfl) (Nat.le_of_ble_eq_true rfl) dX6_learn_2) (m_X6_beyond (kL K) X c s (by omega) (by omega)) rfl (Mr := [[(w, ob 8 [.int (nI (po)), .int (nI (ho)), .int (ch), .ref ma, .ref mg, .int (lo), .int (ac), .int (bu), .int (sl)])], [(mg, oA X 5 36 (fun j => some (mr j)))], poolW 36 (fun j => [(mr j, iA X 2 (fun z => nI (mpN e j z)))])]) [] [0, 1, 2] rfl 3 rfl (by decide +kernel) rfl rfl (rc_T) (Nat.le_of_ble_eq_true rfl) (c2 := 0) (s2 := 0) (Nat.zero_le _) (Nat.zero_le _) rfl rfl (st1 := [.int (bsI c s)]) rfl ?_
  refine g_iconst 5 6 F (-1) dX6_learn_5 rfl (by decide) ?_
  refine g_icmp_eq 6 9 33 F dX6_learn_6 rfl (by decide) (fun c_1 => ?_) (fun c_1 => ?_)
  · exact g_vret 33 F R dX6_learn_33 (Nat.zero_le _) (Nat.zero_le _) (by first | exact ⟨rfl, rfl⟩ | exact ⟨rfl, by rw [tlN_out ((bsI_eq hc hs).mp c_1)]⟩)
  · have hb := bsI_no hc hs c_1
    have hkp := kpD_lt hc hs hb
    have hwy := wyD_lt s
    refine g_aload_n 9 10 F dX6_learn_9 rfl rfl 0 rfl ?_
    refine g_get 10 13 F (ci := 8) in_X11 rfl 4 (by decide) q1478 (fun _ h => h) dX6_learn_10 rfl 0 rfl (v := .ref mg) rfl ?_
    refine g_iload_n 13 14 F dX6_learn_13 rfl rfl 1 rfl ?_
    refine g_iload_n 14 15 F dX6_learn_14 rfl rfl 2 rfl ?_
    refine g_callP 3 18 F (CallOk.S (As := [.int (nI (c)), .int (nI (s))]) (rest := [.ref mg]) F 2 q1435 q1436 q58 q1437 cd_X6_keeper rfl rfl (Nat.le_of_ble_eq_true rfl) (Nat.le_of_ble_eq_true rfl) dX6_learn_15) (m_X6_keeper (kL K) X c s (by omega) (by omega) (by omega)) rfl (Mr := [[(w, ob 8 [.int (nI (po)), .int (nI (ho)), .int (ch), .ref ma, .ref mg, .int (lo), .int (ac), .int (bu), .int (sl)])], [(mg, oA X 5 36 (fun j => some (mr j)))], poolW 36 (fun j => [(mr j, iA X 2 (fun z => nI (mpN e j z)))])]) [] [0, 1, 2] rfl 3 rfl (by decide +kernel) rfl rfl (rc_T) (Nat.le_of_ble_eq_true rfl) (c2 := 0) (s2 := 0) (Nat.zero_le _) (Nat.zero_le _) rfl rfl (st1 := [.int (nI (kpD c s)), .ref mg]) rfl ?_
    refine g_rald 18 19 F dX6_learn_18 rfl 1 (i := kpD c s) rfl (Nat.le_of_ble_eq_true rfl) (by omega) (w := mr (kpD c s)) (rfl) ?_
    refine g_iload_n 19 20 F dX6_learn_19 rfl rfl 2 rfl ?_
    refine g_callP 3 23 F (CallOk.S (As := [.int (nI (s))]) (rest := [.ref (mr (kpD c s))]) F 1 q1438 q1439 q58 q1440 cd_X6_way rfl rfl (Nat.le_of_ble_eq_true rfl) (Nat.le_of_ble_eq_true rfl) dX6_learn_20) (m_X6_way (kL K) X s (by omega)) rfl (Mr := [[(w, ob 8 [.int (nI (po)), .int (nI (ho)), .int (ch), .ref ma, .ref mg, .int (lo), .int (ac), .int (bu), .int (sl)])], [(mg, oA X 5 36 (fun j => some (mr j)))], poolW 36 (fun j => [(mr j, iA X 2 (fun z => nI (mpN e j z)))])]) [] [0, 1, 2] rfl 3 rfl (by decide +kernel) rfl rfl (rc_T) (Nat.le_of_ble_eq_true rfl) (c2 := 0) (s2 := 0) (Nat.zero_le _) (Nat.zero_le _) rfl rfl (st1 := [.int (nI (wyD s)), .ref (mr (kpD c s))]) rfl ?_
    refine g_iload_n 23 24 F dX6_learn_23 rfl rfl 3 rfl ?_
    refine g_ifB_eq 24 27 31 F dX6_learn_24 rfl (by decide) (fun c_2 => ?_) (fun c_2 => ?_)
    · refine g_iconst 31 32 F (nI (1)) dX6_learn_31 rfl (by decide) ?_
      refine g_top (v := nI (if b = true then 2 else 1)) (by rw [c_2]; rfl) ?_
      refine g_sel [poolW 36 (fun j => [(mr j, iA X 2 (fun z => nI (mpN e j z)))]), [(w, ob 8 [.int (nI (po)), .int (nI (ho)), .int (ch), .ref ma, .ref mg, .int (lo), .int (ac), .int (bu), .int (sl)])], [(mg, oA X 5 36 (fun j => some (mr j)))]] [2, 0, 1] rfl rfl ?_
      refine g_popen (kpD c s) (by omega) [[(mr (kpD c s), iA X 2 (fun z => nI (mpN e (kpD c s) z)))]] [[(w, ob 8 [.int (nI (po)), .int (nI (ho)), .int (ch), .ref ma, .ref mg, .int (lo), .int (ac), .int (bu), .int (sl)])], [(mg, oA X 5 36 (fun j => some (mr j)))]] rfl ?_
      show G K X 4 0 0 [[(mr (kpD c s), iA X 2 (fun z => nI (mpN e (kpD c s) z)))], poolX 36 (fun j => [(mr j, iA X 2 (fun z => nI (mpN e j z)))]) (kpD c s), [(w, ob 8 [.int (nI (po)), .int (nI (ho)), .int (ch), .ref ma, .ref mg, .int (lo), .int (ac), .int (bu), .int (sl)])], [(mg, oA X 5 36 (fun j => some (mr j)))]] [(0, .ref w), (1, .int (nI (c))), (2, .int (nI (s))), (3, .int (bI (b)))] 32 [.int (nI (if b = true then 2 else 1)), .int (nI (wyD s)), .ref (mr (kpD c s))]
      refine g_iast 32 33 F dX6_learn_32 rfl 0 (i := wyD s) rfl (Nat.le_of_ble_eq_true rfl) (by omega) (f' := upd (fun z => nI (mpN e (kpD c s) z)) (wyD s) (nI (if b = true then 2 else 1))) rfl (M' := [[(mr (kpD c s), iA X 2 (upd (fun z => nI (mpN e (kpD c s) z)) (wyD s) (nI (if b = true then 2 else 1))))], poolX 36 (fun j => [(mr j, iA X 2 (fun z => nI (mpN e j z)))]) (kpD c s), [(w, ob 8 [.int (nI (po)), .int (nI (ho)), .int (ch), .ref ma, .ref mg, .int (lo), .int (ac), .int (bu), .int (sl)])], [(mg, oA X 5 36 (fun j => some (mr j)))]]) rfl ?_
      refine g_arr 0 rfl (g := fun z => nI (mpN (tlN e c s b) (kpD c s) z)) (fun z hz => by rw [tlN_set hb]; exact mp_row hc hs hb hz) (M' := [[(mr (kpD c s), iA X 2 (fun z => nI (mpN (tlN e c s b) (kpD c s) z)))], poolX 36 (fun j => [(mr j, iA X 2 (fun z => nI (mpN e j z)))]) (kpD c s), [(w, ob 8 [.int (nI (po)), .int (nI (ho)), .int (ch), .ref ma, .ref mg, .int (lo), .int (ac), .int (bu), .int (sl)])], [(mg, oA X 5 36 (fun j => some (mr j)))]]) rfl ?_
      refine g_pclose (kpD c s) (by omega) [[(mr (kpD c s), iA X 2 (fun z => nI (mpN (tlN e c s b) (kpD c s) z)))]] [[(w, ob 8 [.int (nI (po)), .int (nI (ho)), .int (ch), .ref ma, .ref mg, .int (lo), .int (ac), .int (bu), .int (sl)])], [(mg, oA X 5 36 (fun j => some (mr j)))]] rfl (fun j => [(mr j, iA X 2 (fun z => nI (mpN (tlN e c s b) j z)))]) rfl (fun j hj hn => by rw [tlN_set hb, mp_oth hc hs hb hj hn]) ?_
      show G K X 4 0 0 [poolW 36 (fun j => [(mr j, iA X 2 (fun z => nI (mpN (tlN e c s b) j z)))]), [(w, ob 8 [.int (nI (po)), .int (nI (ho)), .int (ch), .ref ma, .ref mg, .int (lo), .int (ac), .int (bu), .int (sl)])], [(mg, oA X 5 36 (fun j => some (mr j)))]] [(0, .ref w), (1, .int (nI (c))), (2, .int (nI (s))), (3, .int (bI (b)))] 33 []
      refine g_sel [[(w, ob 8 [.int (nI (po)), .int (nI (ho)), .int (ch), .ref ma, .ref mg, .int (lo), .int (ac), .int (bu), .int (sl)])], [(mg, oA X 5 36 (fun j => some (mr j)))], poolW 36 (fun j => [(mr j, iA X 2 (fun z => nI (mpN (tlN e c s b) j z)))])] [1, 2, 0] rfl rfl ?_
      exact g_vret 33 F R dX6_learn_33 (Nat.zero_le _) (Nat.zero_le _) (by first | exact ⟨rfl, rfl⟩ | exact ⟨rfl, by rw [tlN_out ((bsI_eq hc hs).mp c_1)]⟩)
    · refine g_iconst 27 28 F (nI (2)) dX6_learn_27 rfl (by decide) ?_
      refine g_goto 28 32 F dX6_learn_28 (by decide) ?_
      refine g_top (v := nI (if b = true then 2 else 1)) (by rw [c_2]; rfl) ?_
      refine g_sel [poolW 36 (fun j => [(mr j, iA X 2 (fun z => nI (mpN e j z)))]), [(w, ob 8 [.int (nI (po)), .int (nI (ho)), .int (ch), .ref ma, .ref mg, .int (lo), .int (ac), .int (bu), .int (sl)])], [(mg, oA X 5 36 (fun j => some (mr j)))]] [2, 0, 1] rfl rfl ?_
      refine g_popen (kpD c s) (by omega) [[(mr (kpD c s), iA X 2 (fun z => nI (mpN e (kpD c s) z)))]] [[(w, ob 8 [.int (nI (po)), .int (nI (ho)), .int (ch), .ref ma, .ref mg, .int (lo), .int (ac), .int (bu), .int (sl)])], [(mg, oA X 5 36 (fun j => some (mr j)))]] rfl ?_
      show G K X 4 0 0 [[(mr (kpD c s), iA X 2 (fun z => nI (mpN e (kpD c s) z)))], poolX 36 (fun j => [(mr j, iA X 2 (fun z => nI (mpN e j z)))]) (kpD c s), [(w, ob 8 [.int (nI (po)), .int (nI (ho)), .int (ch), .ref ma, .ref mg, .int (lo), .int (ac), .int (bu), .int (sl)])], [(mg, oA X 5 36 (fun j => some (mr j)))]] [(0, .ref w), (1, .int (nI (c))), (2, .int (nI (s))), (3, .int (bI (b)))] 32 [.int (nI (if b = true then 2 else 1)), .int (nI (wyD s)), .ref (mr (kpD c s))]
      refine g_iast 32 33 F dX6_learn_32 rfl 0 (i := wyD s) rfl (Nat.le_of_ble_eq_true rfl) (by omega) (f' := upd (fun z => nI (mpN e (kpD c s) z)) (wyD s) (nI (if b = true then 2 else 1))) rfl (M' := [[(mr (kpD c s), iA X 2 (upd (fun z => nI (mpN e (kpD c s) z)) (wyD s) (nI (if b = true then 2 else 1))))], poolX 36 (fun j => [(mr j, iA X 2 (fun z => nI (mpN e j z)))]) (kpD c s), [(w, ob 8 [.int (nI (po)), .int (nI (ho)), .int (ch), .ref ma, .ref mg, .int (lo), .int (ac), .int (bu), .int (sl)])], [(mg, oA X 5 36 (fun j => some (mr j)))]]) rfl ?_
      refine g_arr 0 rfl (g := fun z => nI (mpN (tlN e c s b) (kpD c s) z)) (fun z hz => by rw [tlN_set hb]; exact mp_row hc hs hb hz) (M' := [[(mr (kpD c s), iA X 2 (fun z => nI (mpN (tlN e c s b) (kpD c s) z)))], poolX 36 (fun j => [(mr j, iA X 2 (fun z => nI (mpN e j z)))]) (kpD c s), [(w, ob 8 [.int (nI (po)), .int (nI (ho)), .int (ch), .ref ma, .ref mg, .int (lo), .int (ac), .int (bu), .int (sl)])], [(mg, oA X 5 36 (fun j => some (mr j)))]]) rfl ?_
      refine g_pclose (kpD c s) (by omega) [[(mr (kpD c s), iA X 2 (fun z => nI (mpN (tlN e c s b) (kpD c s) z)))]] [[(w, ob 8 [.int (nI (po)), .int (nI (ho)), .int (ch), .ref ma, .ref mg, .int (lo), .int (ac), .int (bu), .int (sl)])], [(mg, oA X 5 36 (fun j => some (mr j)))]] rfl (fun j => [(mr j, iA X 2 (fun z => nI (mpN (tlN e c s b) j z)))]) rfl (fun j hj hn => by rw [tlN_set hb, mp_oth hc hs hb hj hn]) ?_
      show G K X 4 0 0 [poolW 36 (fun j => [(mr j, iA X 2 (fun z => nI (mpN (tlN e c s b) j z)))]), [(w, ob 8 [.int (nI (po)), .int (nI (ho)), .int (ch), .ref ma, .ref mg, .int (lo), .int (ac), .int (bu), .int (sl)])], [(mg, oA X 5 36 (fun j => some (mr j)))]] [(0, .ref w), (1, .int (nI (c))), (2, .int (nI (s))), (3, .int (bI (b)))] 33 []
      refine g_sel [[(w, ob 8 [.int (nI (po)), .int (nI (ho)), .int (ch), .ref ma, .ref mg, .int (lo), .int (ac), .int (bu), .int (sl)])], [(mg, oA X 5 36 (fun j => some (mr j)))], poolW 36 (fun j => [(mr j, iA X 2 (fun z => nI (mpN (tlN e c s b) j z)))])] [1, 2, 0] rfl rfl ?_
      exact g_vret 33 F R dX6_learn_33 (Nat.zero_le _) (Nat.zero_le _) (by first | exact ⟨rfl, rfl⟩ | exact ⟨rfl, by rw [tlN_out ((bsI_eq hc hs).mp c_1)]⟩)

set_option maxHeartbeats 4000000 in
theorem m_X6_thrown (l : Launch) (X : gk_X) (mo kg hg ca ba al : Nat) (th : Nat) (mi dn dr mt dp rf : Int32)  : CtP l X yX6_thrown cX6_thrown 1 (some .int) 1 0 0 [.ref mo] [[(mo, ob 7 [.int (nI (th)), .int (mi), .int (dn), .int (dr), .int (mt), .int (dp), .int (rf), .ref kg, .ref hg, .ref ca, .ref ba, .ref al])]] (some (.int (nI (th)))) := by
  unfold CtP
  refine Ct.of (by decide) (Nat.le_of_ble_eq_true rfl) "BumpwardModel" "thrown" rfl rfl (fun K F eL R => ?_)
  subst eL
  show G K X 1 0 0 [[(mo, ob 7 [.int (nI (th)), .int (mi), .int (dn), .int (dr), .int (mt), .int (dp), .int (rf), .ref kg, .ref hg, .ref ca, .ref ba, .ref al])]] [(0, .ref mo)] 0 []
  refine g_aload_n 0 1 F dX6_thrown_0 rfl rfl 0 rfl ?_
  refine g_get 1 4 F (ci := 7) in_X6 rfl 0 (by decide) q1369 (fun _ h => h) dX6_thrown_1 rfl 0 rfl (v := .int (nI (th))) rfl ?_
  exact g_iret 4 F R dX6_thrown_4 (Nat.zero_le _) (Nat.zero_le _) (⟨rfl, rfl⟩)

set_option maxHeartbeats 4000000 in
theorem m_X6_refuse (l : Launch) (X : gk_X) (mo kg hg ca ba al : Nat) (mi dn dr mt dp rf : Int32) (b : Bool) (k : Nat) (hk : 0 < k ∧ k < 4) : Ct l X yX6_refuse cX6_refuse 3 (some .boolean) 1 0 0 [.ref mo, .int (bI (b)), .int (nI (k))] [[(mo, ob 7 [.int (nI (0)), .int (mi), .int (dn), .int (dr), .int (mt), .int (dp), .int (rf), .ref kg, .ref hg, .ref ca, .ref ba, .ref al])]] (fun v M' => v = some (.int (bI b)) ∧ M' = [[(mo, ob 7 [.int (nI (stN b k)), .int (mi), .int (dn), .int (dr), .int (mt), .int (dp), .int (rf), .ref kg, .ref hg, .ref ca, .ref ba, .ref al])]]) := by
  refine Ct.of (by decide) (Nat.le_of_ble_eq_true rfl) "BumpwardModel" "refuse" rfl rfl (fun K F eL R => ?_)
  subst eL
  show G K X 3 0 0 [[(mo, ob 7 [.int (nI (0)), .int (mi), .int (dn), .int (dr), .int (mt), .int (dp), .int (rf), .ref kg, .ref hg, .ref ca, .ref ba, .ref al])]] [(0, .ref mo), (1, .int (bI (b))), (2, .int (nI (k)))] 0 []
  refine g_iload_n 0 1 F dX6_refuse_0 rfl rfl 1 rfl ?_
  refine g_ifB_eq 1 4 16 F dX6_refuse_1 rfl (by decide) (fun c_1 => ?_) (fun c_1 => ?_)
  · refine g_aload_n 16 17 F dX6_refuse_16 rfl rfl 0 rfl ?_
    refine g_get 17 20 F (ci := 7) in_X6 rfl 0 (by decide) q1369 (fun _ h => h) dX6_refuse_17 rfl 0 rfl (v := .int (nI (0))) rfl ?_
    refine g_diaZ_le 20 27 28 F dX6_refuse_20 (by decide) dX6_refuse_23 dX6_refuse_24 (by decide) dX6_refuse_27 rfl ?_
    exact g_bret 28 F R dX6_refuse_28 (Nat.zero_le _) (Nat.zero_le _) (by rcases (by omega : k = 1 ∨ k = 2 ∨ k = 3) with h | h | h <;> subst h <;> rw [c_1] <;> exact ⟨rfl, rfl⟩)
  · refine g_aload_n 4 5 F dX6_refuse_4 rfl rfl 0 rfl ?_
    refine g_get 5 8 F (ci := 7) in_X6 rfl 0 (by decide) q1369 (fun _ h => h) dX6_refuse_5 rfl 0 rfl (v := .int (nI (0))) rfl ?_
    refine g_ifN_ne 8 11 16 F dX6_refuse_8 rfl (by decide) (by omega) (fun c_2 => ?_) (fun c_2 => ?_)
    · exact absurd rfl c_2
    · refine g_aload_n 11 12 F dX6_refuse_11 rfl rfl 0 rfl ?_
      refine g_iload_n 12 13 F dX6_refuse_12 rfl rfl 2 rfl ?_
      refine g_put 13 16 F (ci := 7) in_X6 tyX6 tyX6_ok nmX6 rfl 0 (by decide) q1369 (fun _ h => h) rfl dX6_refuse_13 rfl 0 (rfl) (rfl) (Nat.le_of_ble_eq_true rfl) rfl (M' := [[(mo, ob 7 [.int (nI (k)), .int (mi), .int (dn), .int (dr), .int (mt), .int (dp), .int (rf), .ref kg, .ref hg, .ref ca, .ref ba, .ref al])]]) rfl ?_
      refine g_aload_n 16 17 F dX6_refuse_16 rfl rfl 0 rfl ?_
      refine g_get 17 20 F (ci := 7) in_X6 rfl 0 (by decide) q1369 (fun _ h => h) dX6_refuse_17 rfl 0 rfl (v := .int (nI (k))) rfl ?_
      refine g_diaZ_le 20 27 28 F dX6_refuse_20 (by decide) dX6_refuse_23 dX6_refuse_24 (by decide) dX6_refuse_27 rfl ?_
      exact g_bret 28 F R dX6_refuse_28 (Nat.zero_le _) (Nat.zero_le _) (by rcases (by omega : k = 1 ∨ k = 2 ∨ k = 3) with h | h | h <;> subst h <;> rw [c_1] <;> exact ⟨rfl, rfl⟩)

set_option maxHeartbeats 4000000 in
theorem m_X6_start (l : Launch) (X : gk_X) (mo kg hg ca ba al : Nat) (th : Nat) (mi dn dr mt dp rf : Int32) (b : Bool) (k : Nat) (hk : 0 < k ∧ k < 4) : Ct l X yX6_start cX6_start 3 (some .boolean) 2 0 0 [.ref mo, .int (bI (b)), .int (nI (k))] [[(mo, ob 7 [.int (nI (th)), .int (mi), .int (dn), .int (dr), .int (mt), .int (dp), .int (rf), .ref kg, .ref hg, .ref ca, .ref ba, .ref al])]] (fun v M' => v = some (.int (bI b)) ∧ M' = [[(mo, ob 7 [.int (nI (stN b k)), .int (mi), .int (dn), .int (dr), .int (mt), .int (dp), .int (rf), .ref kg, .ref hg, .ref ca, .ref ba, .ref al])]]) := by
  refine Ct.of (by decide) (Nat.le_of_ble_eq_true rfl) "BumpwardModel" "start" rfl rfl (fun K F eL R => ?_)
  subst eL
  show G K X 3 0 0 [[(mo, ob 7 [.int (nI (th)), .int (mi), .int (dn), .int (dr), .int (mt), .int (dp), .int (rf), .ref kg, .ref hg, .ref ca, .ref ba, .ref al])]] [(0, .ref mo), (1, .int (bI (b))), (2, .int (nI (k)))] 0 []
  refine g_aload_n 0 1 F dX6_start_0 rfl rfl 0 rfl ?_
  refine g_iconst 1 2 F (nI (0)) dX6_start_1 rfl (by decide) ?_
  refine g_put 2 5 F (ci := 7) in_X6 tyX6 tyX6_ok nmX6 rfl 0 (by decide) q1369 (fun _ h => h) rfl dX6_start_2 rfl 0 (rfl) (rfl) (Nat.le_of_ble_eq_true rfl) rfl (M' := [[(mo, ob 7 [.int (nI (0)), .int (mi), .int (dn), .int (dr), .int (mt), .int (dp), .int (rf), .ref kg, .ref hg, .ref ca, .ref ba, .ref al])]]) rfl ?_
  refine g_aload_n 5 6 F dX6_start_5 rfl rfl 0 rfl ?_
  refine g_iload_n 6 7 F dX6_start_6 rfl rfl 1 rfl ?_
  refine g_iload_n 7 8 F dX6_start_7 rfl rfl 2 rfl ?_
  refine g_call 3 11 F (CallOk.V (C := "BumpwardModel") (b := mo) (As := [.int (bI (b)), .int (nI (k))]) (rest := []) F 2 q1427 q1429 qs25 q58 q1430 cdV_X6_refuse rfl rfl (Nat.le_of_ble_eq_true rfl) (Nat.le_of_ble_eq_true rfl) dX6_start_8) (m_X6_refuse (kL K) X mo kg hg ca ba al mi dn dr mt dp rf b k (by omega)) rfl (Mr := []) [0] [] rfl rfl rfl (rc_of F 0 7 rfl rfl) (Nat.le_of_ble_eq_true rfl) (c2 := 0) (s2 := 0) (Nat.zero_le _) (Nat.zero_le _) rfl rfl (fun v M1 hp => ?_)
  obtain ⟨rfl, rfl⟩ := hp
  show G K X 3 0 0 [[(mo, ob 7 [.int (nI (stN b k)), .int (mi), .int (dn), .int (dr), .int (mt), .int (dp), .int (rf), .ref kg, .ref hg, .ref ca, .ref ba, .ref al])]] [(0, .ref mo), (1, .int (bI (b))), (2, .int (nI (k)))] 11 [.int (bI (b))]
  exact g_bret 11 F R dX6_start_11 (Nat.zero_le _) (Nat.zero_le _) (⟨rfl, rfl⟩)

set_option maxHeartbeats 4000000 in
theorem m_X6_isOpen (l : Launch) (X : gk_X) (mo kg hg ca ba al : Nat) (th : Nat) (mi dn dr mt dp rf : Int32) (hs : Nat → Nat) (hr : Nat → Int32) (c w : Nat) (hc : c < 36) (hw : w < 2) : CtP l X yX6_isOpen cX6_isOpen 3 (some .boolean) 1 0 0 [.ref mo, .int (nI (c)), .int (nI (w))] [[(mo, ob 7 [.int (nI (th)), .int (mi), .int (dn), .int (dr), .int (mt), .int (dp), .int (rf), .ref kg, .ref hg, .ref ca, .ref ba, .ref al])], [(hg, oA X 5 36 (fun j => some (hs j)))], poolW 36 (fun j => [(hs j, iA X 2 (fun z => hgI hr j z))])] (some (.int (bI (opB (hgI hr c w) mi)))) := by
  unfold CtP
  refine Ct.of (by decide) (Nat.le_of_ble_eq_true rfl) "BumpwardModel" "isOpen" rfl rfl (fun K F eL R => ?_)
  subst eL
  show G K X 3 0 0 [[(mo, ob 7 [.int (nI (th)), .int (mi), .int (dn), .int (dr), .int (mt), .int (dp), .int (rf), .ref kg, .ref hg, .ref ca, .ref ba, .ref al])], [(hg, oA X 5 36 (fun j => some (hs j)))], poolW 36 (fun j => [(hs j, iA X 2 (fun z => hgI hr j z))])] [(0, .ref mo), (1, .int (nI (c))), (2, .int (nI (w)))] 0 []
  refine g_aload_n 0 1 F dX6_isOpen_0 rfl rfl 0 rfl ?_
  refine g_get 1 4 F (ci := 7) in_X6 rfl 8 (by decide) q1377 (fun _ h => h) dX6_isOpen_1 rfl 0 rfl (v := .ref hg) rfl ?_
  refine g_iload_n 4 5 F dX6_isOpen_4 rfl rfl 1 rfl ?_
  refine g_rald 5 6 F dX6_isOpen_5 rfl 1 (i := c) rfl (Nat.le_of_ble_eq_true rfl) (by omega) (w := hs c) (rfl) ?_
  refine g_iload_n 6 7 F dX6_isOpen_6 rfl rfl 2 rfl ?_
  refine g_ialdM 7 8 F dX6_isOpen_7 rfl (i := w) (fl_mem (bi := 2) rfl (mem_pool (c := c) (by omega) (List.mem_singleton.mpr rfl))) (Nat.le_of_ble_eq_true rfl) (by omega) ?_
  refine g_top (v := hgI hr c w) rfl ?_
  refine g_aload_n 8 9 F dX6_isOpen_8 rfl rfl 0 rfl ?_
  refine g_get 9 12 F (ci := 7) in_X6 rfl 1 (by decide) q1370 (fun _ h => h) dX6_isOpen_9 rfl 0 rfl (v := .int (mi)) rfl ?_
  refine g_bipush 12 14 F (nI (60)) dX6_isOpen_12 rfl (by decide) ?_
  refine g_idiv 14 15 F (v := mi / (nI (60))) dX6_isOpen_14 rfl (by decide) (rfl) ?_
  refine g_bipush 15 17 F (nI (24)) dX6_isOpen_15 rfl (by decide) ?_
  refine g_irem 17 18 F (v := hrI mi) dX6_isOpen_17 rfl (by decide) (rfl) ?_
  refine g_ishr 18 19 F (v := (hgI hr c w) >>> ((hrI mi) &&& 31)) dX6_isOpen_18 rfl (rfl) ?_
  refine g_iconst 19 20 F (nI (1)) dX6_isOpen_19 rfl (by decide) ?_
  refine g_iand 20 21 F (v := ((hgI hr c w) >>> ((hrI mi) &&& 31)) &&& (nI (1))) dX6_isOpen_20 rfl (rfl) ?_
  refine g_iconst 21 22 F (nI (1)) dX6_isOpen_21 rfl (by decide) ?_
  refine g_dia_ne 22 29 30 F dX6_isOpen_22 (by decide) dX6_isOpen_25 dX6_isOpen_26 (by decide) dX6_isOpen_29 rfl ?_
  exact g_bret 30 F R dX6_isOpen_30 (Nat.zero_le _) (Nat.zero_le _) (⟨congrArg (fun z => some (Value.int z)) (rfl), rfl⟩)

set_option maxHeartbeats 4000000 in
theorem m_X6_isWallBy (l : Launch) (X : gk_X) (mo kg hg ca ba al : Nat) (th : Nat) (mi dn dr mt dp rf : Int32) (kr hs : Nat → Nat) (kd : Nat → Nat) (hr : Nat → Int32) (c w : Nat) (hkd : ∀ k, k < 60 → kd k < 3) (hc : c < 36) (hw : w < 2) : CtP l X yX6_isWallBy cX6_isWallBy 3 (some .boolean) 2 0 0 [.ref mo, .int (nI (c)), .int (nI (w))] [[(mo, ob 7 [.int (nI (th)), .int (mi), .int (dn), .int (dr), .int (mt), .int (dp), .int (rf), .ref kg, .ref hg, .ref ca, .ref ba, .ref al])], [(kg, oA X 5 36 (fun j => some (kr j)))], poolW 36 (fun j => [(kr j, iA X 2 (fun z => nI (mpN kd j z)))]), [(hg, oA X 5 36 (fun j => some (hs j)))], poolW 36 (fun j => [(hs j, iA X 2 (fun z => hgI hr j z))])] (some (.int (bI (shB (mpN kd c w) (hgI hr c w) mi)))) := by
  unfold CtP
  refine Ct.of (by decide) (Nat.le_of_ble_eq_true rfl) "BumpwardModel" "isWallBy" rfl rfl (fun K F eL R => ?_)
  subst eL
  show G K X 3 0 0 [[(mo, ob 7 [.int (nI (th)), .int (mi), .int (dn), .int (dr), .int (mt), .int (dp), .int (rf), .ref kg, .ref hg, .ref ca, .ref ba, .ref al])], [(kg, oA X 5 36 (fun j => some (kr j)))], poolW 36 (fun j => [(kr j, iA X 2 (fun z => nI (mpN kd j z)))]), [(hg, oA X 5 36 (fun j => some (hs j)))], poolW 36 (fun j => [(hs j, iA X 2 (fun z => hgI hr j z))])] [(0, .ref mo), (1, .int (nI (c))), (2, .int (nI (w)))] 0 []
  have hm := mpN_lt hkd hc hw
  refine g_aload_n 0 1 F dX6_isWallBy_0 rfl rfl 0 rfl ?_
  refine g_get 1 4 F (ci := 7) in_X6 rfl 7 (by decide) q1376 (fun _ h => h) dX6_isWallBy_1 rfl 0 rfl (v := .ref kg) rfl ?_
  refine g_iload_n 4 5 F dX6_isWallBy_4 rfl rfl 1 rfl ?_
  refine g_rald 5 6 F dX6_isWallBy_5 rfl 1 (i := c) rfl (Nat.le_of_ble_eq_true rfl) (by omega) (w := kr c) (rfl) ?_
  refine g_iload_n 6 7 F dX6_isWallBy_6 rfl rfl 2 rfl ?_
  refine g_ialdM 7 8 F dX6_isWallBy_7 rfl (i := w) (fl_mem (bi := 2) rfl (mem_pool (c := c) (by omega) (List.mem_singleton.mpr rfl))) (Nat.le_of_ble_eq_true rfl) (by omega) ?_
  refine g_top (v := nI (mpN kd c w)) rfl ?_
  refine g_iconst 8 9 F (nI (1)) dX6_isWallBy_8 rfl (by decide) ?_
  refine g_icmpN_eq 9 12 33 F dX6_isWallBy_9 rfl (by decide) (by omega) (by omega) (fun c_1 => ?_) (fun c_1 => ?_)
  · refine g_iconst 33 34 F (nI (1)) dX6_isWallBy_33 rfl (by decide) ?_
    refine g_goto 34 38 F dX6_isWallBy_34 (by decide) ?_
    exact g_zret 38 F R dX6_isWallBy_38 (Nat.zero_le _) (Nat.zero_le _) (by decide) (⟨congrArg (fun z => some (Value.int z)) (by simp [shB, bI_t, bI_f, nI_0, *]; try rfl), rfl⟩)
  · refine g_aload_n 12 13 F dX6_isWallBy_12 rfl rfl 0 rfl ?_
    refine g_get 13 16 F (ci := 7) in_X6 rfl 7 (by decide) q1376 (fun _ h => h) dX6_isWallBy_13 rfl 0 rfl (v := .ref kg) rfl ?_
    refine g_iload_n 16 17 F dX6_isWallBy_16 rfl rfl 1 rfl ?_
    refine g_rald 17 18 F dX6_isWallBy_17 rfl 1 (i := c) rfl (Nat.le_of_ble_eq_true rfl) (by omega) (w := kr c) (rfl) ?_
    refine g_iload_n 18 19 F dX6_isWallBy_18 rfl rfl 2 rfl ?_
    refine g_ialdM 19 20 F dX6_isWallBy_19 rfl (i := w) (fl_mem (bi := 2) rfl (mem_pool (c := c) (by omega) (List.mem_singleton.mpr rfl))) (Nat.le_of_ble_eq_true rfl) (by omega) ?_
    refine g_top (v := nI (mpN kd c w)) rfl ?_
    refine g_iconst 20 21 F (nI (2)) dX6_isWallBy_20 rfl (by decide) ?_
    refine g_icmpN_ne 21 24 37 F dX6_isWallBy_21 rfl (by decide) (by omega) (by omega) (fun c_2 => ?_) (fun c_2 => ?_)
    · refine g_iconst 37 38 F (nI (0)) dX6_isWallBy_37 rfl (by decide) ?_
      exact g_zret 38 F R dX6_isWallBy_38 (Nat.zero_le _) (Nat.zero_le _) (by decide) (⟨congrArg (fun z => some (Value.int z)) (by simp [shB, bI_t, bI_f, nI_0, *]; try rfl), rfl⟩)
    · refine g_aload_n 24 25 F dX6_isWallBy_24 rfl rfl 0 rfl ?_
      refine g_iload_n 25 26 F dX6_isWallBy_25 rfl rfl 1 rfl ?_
      refine g_iload_n 26 27 F dX6_isWallBy_26 rfl rfl 2 rfl ?_
      refine g_callP 3 30 F (CallOk.V (C := "BumpwardModel") (b := mo) (As := [.int (nI (c)), .int (nI (w))]) (rest := []) F 2 q1558 q1560 qs35 q58 q1561 cdV_X6_isOpen rfl rfl (Nat.le_of_ble_eq_true rfl) (Nat.le_of_ble_eq_true rfl) dX6_isWallBy_27) (m_X6_isOpen (kL K) X mo kg hg ca ba al th mi dn dr mt dp rf hs hr c w (by omega) (by omega)) rfl (Mr := [[(kg, oA X 5 36 (fun j => some (kr j)))], poolW 36 (fun j => [(kr j, iA X 2 (fun z => nI (mpN kd j z)))])]) [0, 3, 4] [1, 2] rfl 5 rfl (by decide +kernel) rfl rfl (rc_of F 0 7 rfl rfl) (Nat.le_of_ble_eq_true rfl) (c2 := 0) (s2 := 0) (Nat.zero_le _) (Nat.zero_le _) rfl rfl (st1 := [.int (bI (opB (hgI hr c w) mi))]) rfl ?_
      refine g_diaB_ne 30 37 38 F dX6_isWallBy_30 (by decide) dX6_isWallBy_33 dX6_isWallBy_34 (by decide) dX6_isWallBy_37 rfl ?_
      exact g_bret 38 F R dX6_isWallBy_38 (Nat.zero_le _) (Nat.zero_le _) (⟨congrArg (fun z => some (Value.int z)) (by simp [shB, bI_t, bI_f, nI_0, *]; try rfl), rfl⟩)

set_option maxHeartbeats 4000000 in
theorem m_X6_isWallNow (l : Launch) (X : gk_X) (mo kg hg ca ba al : Nat) (th : Nat) (mi dn dr mt dp rf : Int32) (kr hs : Nat → Nat) (kd : Nat → Nat) (hr : Nat → Int32) (c s : Nat) (hkd : ∀ k, k < 60 → kd k < 3) (hc : c < 36) (hsd : s < 4) : CtP l X yX6_isWallNow cX6_isWallNow 3 (some .boolean) 4 0 0 [.ref mo, .int (nI (c)), .int (nI (s))] [[(mo, ob 7 [.int (nI (th)), .int (mi), .int (dn), .int (dr), .int (mt), .int (dp), .int (rf), .ref kg, .ref hg, .ref ca, .ref ba, .ref al])], [(kg, oA X 5 36 (fun j => some (kr j)))], poolW 36 (fun j => [(kr j, iA X 2 (fun z => nI (mpN kd j z)))]), [(hg, oA X 5 36 (fun j => some (hs j)))], poolW 36 (fun j => [(hs j, iA X 2 (fun z => hgI hr j z))])] (some (.int (bI (swB kd hr mi c s)))) := by
  unfold CtP
  refine Ct.of (by decide) (Nat.le_of_ble_eq_true rfl) "BumpwardModel" "isWallNow" rfl rfl (fun K F eL R => ?_)
  subst eL
  show G K X 3 0 0 [[(mo, ob 7 [.int (nI (th)), .int (mi), .int (dn), .int (dr), .int (mt), .int (dp), .int (rf), .ref kg, .ref hg, .ref ca, .ref ba, .ref al])], [(kg, oA X 5 36 (fun j => some (kr j)))], poolW 36 (fun j => [(kr j, iA X 2 (fun z => nI (mpN kd j z)))]), [(hg, oA X 5 36 (fun j => some (hs j)))], poolW 36 (fun j => [(hs j, iA X 2 (fun z => hgI hr j z))])] [(0, .ref mo), (1, .int (nI (c))), (2, .int (nI (s)))] 0 []
  refine g_iload_n 0 1 F dX6_isWallNow_0 rfl rfl 1 rfl ?_
  refine g_iload_n 1 2 F dX6_isWallNow_1 rfl rfl 2 rfl ?_
  refine g_callP 3 5 F (CallOk.S (As := [.int (nI (c)), .int (nI (s))]) (rest := []) F 2 q1431 q1432 q58 q1433 cd_X6_beyond rfl rfl (Nat.le_of_ble_eq_true rfl) (Nat.le_of_ble_eq_true rfl) dX6_isWallNow_2) (m_X6_beyond (kL K) X c s (by omega) (by omega)) rfl (Mr := [[(mo, ob 7 [.int (nI (th)), .int (mi), .int (dn), .int (dr), .int (mt), .int (dp), .int (rf), .ref kg, .ref hg, .ref ca, .ref ba, .ref al])], [(kg, oA X 5 36 (fun j => some (kr j)))], poolW 36 (fun j => [(kr j, iA X 2 (fun z => nI (mpN kd j z)))]), [(hg, oA X 5 36 (fun j => some (hs j)))], poolW 36 (fun j => [(hs j, iA X 2 (fun z => hgI hr j z))])]) [] [0, 1, 2, 3, 4] rfl 5 rfl (by decide +kernel) rfl rfl (rc_T) (Nat.le_of_ble_eq_true rfl) (c2 := 0) (s2 := 0) (Nat.zero_le _) (Nat.zero_le _) rfl rfl (st1 := [.int (bsI c s)]) rfl ?_
  refine g_iconst 5 6 F (-1) dX6_isWallNow_5 rfl (by decide) ?_
  refine g_icmp_eq 6 9 25 F dX6_isWallNow_6 rfl (by decide) (fun c_1 => ?_) (fun c_1 => ?_)
  · refine g_iconst 25 26 F (nI (1)) dX6_isWallNow_25 rfl (by decide) ?_
    refine g_goto 26 30 F dX6_isWallNow_26 (by decide) ?_
    exact g_zret 30 F R dX6_isWallNow_30 (Nat.zero_le _) (Nat.zero_le _) (by decide) (⟨congrArg (fun z => some (Value.int z)) (by first | (rw [swB, decide_eq_true ((bsI_eq hc hsd).mp c_1)]; rfl) | (rw [swB, decide_eq_false hb, mp_kp hc hsd hb, hg_kp hc hsd hb]; rfl)), rfl⟩)
  · have hb := bsI_no hc hsd c_1
    have hkp := kpD_lt hc hsd hb
    have hwy := wyD_lt s
    refine g_aload_n 9 10 F dX6_isWallNow_9 rfl rfl 0 rfl ?_
    refine g_iload_n 10 11 F dX6_isWallNow_10 rfl rfl 1 rfl ?_
    refine g_iload_n 11 12 F dX6_isWallNow_11 rfl rfl 2 rfl ?_
    refine g_callP 3 15 F (CallOk.S (As := [.int (nI (c)), .int (nI (s))]) (rest := [.ref mo]) F 2 q1435 q1436 q58 q1437 cd_X6_keeper rfl rfl (Nat.le_of_ble_eq_true rfl) (Nat.le_of_ble_eq_true rfl) dX6_isWallNow_12) (m_X6_keeper (kL K) X c s (by omega) (by omega) (by omega)) rfl (Mr := [[(mo, ob 7 [.int (nI (th)), .int (mi), .int (dn), .int (dr), .int (mt), .int (dp), .int (rf), .ref kg, .ref hg, .ref ca, .ref ba, .ref al])], [(kg, oA X 5 36 (fun j => some (kr j)))], poolW 36 (fun j => [(kr j, iA X 2 (fun z => nI (mpN kd j z)))]), [(hg, oA X 5 36 (fun j => some (hs j)))], poolW 36 (fun j => [(hs j, iA X 2 (fun z => hgI hr j z))])]) [] [0, 1, 2, 3, 4] rfl 5 rfl (by decide +kernel) rfl rfl (rc_T) (Nat.le_of_ble_eq_true rfl) (c2 := 0) (s2 := 0) (Nat.zero_le _) (Nat.zero_le _) rfl rfl (st1 := [.int (nI (kpD c s)), .ref mo]) rfl ?_
    refine g_iload_n 15 16 F dX6_isWallNow_15 rfl rfl 2 rfl ?_
    refine g_callP 3 19 F (CallOk.S (As := [.int (nI (s))]) (rest := [.int (nI (kpD c s)), .ref mo]) F 1 q1438 q1439 q58 q1440 cd_X6_way rfl rfl (Nat.le_of_ble_eq_true rfl) (Nat.le_of_ble_eq_true rfl) dX6_isWallNow_16) (m_X6_way (kL K) X s (by omega)) rfl (Mr := [[(mo, ob 7 [.int (nI (th)), .int (mi), .int (dn), .int (dr), .int (mt), .int (dp), .int (rf), .ref kg, .ref hg, .ref ca, .ref ba, .ref al])], [(kg, oA X 5 36 (fun j => some (kr j)))], poolW 36 (fun j => [(kr j, iA X 2 (fun z => nI (mpN kd j z)))]), [(hg, oA X 5 36 (fun j => some (hs j)))], poolW 36 (fun j => [(hs j, iA X 2 (fun z => hgI hr j z))])]) [] [0, 1, 2, 3, 4] rfl 5 rfl (by decide +kernel) rfl rfl (rc_T) (Nat.le_of_ble_eq_true rfl) (c2 := 0) (s2 := 0) (Nat.zero_le _) (Nat.zero_le _) rfl rfl (st1 := [.int (nI (wyD s)), .int (nI (kpD c s)), .ref mo]) rfl ?_
    refine g_callP 3 22 F (CallOk.V (C := "BumpwardModel") (b := mo) (As := [.int (nI (kpD c s)), .int (nI (wyD s))]) (rest := []) F 2 q1554 q1556 qs34 q58 q1557 cdV_X6_isWallBy rfl rfl (Nat.le_of_ble_eq_true rfl) (Nat.le_of_ble_eq_true rfl) dX6_isWallNow_19) (m_X6_isWallBy (kL K) X mo kg hg ca ba al th mi dn dr mt dp rf kr hs kd hr (kpD c s) (wyD s) (by omega) (by omega) (by omega)) rfl (Mr := []) [0, 1, 2, 3, 4] [] rfl 5 rfl (by decide +kernel) rfl rfl (rc_of F 0 7 rfl rfl) (Nat.le_of_ble_eq_true rfl) (c2 := 0) (s2 := 0) (Nat.zero_le _) (Nat.zero_le _) rfl rfl (st1 := [.int (bI (shB (mpN kd (kpD c s) (wyD s)) (hgI hr (kpD c s) (wyD s)) mi))]) rfl ?_
    refine g_diaB_eq 22 29 30 F dX6_isWallNow_22 (by decide) dX6_isWallNow_25 dX6_isWallNow_26 (by decide) dX6_isWallNow_29 rfl ?_
    exact g_bret 30 F R dX6_isWallNow_30 (Nat.zero_le _) (Nat.zero_le _) (⟨congrArg (fun z => some (Value.int z)) (by first | (rw [swB, decide_eq_true ((bsI_eq hc hsd).mp c_1)]; rfl) | (rw [swB, decide_eq_false hb, mp_kp hc hsd hb, hg_kp hc hsd hb]; rfl)), rfl⟩)

set_option maxHeartbeats 4000000 in
theorem m_X6_kinds (l : Launch) (X : gk_X) (mo kg hg ca ba al : Nat) (th : Nat) (mi dn dr mt dp rf : Int32) (kr : Nat → Nat) (kd : Nat → Nat) (x : Nat) (hkd : ∀ k, k < 60 → kd k < 3) (hx : x < 3) : CtP l X yX6_kinds cX6_kinds 5 (some .int) 4 0 0 [.ref mo, .int (nI (x))] [[(mo, ob 7 [.int (nI (th)), .int (mi), .int (dn), .int (dr), .int (mt), .int (dp), .int (rf), .ref kg, .ref hg, .ref ca, .ref ba, .ref al])], [(kg, oA X 5 36 (fun j => some (kr j)))], poolW 36 (fun j => [(kr j, iA X 2 (fun z => nI (mpN kd j z)))])] (some (.int (nI (cnt (fun k => decide (kd k = x)) 60)))) := by
  unfold CtP
  refine Ct.of (by decide) (Nat.le_of_ble_eq_true rfl) "BumpwardModel" "kinds" rfl rfl (fun K F eL R => ?_)
  subst eL
  show G K X 5 0 0 [[(mo, ob 7 [.int (nI (th)), .int (mi), .int (dn), .int (dr), .int (mt), .int (dp), .int (rf), .ref kg, .ref hg, .ref ca, .ref ba, .ref al])], [(kg, oA X 5 36 (fun j => some (kr j)))], poolW 36 (fun j => [(kr j, iA X 2 (fun z => nI (mpN kd j z)))])] [(0, .ref mo), (1, .int (nI (x)))] 0 []
  refine g_iconst 0 1 F (nI (0)) dX6_kinds_0 rfl (by decide) ?_
  refine g_istore_n 1 2 F [(2, .int (nI (0))), (0, .ref mo), (1, .int (nI (x)))] dX6_kinds_1 rfl rfl (Nat.le_of_ble_eq_true rfl) rfl ?_
  refine g_iconst 2 3 F (nI (0)) dX6_kinds_2 rfl (by decide) ?_
  refine g_istore_n 3 4 F [(3, .int (nI (0))), (2, .int (nI (0))), (0, .ref mo), (1, .int (nI (x)))] dX6_kinds_3 rfl rfl (Nat.le_of_ble_eq_true rfl) rfl ?_
  refine g_ls [(0, .ref mo), (1, .int (nI (x))), (2, .int (nI (cnt2 (fun a z => inB a z && decide (mpN kd a z = x)) 0))), (3, .int (nI (0)))] [2, 3, 1, 0] (rfl) ?_
  refine g_down (P := fun c => G K X 5 0 0 [[(mo, ob 7 [.int (nI (th)), .int (mi), .int (dn), .int (dr), .int (mt), .int (dp), .int (rf), .ref kg, .ref hg, .ref ca, .ref ba, .ref al])], [(kg, oA X 5 36 (fun j => some (kr j)))], poolW 36 (fun j => [(kr j, iA X 2 (fun z => nI (mpN kd j z)))])] [(0, .ref mo), (1, .int (nI (x))), (2, .int (nI (cnt2 (fun a z => inB a z && decide (mpN kd a z = x)) c))), (3, .int (nI (c)))] 4 []) 36 0 (by omega) ?_ (fun c hl_c hi_c ih_c => ?_)
  · show G K X 5 0 0 [[(mo, ob 7 [.int (nI (th)), .int (mi), .int (dn), .int (dr), .int (mt), .int (dp), .int (rf), .ref kg, .ref hg, .ref ca, .ref ba, .ref al])], [(kg, oA X 5 36 (fun j => some (kr j)))], poolW 36 (fun j => [(kr j, iA X 2 (fun z => nI (mpN kd j z)))])] [(0, .ref mo), (1, .int (nI (x))), (2, .int (nI (cnt2 (fun a z => inB a z && decide (mpN kd a z = x)) 36))), (3, .int (nI (36)))] 4 []
    refine g_iload_n 4 5 F dX6_kinds_4 rfl rfl 3 rfl ?_
    refine g_bipush 5 7 F (nI (36)) dX6_kinds_5 rfl (by decide) ?_
    refine g_icmpN_ge 7 10 61 F dX6_kinds_7 rfl (by decide) (by omega) (by omega) (fun c_1 => ?_) (fun c_1 => ?_)
    · refine g_iload_n 61 62 F dX6_kinds_61 rfl rfl 2 rfl ?_
      refine g_top (v := nI (cnt (fun k => decide (kd k = x)) 60)) (congrArg nI (kinds_law x)) ?_
      exact g_iret 62 F R dX6_kinds_62 (Nat.zero_le _) (Nat.zero_le _) (⟨congrArg (fun z => some (Value.int z)) (by simp [*]), rfl⟩)
    · exact absurd c_1 (by omega)
  · show G K X 5 0 0 [[(mo, ob 7 [.int (nI (th)), .int (mi), .int (dn), .int (dr), .int (mt), .int (dp), .int (rf), .ref kg, .ref hg, .ref ca, .ref ba, .ref al])], [(kg, oA X 5 36 (fun j => some (kr j)))], poolW 36 (fun j => [(kr j, iA X 2 (fun z => nI (mpN kd j z)))])] [(0, .ref mo), (1, .int (nI (x))), (2, .int (nI (cnt2 (fun a z => inB a z && decide (mpN kd a z = x)) c))), (3, .int (nI (c)))] 4 []
    refine g_iload_n 4 5 F dX6_kinds_4 rfl rfl 3 rfl ?_
    refine g_bipush 5 7 F (nI (36)) dX6_kinds_5 rfl (by decide) ?_
    refine g_icmpN_ge 7 10 61 F dX6_kinds_7 rfl (by decide) (by omega) (by omega) (fun c_2 => ?_) (fun c_2 => ?_)
    · exact absurd c_2 (by omega)
    · refine g_iconst 10 11 F (nI (0)) dX6_kinds_10 rfl (by decide) ?_
      refine g_istore 11 13 F [(4, .int (nI (0))), (0, .ref mo), (1, .int (nI (x))), (2, .int (nI (cnt2 (fun a z => inB a z && decide (mpN kd a z = x)) c))), (3, .int (nI (c)))] dX6_kinds_11 rfl (Nat.le_of_ble_eq_true rfl) rfl ?_
      refine g_ls [(0, .ref mo), (1, .int (nI (x))), (2, .int (nI (cnt2 (fun a z => inB a z && decide (mpN kd a z = x)) c + (cnt (fun z => inB c z && decide (mpN kd c z = x)) 0)))), (3, .int (nI (c))), (4, .int (nI (0)))] [1, 2, 3, 4, 0] (rfl) ?_
      refine g_down (P := fun w => G K X 5 0 0 [[(mo, ob 7 [.int (nI (th)), .int (mi), .int (dn), .int (dr), .int (mt), .int (dp), .int (rf), .ref kg, .ref hg, .ref ca, .ref ba, .ref al])], [(kg, oA X 5 36 (fun j => some (kr j)))], poolW 36 (fun j => [(kr j, iA X 2 (fun z => nI (mpN kd j z)))])] [(0, .ref mo), (1, .int (nI (x))), (2, .int (nI (cnt2 (fun a z => inB a z && decide (mpN kd a z = x)) c + (cnt (fun z => inB c z && decide (mpN kd c z = x)) w)))), (3, .int (nI (c))), (4, .int (nI (w)))] 13 []) 2 0 (by omega) ?_ (fun w hl_w hi_w ih_w => ?_)
      · show G K X 5 0 0 [[(mo, ob 7 [.int (nI (th)), .int (mi), .int (dn), .int (dr), .int (mt), .int (dp), .int (rf), .ref kg, .ref hg, .ref ca, .ref ba, .ref al])], [(kg, oA X 5 36 (fun j => some (kr j)))], poolW 36 (fun j => [(kr j, iA X 2 (fun z => nI (mpN kd j z)))])] [(0, .ref mo), (1, .int (nI (x))), (2, .int (nI (cnt2 (fun a z => inB a z && decide (mpN kd a z = x)) c + (cnt (fun z => inB c z && decide (mpN kd c z = x)) 2)))), (3, .int (nI (c))), (4, .int (nI (2)))] 13 []
        refine g_iload 13 15 F dX6_kinds_13 rfl 4 rfl ?_
        refine g_iconst 15 16 F (nI (2)) dX6_kinds_15 rfl (by decide) ?_
        refine g_icmpN_ge 16 19 55 F dX6_kinds_16 rfl (by decide) (by omega) (by omega) (fun c_3 => ?_) (fun c_3 => ?_)
        · refine g_iinc 55 58 F (v := nI (c + 1)) [(3, .int (nI (c + 1))), (0, .ref mo), (1, .int (nI (x))), (2, .int (nI (cnt2 (fun a z => inB a z && decide (mpN kd a z = x)) c + (cnt (fun z => inB c z && decide (mpN kd c z = x)) 2)))), (4, .int (nI (2)))] dX6_kinds_55 rfl 3 rfl (nI_add _ _) (Nat.le_of_ble_eq_true rfl) rfl ?_
          refine g_goto 58 4 F dX6_kinds_58 (by decide) ?_
          refine g_ls [(0, .ref mo), (1, .int (nI (x))), (2, .int (nI (cnt2 (fun a z => inB a z && decide (mpN kd a z = x)) (c + 1)))), (3, .int (nI (c + 1)))] [1, 2, 3, 0] (rfl) ?_
          exact ih_c
        · exact absurd c_3 (by omega)
      · show G K X 5 0 0 [[(mo, ob 7 [.int (nI (th)), .int (mi), .int (dn), .int (dr), .int (mt), .int (dp), .int (rf), .ref kg, .ref hg, .ref ca, .ref ba, .ref al])], [(kg, oA X 5 36 (fun j => some (kr j)))], poolW 36 (fun j => [(kr j, iA X 2 (fun z => nI (mpN kd j z)))])] [(0, .ref mo), (1, .int (nI (x))), (2, .int (nI (cnt2 (fun a z => inB a z && decide (mpN kd a z = x)) c + (cnt (fun z => inB c z && decide (mpN kd c z = x)) w)))), (3, .int (nI (c))), (4, .int (nI (w)))] 13 []
        have hm := mpN_lt hkd hi_c hi_w
        refine g_iload 13 15 F dX6_kinds_13 rfl 4 rfl ?_
        refine g_iconst 15 16 F (nI (2)) dX6_kinds_15 rfl (by decide) ?_
        refine g_icmpN_ge 16 19 55 F dX6_kinds_16 rfl (by decide) (by omega) (by omega) (fun c_4 => ?_) (fun c_4 => ?_)
        · exact absurd c_4 (by omega)
        · refine g_iload_n 19 20 F dX6_kinds_19 rfl rfl 2 rfl ?_
          have J_5 : G K X 5 0 0 [[(mo, ob 7 [.int (nI (th)), .int (mi), .int (dn), .int (dr), .int (mt), .int (dp), .int (rf), .ref kg, .ref hg, .ref ca, .ref ba, .ref al])], [(kg, oA X 5 36 (fun j => some (kr j)))], poolW 36 (fun j => [(kr j, iA X 2 (fun z => nI (mpN kd j z)))])] [(0, .ref mo), (1, .int (nI (x))), (2, .int (nI (cnt2 (fun a z => inB a z && decide (mpN kd a z = x)) c + (cnt (fun z => inB c z && decide (mpN kd c z = x)) w)))), (3, .int (nI (c))), (4, .int (nI (w)))] 47 [.int (bI (inB c w && decide (mpN kd c w = x))), .int (nI (cnt2 (fun a z => inB a z && decide (mpN kd a z = x)) c + (cnt (fun z => inB c z && decide (mpN kd c z = x)) w)))] := by
            refine g_iadd 47 48 F (v := nI (cnt2 (fun a z => inB a z && decide (mpN kd a z = x)) c + (cnt (fun z => inB c z && decide (mpN kd c z = x)) w) + (bN (inB c w && decide (mpN kd c w = x))))) dX6_kinds_47 rfl (nI_addB _ _) ?_
            refine g_istore_n 48 49 F [(2, .int (nI (cnt2 (fun a z => inB a z && decide (mpN kd a z = x)) c + (cnt (fun z => inB c z && decide (mpN kd c z = x)) w) + (bN (inB c w && decide (mpN kd c w = x)))))), (0, .ref mo), (1, .int (nI (x))), (3, .int (nI (c))), (4, .int (nI (w)))] dX6_kinds_48 rfl rfl (Nat.le_of_ble_eq_true rfl) rfl ?_
            refine g_iinc 49 52 F (v := nI (w + 1)) [(4, .int (nI (w + 1))), (2, .int (nI (cnt2 (fun a z => inB a z && decide (mpN kd a z = x)) c + (cnt (fun z => inB c z && decide (mpN kd c z = x)) w) + (bN (inB c w && decide (mpN kd c w = x)))))), (0, .ref mo), (1, .int (nI (x))), (3, .int (nI (c)))] dX6_kinds_49 rfl 4 rfl (nI_add _ _) (Nat.le_of_ble_eq_true rfl) rfl ?_
            refine g_goto 52 13 F dX6_kinds_52 (by decide) ?_
            refine g_ls [(0, .ref mo), (1, .int (nI (x))), (2, .int (nI (cnt2 (fun a z => inB a z && decide (mpN kd a z = x)) c + (cnt (fun z => inB c z && decide (mpN kd c z = x)) (w + 1))))), (3, .int (nI (c))), (4, .int (nI (w + 1)))] [2, 3, 1, 4, 0] (by rw [show ∀ (q : Nat → Bool), cnt q (w + 1) = cnt q w + bN (q w) from fun _ => rfl, ← Nat.add_assoc]; rfl) ?_
            exact ih_w
          refine g_iload_n 20 21 F dX6_kinds_20 rfl rfl 3 rfl ?_
          refine g_iload 21 23 F dX6_kinds_21 rfl 4 rfl ?_
          refine g_callP 3 26 F (CallOk.S (As := [.int (nI (c)), .int (nI (w))]) (rest := [.int (nI (cnt2 (fun a z => inB a z && decide (mpN kd a z = x)) c + (cnt (fun z => inB c z && decide (mpN kd c z = x)) w)))]) F 2 q1445 q1446 q58 q1447 cd_X6_isWithin rfl rfl (Nat.le_of_ble_eq_true rfl) (Nat.le_of_ble_eq_true rfl) dX6_kinds_23) (m_X6_isWithin (kL K) X c w (by omega) (by omega)) rfl (Mr := [[(mo, ob 7 [.int (nI (th)), .int (mi), .int (dn), .int (dr), .int (mt), .int (dp), .int (rf), .ref kg, .ref hg, .ref ca, .ref ba, .ref al])], [(kg, oA X 5 36 (fun j => some (kr j)))], poolW 36 (fun j => [(kr j, iA X 2 (fun z => nI (mpN kd j z)))])]) [] [0, 1, 2] rfl 3 rfl (by decide +kernel) rfl rfl (rc_T) (Nat.le_of_ble_eq_true rfl) (c2 := 0) (s2 := 0) (Nat.zero_le _) (Nat.zero_le _) rfl rfl (st1 := [.int (bI (inB c w)), .int (nI (cnt2 (fun a z => inB a z && decide (mpN kd a z = x)) c + (cnt (fun z => inB c z && decide (mpN kd c z = x)) w)))]) rfl ?_
          refine g_ifB_eq 26 29 46 F dX6_kinds_26 rfl (by decide) (fun c_6 => ?_) (fun c_6 => ?_)
          · refine g_iconst 46 47 F (nI (0)) dX6_kinds_46 rfl (by decide) ?_
            refine g_top (v := bI (inB c w && decide (mpN kd c w = x))) (by simp [*, nI_0, bI_f, bI_t]) ?_
            exact J_5
          · refine g_aload_n 29 30 F dX6_kinds_29 rfl rfl 0 rfl ?_
            refine g_get 30 33 F (ci := 7) in_X6 rfl 7 (by decide) q1376 (fun _ h => h) dX6_kinds_30 rfl 0 rfl (v := .ref kg) rfl ?_
            refine g_iload_n 33 34 F dX6_kinds_33 rfl rfl 3 rfl ?_
            refine g_rald 34 35 F dX6_kinds_34 rfl 1 (i := c) rfl (Nat.le_of_ble_eq_true rfl) (by omega) (w := kr c) (rfl) ?_
            refine g_iload 35 37 F dX6_kinds_35 rfl 4 rfl ?_
            refine g_ialdM 37 38 F dX6_kinds_37 rfl (i := w) (fl_mem (bi := 2) rfl (mem_pool (c := c) (by omega) (List.mem_singleton.mpr rfl))) (Nat.le_of_ble_eq_true rfl) (by omega) ?_
            refine g_top (v := nI (mpN kd c w)) rfl ?_
            refine g_iload_n 38 39 F dX6_kinds_38 rfl rfl 1 rfl ?_
            refine g_diaN_ne 39 46 47 F dX6_kinds_39 (by decide) dX6_kinds_42 dX6_kinds_43 (by decide) dX6_kinds_46 rfl (by omega) (by omega) ?_
            refine g_top (v := bI (inB c w && decide (mpN kd c w = x))) (by simp [*, nI_0, bI_f, bI_t]) ?_
            exact J_5
