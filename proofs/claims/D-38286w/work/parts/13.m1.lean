/-! Bumpward: the static leaves -/
theorem cd_X1_beside : yX1_beside.cls ≠ "java/lang/invoke/MethodHandle" ∧ yX1_beside.cls ≠ "java/lang/invoke/VarHandle" ∧ (parseMethodDescriptor yX1_beside.desc).map (fun d => d.parameters.length) = some 2 := by decide +kernel
theorem cd_X1_isIn : yX1_isIn.cls ≠ "java/lang/invoke/MethodHandle" ∧ yX1_isIn.cls ≠ "java/lang/invoke/VarHandle" ∧ (parseMethodDescriptor yX1_isIn.desc).map (fun d => d.parameters.length) = some 3 := by decide +kernel
theorem cd_X1_one : yX1_one.cls ≠ "java/lang/invoke/MethodHandle" ∧ yX1_one.cls ≠ "java/lang/invoke/VarHandle" ∧ (parseMethodDescriptor yX1_one.desc).map (fun d => d.parameters.length) = some 1 := by decide +kernel
set_option maxHeartbeats 4000000 in
theorem m_X1_one (l : Launch) (X : gk_X) (b : Bool)  : CtP l X yX1_one cX1_one 1 (some .int) 1 0 0 [.int (bI (b))] [] (some (.int (bI (b)))) := by
  unfold CtP
  refine Ct.of (by decide) (Nat.le_of_ble_eq_true rfl) "Bumpward" "one" rfl rfl (fun K F eL R => ?_)
  subst eL
  show G K X 1 0 0 [] [(0, .int (bI (b)))] 0 []
  refine g_iload_n 0 1 F dX1_one_0 rfl rfl 0 rfl ?_
  refine g_diaB_eq 1 8 9 F dX1_one_1 (by decide) dX1_one_4 dX1_one_5 (by decide) dX1_one_8 rfl ?_
  exact g_iret 9 F R dX1_one_9 (Nat.zero_le _) (Nat.zero_le _) (⟨rfl, rfl⟩)

set_option maxHeartbeats 4000000 in
theorem m_X1_isIn (l : Launch) (X : gk_X) (v a b : Int32)  : CtP l X yX1_isIn cX1_isIn 3 (some .boolean) 1 0 0 [.int (v), .int (a), .int (b)] [] (some (.int (bI (decide (a ≤ v) && decide (v ≤ b))))) := by
  unfold CtP
  refine Ct.of (by decide) (Nat.le_of_ble_eq_true rfl) "Bumpward" "isIn" rfl rfl (fun K F eL R => ?_)
  subst eL
  show G K X 3 0 0 [] [(0, .int (v)), (1, .int (a)), (2, .int (b))] 0 []
  refine g_iload_n 0 1 F dX1_isIn_0 rfl rfl 0 rfl ?_
  refine g_iload_n 1 2 F dX1_isIn_1 rfl rfl 1 rfl ?_
  refine g_icmp_lt 2 5 14 F dX1_isIn_2 rfl (by decide) (fun c_1 => ?_) (fun c_1 => ?_)
  · refine g_iconst 14 15 F (nI (0)) dX1_isIn_14 rfl (by decide) ?_
    exact g_zret 15 F R dX1_isIn_15 (Nat.zero_le _) (Nat.zero_le _) (by decide) (⟨congrArg (fun z => some (Value.int z)) (by first | (rw [decide_eq_false (Int32.not_le.mpr c_1)]; rfl) | (rw [decide_eq_true (Int32.not_lt.mp c_1)]; rfl)), rfl⟩)
  · refine g_iload_n 5 6 F dX1_isIn_5 rfl rfl 0 rfl ?_
    refine g_iload_n 6 7 F dX1_isIn_6 rfl rfl 2 rfl ?_
    refine g_dia_gt 7 14 15 F dX1_isIn_7 (by decide) dX1_isIn_10 dX1_isIn_11 (by decide) dX1_isIn_14 rfl ?_
    exact g_bret 15 F R dX1_isIn_15 (Nat.zero_le _) (Nat.zero_le _) (⟨congrArg (fun z => some (Value.int z)) (by first | (rw [decide_eq_false (Int32.not_le.mpr c_1)]; rfl) | (rw [decide_eq_true (Int32.not_lt.mp c_1)]; rfl)), rfl⟩)

set_option maxHeartbeats 4000000 in
theorem m_X1_beside (l : Launch) (X : gk_X) (c s : Nat) (hc : c < 36) (hs : s < 4) : CtP l X yX1_beside cX1_beside 4 (some .int) 2 0 0 [.int (nI (c)), .int (nI (s))] [] (some (.int (bsI c s))) := by
  unfold CtP
  refine Ct.of (by decide) (Nat.le_of_ble_eq_true rfl) "Bumpward" "beside" rfl rfl (fun K F eL R => ?_)
  subst eL
  show G K X 4 0 0 [] [(0, .int (nI (c))), (1, .int (nI (s)))] 0 []
  refine g_iload_n 0 1 F dX1_beside_0 rfl rfl 0 rfl ?_
  refine g_bipush 1 3 F (nI (6)) dX1_beside_1 rfl (by decide) ?_
  refine g_idiv 3 4 F (v := nI (c / 6)) dX1_beside_3 rfl (by decide) (pk_div (by omega) (by omega) (by omega)) ?_
  refine g_iload_n 4 5 F dX1_beside_4 rfl rfl 1 rfl ?_
  refine g_iconst 5 6 F (nI (2)) dX1_beside_5 rfl (by decide) ?_
  refine g_diaN_ne 6 13 14 F dX1_beside_6 (by decide) dX1_beside_9 dX1_beside_10 (by decide) dX1_beside_13 rfl (by omega) (by omega) ?_
  refine g_callP 3 17 F (CallOk.S (As := [.int (bI (decide (s = 2)))]) (rest := [.int (nI (c / 6))]) F 1 q291 q292 q49 q293 cd_X1_one rfl rfl (Nat.le_of_ble_eq_true rfl) (Nat.le_of_ble_eq_true rfl) dX1_beside_14) (m_X1_one (kL K) X (decide (s = 2)) ) rfl (Mr := []) [] [] rfl 0 rfl (by decide +kernel) rfl rfl (rc_T) (Nat.le_of_ble_eq_true rfl) (c2 := 0) (s2 := 0) (Nat.zero_le _) (Nat.zero_le _) rfl rfl (st1 := [.int (bI (decide (s = 2))), .int (nI (c / 6))]) rfl ?_
  refine g_iadd 17 18 F (v := nI (c / 6 + (bN (decide (s = 2))))) dX1_beside_17 rfl (nI_addB _ _) ?_
  refine g_iload_n 18 19 F dX1_beside_18 rfl rfl 1 rfl ?_
  refine g_diaZN_ne 19 26 27 F dX1_beside_19 (by decide) dX1_beside_22 dX1_beside_23 (by decide) dX1_beside_26 rfl (by omega) ?_
  refine g_callP 3 30 F (CallOk.S (As := [.int (bI (decide (s = 0)))]) (rest := [.int (nI (c / 6 + (bN (decide (s = 2)))))]) F 1 q291 q292 q49 q293 cd_X1_one rfl rfl (Nat.le_of_ble_eq_true rfl) (Nat.le_of_ble_eq_true rfl) dX1_beside_27) (m_X1_one (kL K) X (decide (s = 0)) ) rfl (Mr := []) [] [] rfl 0 rfl (by decide +kernel) rfl rfl (rc_T) (Nat.le_of_ble_eq_true rfl) (c2 := 0) (s2 := 0) (Nat.zero_le _) (Nat.zero_le _) rfl rfl (st1 := [.int (bI (decide (s = 0))), .int (nI (c / 6 + (bN (decide (s = 2)))))]) rfl ?_
  refine g_isub 30 31 F (v := (nI (c / 6 + (bN (decide (s = 2))))) - (bI (decide (s = 0)))) dX1_beside_30 rfl (rfl) ?_
  refine g_istore_n 31 32 F [(2, .int ((nI (c / 6 + (bN (decide (s = 2))))) - (bI (decide (s = 0))))), (0, .int (nI (c))), (1, .int (nI (s)))] dX1_beside_31 rfl rfl (Nat.le_of_ble_eq_true rfl) rfl ?_
  refine g_iload_n 32 33 F dX1_beside_32 rfl rfl 1 rfl ?_
  refine g_bipush 33 35 F (nI (6)) dX1_beside_33 rfl (by decide) ?_
  refine g_irem 35 36 F (v := nI (c % 6)) dX1_beside_35 rfl (by decide) (pk_rem (by omega) (by omega) (by omega)) ?_
  refine g_iload_n 36 37 F dX1_beside_36 rfl rfl 2 rfl ?_
  refine g_iconst 37 38 F (nI (1)) dX1_beside_37 rfl (by decide) ?_
  refine g_diaN_ne 38 45 46 F dX1_beside_38 (by decide) dX1_beside_41 dX1_beside_42 (by decide) dX1_beside_45 rfl (by omega) (by omega) ?_
  refine g_callP 3 49 F (CallOk.S (As := [.int (bI (decide (s = 1)))]) (rest := [.int (nI (c % 6))]) F 1 q291 q292 q49 q293 cd_X1_one rfl rfl (Nat.le_of_ble_eq_true rfl) (Nat.le_of_ble_eq_true rfl) dX1_beside_46) (m_X1_one (kL K) X (decide (s = 1)) ) rfl (Mr := []) [] [] rfl 0 rfl (by decide +kernel) rfl rfl (rc_T) (Nat.le_of_ble_eq_true rfl) (c2 := 0) (s2 := 0) (Nat.zero_le _) (Nat.zero_le _) rfl rfl (st1 := [.int (bI (decide (s = 1))), .int (nI (c % 6))]) rfl ?_
  refine g_iadd 49 50 F (v := nI (c % 6 + (bN (decide (s = 1))))) dX1_beside_49 rfl (nI_addB _ _) ?_
  refine g_iload_n 50 51 F dX1_beside_50 rfl rfl 2 rfl ?_
  refine g_iconst 51 52 F (nI (3)) dX1_beside_51 rfl (by decide) ?_
  refine g_diaN_ne 52 59 60 F dX1_beside_52 (by decide) dX1_beside_55 dX1_beside_56 (by decide) dX1_beside_59 rfl (by omega) (by omega) ?_
  refine g_callP 3 63 F (CallOk.S (As := [.int (bI (decide (s = 3)))]) (rest := [.int (nI (c % 6 + (bN (decide (s = 1)))))]) F 1 q291 q292 q49 q293 cd_X1_one rfl rfl (Nat.le_of_ble_eq_true rfl) (Nat.le_of_ble_eq_true rfl) dX1_beside_60) (m_X1_one (kL K) X (decide (s = 3)) ) rfl (Mr := []) [] [] rfl 0 rfl (by decide +kernel) rfl rfl (rc_T) (Nat.le_of_ble_eq_true rfl) (c2 := 0) (s2 := 0) (Nat.zero_le _) (Nat.zero_le _) rfl rfl (st1 := [.int (bI (decide (s = 3))), .int (nI (c % 6 + (bN (decide (s = 1)))))]) rfl ?_
  refine g_isub 63 64 F (v := (nI (c % 6 + (bN (decide (s = 1))))) - (bI (decide (s = 3)))) dX1_beside_63 rfl (rfl) ?_
  refine g_istore_n 64 65 F [(3, .int ((nI (c % 6 + (bN (decide (s = 1))))) - (bI (decide (s = 3))))), (2, .int ((nI (c / 6 + (bN (decide (s = 2))))) - (bI (decide (s = 0))))), (0, .int (nI (c))), (1, .int (nI (s)))] dX1_beside_64 rfl rfl (Nat.le_of_ble_eq_true rfl) rfl ?_
  refine g_iload_n 65 66 F dX1_beside_65 rfl rfl 1 rfl ?_
  refine g_iconst 66 67 F (nI (0)) dX1_beside_66 rfl (by decide) ?_
  refine g_iconst 67 68 F (nI (5)) dX1_beside_67 rfl (by decide) ?_
  refine g_callP 3 71 F (CallOk.S (As := [.int ((nI (c / 6 + (bN (decide (s = 2))))) - (bI (decide (s = 0)))), .int (nI (0)), .int (nI (5))]) (rest := []) F 3 q304 q305 q49 q306 cd_X1_isIn rfl rfl (Nat.le_of_ble_eq_true rfl) (Nat.le_of_ble_eq_true rfl) dX1_beside_68) (m_X1_isIn (kL K) X ((nI (c / 6 + (bN (decide (s = 2))))) - (bI (decide (s = 0)))) (nI (0)) (nI (5)) ) rfl (Mr := []) [] [] rfl 0 rfl (by decide +kernel) rfl rfl (rc_T) (Nat.le_of_ble_eq_true rfl) (c2 := 0) (s2 := 0) (Nat.zero_le _) (Nat.zero_le _) rfl rfl (st1 := [.int (bI (decide ((nI (0)) ≤ ((nI (c / 6 + (bN (decide (s = 2))))) - (bI (decide (s = 0))))) && decide (((nI (c / 6 + (bN (decide (s = 2))))) - (bI (decide (s = 0)))) ≤ (nI (5)))))]) rfl ?_
  refine g_ifB_eq 71 74 92 F dX1_beside_71 rfl (by decide) (fun c_1 => ?_) (fun c_1 => ?_)
  · refine g_iconst 92 93 F (-1) dX1_beside_92 rfl (by decide) ?_
    exact g_iret 93 F R dX1_beside_93 (Nat.zero_le _) (Nat.zero_le _) (⟨congrArg (fun z => some (Value.int z)) (by clear R; revert s; revert c; decide +kernel), rfl⟩)
  · refine g_iload_n 74 75 F dX1_beside_74 rfl rfl 0 rfl ?_
    refine g_iconst 75 76 F (nI (0)) dX1_beside_75 rfl (by decide) ?_
    refine g_iconst 76 77 F (nI (5)) dX1_beside_76 rfl (by decide) ?_
    refine g_callP 3 80 F (CallOk.S (As := [.int ((nI (c % 6 + (bN (decide (s = 1))))) - (bI (decide (s = 3)))), .int (nI (0)), .int (nI (5))]) (rest := []) F 3 q304 q305 q49 q306 cd_X1_isIn rfl rfl (Nat.le_of_ble_eq_true rfl) (Nat.le_of_ble_eq_true rfl) dX1_beside_77) (m_X1_isIn (kL K) X ((nI (c % 6 + (bN (decide (s = 1))))) - (bI (decide (s = 3)))) (nI (0)) (nI (5)) ) rfl (Mr := []) [] [] rfl 0 rfl (by decide +kernel) rfl rfl (rc_T) (Nat.le_of_ble_eq_true rfl) (c2 := 0) (s2 := 0) (Nat.zero_le _) (Nat.zero_le _) rfl rfl (st1 := [.int (bI (decide ((nI (0)) ≤ ((nI (c % 6 + (bN (decide (s = 1))))) - (bI (decide (s = 3))))) && decide (((nI (c % 6 + (bN (decide (s = 1))))) - (bI (decide (s = 3)))) ≤ (nI (5)))))]) rfl ?_
    refine g_ifB_eq 80 83 92 F dX1_beside_80 rfl (by decide) (fun c_2 => ?_) (fun c_2 => ?_)
    · refine g_iconst 92 93 F (-1) dX1_beside_92 rfl (by decide) ?_
      exact g_iret 93 F R dX1_beside_93 (Nat.zero_le _) (Nat.zero_le _) (⟨congrArg (fun z => some (Value.int z)) (by clear R; revert s; revert c; decide +kernel), rfl⟩)
    · refine g_iload_n 83 84 F dX1_beside_83 rfl rfl 1 rfl ?_
      refine g_bipush 84 86 F (nI (6)) dX1_beside_84 rfl (by decide) ?_
      refine g_imul 86 87 F (v := ((nI (c / 6 + (bN (decide (s = 2))))) - (bI (decide (s = 0)))) * (nI (6))) dX1_beside_86 rfl (rfl) ?_
      refine g_iload_n 87 88 F dX1_beside_87 rfl rfl 0 rfl ?_
      refine g_iadd 88 89 F (v := (((nI (c / 6 + (bN (decide (s = 2))))) - (bI (decide (s = 0)))) * (nI (6))) + ((nI (c % 6 + (bN (decide (s = 1))))) - (bI (decide (s = 3))))) dX1_beside_88 rfl (rfl) ?_
      refine g_goto 89 93 F dX1_beside_89 (by decide) ?_
      exact g_iret 93 F R dX1_beside_93 (Nat.zero_le _) (Nat.zero_le _) (⟨congrArg (fun z => some (Value.int z)) (by clear R; revert s; revert c; decide +kernel), rfl⟩)

set_option maxHeartbeats 4000000 in
theorem m_X1_edgeAt (l : Launch) (X : gk_X) (c s : Nat) (hc : c < 36) (hs : s < 4) : CtP l X yX1_edgeAt cX1_edgeAt 6 (some .int) 3 0 0 [.int (nI (c)), .int (nI (s))] [] (some (.int (edI c s))) := by
  unfold CtP
  refine Ct.of (by decide) (Nat.le_of_ble_eq_true rfl) "Bumpward" "edgeAt" rfl rfl (fun K F eL R => ?_)
  subst eL
  show G K X 6 0 0 [] [(0, .int (nI (c))), (1, .int (nI (s)))] 0 []
  refine g_iload_n 0 1 F dX1_edgeAt_0 rfl rfl 0 rfl ?_
  refine g_iload_n 1 2 F dX1_edgeAt_1 rfl rfl 1 rfl ?_
  refine g_callP 3 5 F (CallOk.S (As := [.int (nI (c)), .int (nI (s))]) (rest := []) F 2 q359 q360 q49 q361 cd_X1_beside rfl rfl (Nat.le_of_ble_eq_true rfl) (Nat.le_of_ble_eq_true rfl) dX1_edgeAt_2) (m_X1_beside (kL K) X c s (by omega) (by omega)) rfl (Mr := []) [] [] rfl 0 rfl (by decide +kernel) rfl rfl (rc_T) (Nat.le_of_ble_eq_true rfl) (c2 := 0) (s2 := 0) (Nat.zero_le _) (Nat.zero_le _) rfl rfl (st1 := [.int (bsI c s)]) rfl ?_
  refine g_istore_n 5 6 F [(2, .int (bsI c s)), (0, .int (nI (c))), (1, .int (nI (s)))] dX1_edgeAt_5 rfl rfl (Nat.le_of_ble_eq_true rfl) rfl ?_
  refine g_iload_n 6 7 F dX1_edgeAt_6 rfl rfl 0 rfl ?_
  refine g_iconst 7 8 F (-1) dX1_edgeAt_7 rfl (by decide) ?_
  refine g_icmp_ne 8 11 13 F dX1_edgeAt_8 rfl (by decide) (fun c_1 => ?_) (fun c_1 => ?_)
  · refine g_iload_n 13 14 F dX1_edgeAt_13 rfl rfl 1 rfl ?_
    refine g_iload_n 14 15 F dX1_edgeAt_14 rfl rfl 0 rfl ?_
    refine g_mmin 15 18 F (v := if (bsI c s) < (nI (c)) then (bsI c s) else (nI (c))) q362 q363 q66 q364 dX1_edgeAt_15 rfl (Nat.le_of_ble_eq_true rfl) (Nat.le_of_ble_eq_true rfl) (Nat.zero_le _) (Nat.zero_le _) (rfl) ?_
    refine g_istore_n 18 19 F [(3, .int (if (bsI c s) < (nI (c)) then (bsI c s) else (nI (c)))), (2, .int (bsI c s)), (0, .int (nI (c))), (1, .int (nI (s)))] dX1_edgeAt_18 rfl rfl (Nat.le_of_ble_eq_true rfl) rfl ?_
    refine g_iload_n 19 20 F dX1_edgeAt_19 rfl rfl 0 rfl ?_
    refine g_bipush 20 22 F (nI (6)) dX1_edgeAt_20 rfl (by decide) ?_
    refine g_idiv 22 23 F (v := (if (bsI c s) < (nI (c)) then (bsI c s) else (nI (c))) / (nI (6))) dX1_edgeAt_22 rfl (by decide) (rfl) ?_
    refine g_istore 23 25 F [(4, .int ((if (bsI c s) < (nI (c)) then (bsI c s) else (nI (c))) / (nI (6)))), (3, .int (if (bsI c s) < (nI (c)) then (bsI c s) else (nI (c)))), (2, .int (bsI c s)), (0, .int (nI (c))), (1, .int (nI (s)))] dX1_edgeAt_23 rfl (Nat.le_of_ble_eq_true rfl) rfl ?_
    refine g_iload_n 25 26 F dX1_edgeAt_25 rfl rfl 1 rfl ?_
    refine g_bipush 26 28 F (nI (6)) dX1_edgeAt_26 rfl (by decide) ?_
    refine g_irem 28 29 F (v := (if (bsI c s) < (nI (c)) then (bsI c s) else (nI (c))) - (if (bsI c s) < (nI (c)) then (bsI c s) else (nI (c))) / (nI (6)) * (nI (6))) dX1_edgeAt_28 rfl (by decide) (rfl) ?_
    refine g_istore 29 31 F [(5, .int ((if (bsI c s) < (nI (c)) then (bsI c s) else (nI (c))) - (if (bsI c s) < (nI (c)) then (bsI c s) else (nI (c))) / (nI (6)) * (nI (6)))), (4, .int ((if (bsI c s) < (nI (c)) then (bsI c s) else (nI (c))) / (nI (6)))), (3, .int (if (bsI c s) < (nI (c)) then (bsI c s) else (nI (c)))), (2, .int (bsI c s)), (0, .int (nI (c))), (1, .int (nI (s)))] dX1_edgeAt_29 rfl (Nat.le_of_ble_eq_true rfl) rfl ?_
    refine g_iload_n 31 32 F dX1_edgeAt_31 rfl rfl 5 rfl ?_
    refine g_iconst 32 33 F (nI (2)) dX1_edgeAt_32 rfl (by decide) ?_
    refine g_irem 33 34 F (v := nI (s % 2)) dX1_edgeAt_33 rfl (by decide) (pk_rem (by omega) (by omega) (by omega)) ?_
    refine g_iconst 34 35 F (nI (1)) dX1_edgeAt_34 rfl (by decide) ?_
    refine g_icmpN_ne 35 38 48 F dX1_edgeAt_35 rfl (by decide) (by omega) (by omega) (fun c_2 => ?_) (fun c_2 => ?_)
    · refine g_bipush 48 50 F (nI (30)) dX1_edgeAt_48 rfl (by decide) ?_
      refine g_iload_n 50 51 F dX1_edgeAt_50 rfl rfl 2 rfl ?_
      refine g_iadd 51 52 F (v := (nI (30)) + (if (bsI c s) < (nI (c)) then (bsI c s) else (nI (c)))) dX1_edgeAt_51 rfl (rfl) ?_
      exact g_iret 52 F R dX1_edgeAt_52 (Nat.zero_le _) (Nat.zero_le _) (⟨congrArg (fun z => some (Value.int z)) (by clear R; revert s; revert c; decide +kernel), rfl⟩)
    · refine g_iload 38 40 F dX1_edgeAt_38 rfl 1 rfl ?_
      refine g_iconst 40 41 F (nI (5)) dX1_edgeAt_40 rfl (by decide) ?_
      refine g_imul 41 42 F (v := ((if (bsI c s) < (nI (c)) then (bsI c s) else (nI (c))) / (nI (6))) * (nI (5))) dX1_edgeAt_41 rfl (rfl) ?_
      refine g_iload 42 44 F dX1_edgeAt_42 rfl 0 rfl ?_
      refine g_iadd 44 45 F (v := (((if (bsI c s) < (nI (c)) then (bsI c s) else (nI (c))) / (nI (6))) * (nI (5))) + ((if (bsI c s) < (nI (c)) then (bsI c s) else (nI (c))) - (if (bsI c s) < (nI (c)) then (bsI c s) else (nI (c))) / (nI (6)) * (nI (6)))) dX1_edgeAt_44 rfl (rfl) ?_
      refine g_goto 45 52 F dX1_edgeAt_45 (by decide) ?_
      exact g_iret 52 F R dX1_edgeAt_52 (Nat.zero_le _) (Nat.zero_le _) (⟨congrArg (fun z => some (Value.int z)) (by clear R; revert s; revert c; decide +kernel), rfl⟩)
  · refine g_iconst 11 12 F (-1) dX1_edgeAt_11 rfl (by decide) ?_
    exact g_iret 12 F R dX1_edgeAt_12 (Nat.zero_le _) (Nat.zero_le _) (⟨congrArg (fun z => some (Value.int z)) (by clear R; revert s; revert c; decide +kernel), rfl⟩)

set_option maxHeartbeats 4000000 in
theorem m_X1_turn_2 (l : Launch) (X : gk_X) (p : Nat) (r : Bool) (hp : p < 144) : CtP l X yX1_turn_2 cX1_turn_2 2 (some .int) 1 0 0 [.int (nI (p)), .int (bI (r))] [] (some (.int (nI (tnD p r)))) := by
  unfold CtP
  refine Ct.of (by decide) (Nat.le_of_ble_eq_true rfl) "Bumpward" "turn" rfl rfl (fun K F eL R => ?_)
  subst eL
  show G K X 2 0 0 [] [(0, .int (nI (p))), (1, .int (bI (r)))] 0 []
  refine g_iload_n 0 1 F dX1_turn_2_0 rfl rfl 0 rfl ?_
  refine g_iconst 1 2 F (nI (4)) dX1_turn_2_1 rfl (by decide) ?_
  refine g_idiv 2 3 F (v := nI (p / 4)) dX1_turn_2_2 rfl (by decide) (pk_div (by omega) (by omega) (by omega)) ?_
  refine g_iconst 3 4 F (nI (4)) dX1_turn_2_3 rfl (by decide) ?_
  refine g_imul 4 5 F (v := nI ((p / 4) * 4)) dX1_turn_2_4 rfl (pk_mul _ _) ?_
  refine g_iload_n 5 6 F dX1_turn_2_5 rfl rfl 0 rfl ?_
  refine g_iload_n 6 7 F dX1_turn_2_6 rfl rfl 1 rfl ?_
  refine g_ifB_eq 7 10 14 F dX1_turn_2_7 rfl (by decide) (fun c_1 => ?_) (fun c_1 => ?_)
  · refine g_iconst 14 15 F (nI (3)) dX1_turn_2_14 rfl (by decide) ?_
    refine g_iadd 15 16 F (v := nI (p + 3)) dX1_turn_2_15 rfl (nI_add _ _) ?_
    refine g_iconst 16 17 F (nI (4)) dX1_turn_2_16 rfl (by decide) ?_
    refine g_irem 17 18 F (v := nI ((p + 3) % 4)) dX1_turn_2_17 rfl (by decide) (pk_rem (by omega) (by omega) (by omega)) ?_
    refine g_iadd 18 19 F (v := nI ((p / 4) * 4 + ((p + 3) % 4))) dX1_turn_2_18 rfl (nI_add _ _) ?_
    exact g_iret 19 F R dX1_turn_2_19 (Nat.zero_le _) (Nat.zero_le _) (⟨congrArg (fun z => some (Value.int z)) (by rw [c_1]; rfl), rfl⟩)
  · refine g_iconst 10 11 F (nI (1)) dX1_turn_2_10 rfl (by decide) ?_
    refine g_goto 11 15 F dX1_turn_2_11 (by decide) ?_
    refine g_iadd 15 16 F (v := nI (p + 1)) dX1_turn_2_15 rfl (nI_add _ _) ?_
    refine g_iconst 16 17 F (nI (4)) dX1_turn_2_16 rfl (by decide) ?_
    refine g_irem 17 18 F (v := nI ((p + 1) % 4)) dX1_turn_2_17 rfl (by decide) (pk_rem (by omega) (by omega) (by omega)) ?_
    refine g_iadd 18 19 F (v := nI ((p / 4) * 4 + ((p + 1) % 4))) dX1_turn_2_18 rfl (nI_add _ _) ?_
    exact g_iret 19 F R dX1_turn_2_19 (Nat.zero_le _) (Nat.zero_le _) (⟨congrArg (fun z => some (Value.int z)) (by rw [c_1]; rfl), rfl⟩)
