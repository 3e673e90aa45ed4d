/-! Draws, Porter, Walker -/
theorem cd_X10_all : yX10_all.cls ≠ "java/lang/invoke/MethodHandle" ∧ yX10_all.cls ≠ "java/lang/invoke/VarHandle" ∧ (parseMethodDescriptor yX10_all.desc).map (fun d => d.parameters.length) = some 0 := by decide +kernel
theorem cdV_X10_felt : yX10_felt.cls = "Bumpward$Belief" ∧ yX10_felt.cls ≠ "java/lang/invoke/MethodHandle" ∧ yX10_felt.cls ≠ "java/lang/invoke/VarHandle" ∧ (parseMethodDescriptor yX10_felt.desc).map (fun d => d.parameters.length) = some 2 := by decide +kernel
theorem cdV_X10_first : yX10_first.cls = "Bumpward$Belief" ∧ yX10_first.cls ≠ "java/lang/invoke/MethodHandle" ∧ yX10_first.cls ≠ "java/lang/invoke/VarHandle" ∧ (parseMethodDescriptor yX10_first.desc).map (fun d => d.parameters.length) = some 0 := by decide +kernel
theorem cdV_X10_forward : yX10_forward.cls = "Bumpward$Belief" ∧ yX10_forward.cls ≠ "java/lang/invoke/MethodHandle" ∧ yX10_forward.cls ≠ "java/lang/invoke/VarHandle" ∧ (parseMethodDescriptor yX10_forward.desc).map (fun d => d.parameters.length) = some 2 := by decide +kernel
theorem cdV_X10_isSure : yX10_isSure.cls = "Bumpward$Belief" ∧ yX10_isSure.cls ≠ "java/lang/invoke/MethodHandle" ∧ yX10_isSure.cls ≠ "java/lang/invoke/VarHandle" ∧ (parseMethodDescriptor yX10_isSure.desc).map (fun d => d.parameters.length) = some 0 := by decide +kernel
theorem cd_X10_of : yX10_of.cls ≠ "java/lang/invoke/MethodHandle" ∧ yX10_of.cls ≠ "java/lang/invoke/VarHandle" ∧ (parseMethodDescriptor yX10_of.desc).map (fun d => d.parameters.length) = some 1 := by decide +kernel
theorem cdV_X8_comingHome : yX8_comingHome.cls = "Bumpward$Walker" ∧ yX8_comingHome.cls ≠ "java/lang/invoke/MethodHandle" ∧ yX8_comingHome.cls ≠ "java/lang/invoke/VarHandle" ∧ (parseMethodDescriptor yX8_comingHome.desc).map (fun d => d.parameters.length) = some 0 := by decide +kernel
theorem cdV_X8_cost : yX8_cost.cls = "Bumpward$Walker" ∧ yX8_cost.cls ≠ "java/lang/invoke/MethodHandle" ∧ yX8_cost.cls ≠ "java/lang/invoke/VarHandle" ∧ (parseMethodDescriptor yX8_cost.desc).map (fun d => d.parameters.length) = some 0 := by decide +kernel
theorem cdV_X8_isSure : yX8_isSure.cls = "Bumpward$Walker" ∧ yX8_isSure.cls ≠ "java/lang/invoke/MethodHandle" ∧ yX8_isSure.cls ≠ "java/lang/invoke/VarHandle" ∧ (parseMethodDescriptor yX8_isSure.desc).map (fun d => d.parameters.length) = some 0 := by decide +kernel
theorem cdV_X8_sureCell : yX8_sureCell.cls = "Bumpward$Walker" ∧ yX8_sureCell.cls ≠ "java/lang/invoke/MethodHandle" ∧ yX8_sureCell.cls ≠ "java/lang/invoke/VarHandle" ∧ (parseMethodDescriptor yX8_sureCell.desc).map (fun d => d.parameters.length) = some 0 := by decide +kernel
theorem cdV_X8_worst : yX8_worst.cls = "Bumpward$Walker" ∧ yX8_worst.cls ≠ "java/lang/invoke/MethodHandle" ∧ yX8_worst.cls ≠ "java/lang/invoke/VarHandle" ∧ (parseMethodDescriptor yX8_worst.desc).map (fun d => d.parameters.length) = some 1 := by decide +kernel
theorem cd_X9_init : yX9_init.cls ≠ "java/lang/invoke/MethodHandle" ∧ yX9_init.cls ≠ "java/lang/invoke/VarHandle" ∧ (parseMethodDescriptor yX9_init.desc).map (fun d => d.parameters.length) = some 0 := by decide +kernel
theorem cdV_X9_isOpenEnded : yX9_isOpenEnded.cls = "Bumpward$Plan" ∧ yX9_isOpenEnded.cls ≠ "java/lang/invoke/MethodHandle" ∧ yX9_isOpenEnded.cls ≠ "java/lang/invoke/VarHandle" ∧ (parseMethodDescriptor yX9_isOpenEnded.desc).map (fun d => d.parameters.length) = some 1 := by decide +kernel
theorem cdV_X9_ways : yX9_ways.cls = "Bumpward$Plan" ∧ yX9_ways.cls ≠ "java/lang/invoke/MethodHandle" ∧ yX9_ways.cls ≠ "java/lang/invoke/VarHandle" ∧ (parseMethodDescriptor yX9_ways.desc).map (fun d => d.parameters.length) = some 1 := by decide +kernel
set_option maxHeartbeats 4000000 in
theorem m_X2_init (l : Launch) (X : gk_X) (q : Nat)  : Ct l X yX2_init cX2_init 1 none 2 0 0 [.ref q] [[(q, ob 1 [.int (nI (0)), .int (nI (0))])]] (fun v M' => v = none ∧ M' = [[(q, ob 1 [.int (nI (7)), .int (nI (0))])]]) := by
  refine Ct.of (by decide) (Nat.le_of_ble_eq_true rfl) "Bumpward$Draws" "<init>" rfl rfl (fun K F eL R => ?_)
  subst eL
  show G K X 1 0 0 [[(q, ob 1 [.int (nI (0)), .int (nI (0))])]] [(0, .ref q)] 0 []
  refine g_aload_n 0 1 F dX2_init_0 rfl rfl 0 rfl ?_
  refine g_objInit 1 4 F q132 q93 q94 dX2_init_1 rfl (Nat.le_of_ble_eq_true rfl) (Nat.le_of_ble_eq_true rfl) ?_
  refine g_aload_n 4 5 F dX2_init_4 rfl rfl 0 rfl ?_
  refine g_bipush 5 7 F (nI (7)) dX2_init_5 rfl (by decide) ?_
  refine g_put 7 10 F (ci := 1) in_X2 tyX2 tyX2_ok nmX2 rfl 0 (by decide) q133 (fun _ h => h) rfl dX2_init_7 rfl 0 (rfl) (rfl) (Nat.le_of_ble_eq_true rfl) rfl (M' := [[(q, ob 1 [.int (nI (7)), .int (nI (0))])]]) rfl ?_
  exact g_vret 10 F R dX2_init_10 (Nat.zero_le _) (Nat.zero_le _) (⟨rfl, rfl⟩)

set_option maxHeartbeats 4000000 in
theorem m_X2_draw (l : Launch) (X : gk_X) (dr : Nat) (nx mn : Int32)  : Ct l X yX2_draw cX2_draw 2 (some .int) 1 0 0 [.ref dr] [[(dr, ob 1 [.int (nx), .int (mn)])]] (fun v M' => v = some (.int nx) ∧ M' = [[(dr, ob 1 [.int (nxI nx), .int (mn + nI 1)])]]) := by
  refine Ct.of (by decide) (Nat.le_of_ble_eq_true rfl) "Bumpward$Draws" "draw" rfl rfl (fun K F eL R => ?_)
  subst eL
  show G K X 2 0 0 [[(dr, ob 1 [.int (nx), .int (mn)])]] [(0, .ref dr)] 0 []
  refine g_aload_n 0 1 F dX2_draw_0 rfl rfl 0 rfl ?_
  refine g_get 1 4 F (ci := 1) in_X2 rfl 0 (by decide) q133 (fun _ h => h) dX2_draw_1 rfl 0 rfl (v := .int (nx)) rfl ?_
  refine g_istore_n 4 5 F [(1, .int (nx)), (0, .ref dr)] dX2_draw_4 rfl rfl (Nat.le_of_ble_eq_true rfl) rfl ?_
  refine g_aload_n 5 6 F dX2_draw_5 rfl rfl 1 rfl ?_
  refine g_bipush 6 8 F (nI (29)) dX2_draw_6 rfl (by decide) ?_
  refine g_iload_n 8 9 F dX2_draw_8 rfl rfl 0 rfl ?_
  refine g_imul 9 10 F (v := (nI (29)) * nx) dX2_draw_9 rfl (rfl) ?_
  refine g_bipush 10 12 F (nI (13)) dX2_draw_10 rfl (by decide) ?_
  refine g_iadd 12 13 F (v := ((nI (29)) * nx) + (nI (13))) dX2_draw_12 rfl (rfl) ?_
  refine g_bipush 13 15 F (nI (127)) dX2_draw_13 rfl (by decide) ?_
  refine g_irem 15 16 F (v := nxI nx) dX2_draw_15 rfl (by decide) (rfl) ?_
  refine g_put 16 19 F (ci := 1) in_X2 tyX2 tyX2_ok nmX2 rfl 0 (by decide) q133 (fun _ h => h) rfl dX2_draw_16 rfl 0 (rfl) (rfl) (Nat.le_of_ble_eq_true rfl) rfl (M' := [[(dr, ob 1 [.int (nxI nx), .int (mn)])]]) rfl ?_
  refine g_aload_n 19 20 F dX2_draw_19 rfl rfl 1 rfl ?_
  refine g_dup 20 21 F dX2_draw_20 rfl rfl ?_
  refine g_get 21 24 F (ci := 1) in_X2 rfl 1 (by decide) q134 (fun _ h => h) dX2_draw_21 rfl 0 rfl (v := .int (mn)) rfl ?_
  refine g_iconst 24 25 F (nI (1)) dX2_draw_24 rfl (by decide) ?_
  refine g_iadd 25 26 F (v := mn + nI 1) dX2_draw_25 rfl (rfl) ?_
  refine g_put 26 29 F (ci := 1) in_X2 tyX2 tyX2_ok nmX2 rfl 1 (by decide) q134 (fun _ h => h) rfl dX2_draw_26 rfl 0 (rfl) (rfl) (Nat.le_of_ble_eq_true rfl) rfl (M' := [[(dr, ob 1 [.int (nxI nx), .int (mn + nI 1)])]]) rfl ?_
  refine g_iload_n 29 30 F dX2_draw_29 rfl rfl 0 rfl ?_
  exact g_iret 30 F R dX2_draw_30 (Nat.zero_le _) (Nat.zero_le _) (⟨rfl, rfl⟩)

set_option maxHeartbeats 4000000 in
theorem m_X2_many (l : Launch) (X : gk_X) (dr : Nat) (nx mn : Int32)  : CtP l X yX2_many cX2_many 1 (some .int) 1 0 0 [.ref dr] [[(dr, ob 1 [.int (nx), .int (mn)])]] (some (.int (mn))) := by
  unfold CtP
  refine Ct.of (by decide) (Nat.le_of_ble_eq_true rfl) "Bumpward$Draws" "many" rfl rfl (fun K F eL R => ?_)
  subst eL
  show G K X 1 0 0 [[(dr, ob 1 [.int (nx), .int (mn)])]] [(0, .ref dr)] 0 []
  refine g_aload_n 0 1 F dX2_many_0 rfl rfl 0 rfl ?_
  refine g_get 1 4 F (ci := 1) in_X2 rfl 1 (by decide) q134 (fun _ h => h) dX2_many_1 rfl 0 rfl (v := .int (mn)) rfl ?_
  exact g_iret 4 F R dX2_many_4 (Nat.zero_le _) (Nat.zero_le _) (⟨rfl, rfl⟩)

set_option maxHeartbeats 4000000 in
theorem m_X3_init (l : Launch) (X : gk_X) (q : Nat)  : Ct l X yX3_init cX3_init 1 none 2 0 0 [.ref q] [[(q, ob 2 [.int (nI (0))])]] (fun v M' => v = none ∧ M' = [[(q, ob 2 [.int (nI (0))])]]) := by
  refine Ct.of (by decide) (Nat.le_of_ble_eq_true rfl) "Bumpward$Porter" "<init>" rfl rfl (fun K F eL R => ?_)
  subst eL
  show G K X 1 0 0 [[(q, ob 2 [.int (nI (0))])]] [(0, .ref q)] 0 []
  refine g_aload_n 0 1 F dX3_init_0 rfl rfl 0 rfl ?_
  refine g_objInit 1 4 F q145 q93 q94 dX3_init_1 rfl (Nat.le_of_ble_eq_true rfl) (Nat.le_of_ble_eq_true rfl) ?_
  exact g_vret 4 F R dX3_init_4 (Nat.zero_le _) (Nat.zero_le _) (⟨rfl, rfl⟩)

set_option maxHeartbeats 4000000 in
theorem m_X3_call (l : Launch) (X : gk_X) (po : Nat) (rf : Int32)  : Ct l X yX3_call cX3_call 1 (some .int) 1 0 0 [.ref po] [[(po, ob 2 [.int (rf)])]] (fun v M' => v = some (.int (rf + nI 1)) ∧ M' = [[(po, ob 2 [.int (rf + nI 1)])]]) := by
  refine Ct.of (by decide) (Nat.le_of_ble_eq_true rfl) "Bumpward$Porter" "call" rfl rfl (fun K F eL R => ?_)
  subst eL
  show G K X 1 0 0 [[(po, ob 2 [.int (rf)])]] [(0, .ref po)] 0 []
  refine g_aload_n 0 1 F dX3_call_0 rfl rfl 0 rfl ?_
  refine g_dup 1 2 F dX3_call_1 rfl rfl ?_
  refine g_get 2 5 F (ci := 2) in_X3 rfl 0 (by decide) q146 (fun _ h => h) dX3_call_2 rfl 0 rfl (v := .int (rf)) rfl ?_
  refine g_iconst 5 6 F (nI (1)) dX3_call_5 rfl (by decide) ?_
  refine g_iadd 6 7 F (v := rf + nI 1) dX3_call_6 rfl (rfl) ?_
  refine g_put 7 10 F (ci := 2) in_X3 tyX3 tyX3_ok nmX3 rfl 0 (by decide) q146 (fun _ h => h) rfl dX3_call_7 rfl 0 (rfl) (rfl) (Nat.le_of_ble_eq_true rfl) rfl (M' := [[(po, ob 2 [.int (rf + nI 1)])]]) rfl ?_
  refine g_aload_n 10 11 F dX3_call_10 rfl rfl 0 rfl ?_
  refine g_get 11 14 F (ci := 2) in_X3 rfl 0 (by decide) q146 (fun _ h => h) dX3_call_11 rfl 0 rfl (v := .int (rf + nI 1)) rfl ?_
  exact g_iret 14 F R dX3_call_14 (Nat.zero_le _) (Nat.zero_le _) (⟨rfl, rfl⟩)

set_option maxHeartbeats 4000000 in
theorem m_X3_refused (l : Launch) (X : gk_X) (po : Nat) (rf : Int32)  : CtP l X yX3_refused cX3_refused 1 (some .int) 1 0 0 [.ref po] [[(po, ob 2 [.int (rf)])]] (some (.int (rf))) := by
  unfold CtP
  refine Ct.of (by decide) (Nat.le_of_ble_eq_true rfl) "Bumpward$Porter" "refused" rfl rfl (fun K F eL R => ?_)
  subst eL
  show G K X 1 0 0 [[(po, ob 2 [.int (rf)])]] [(0, .ref po)] 0 []
  refine g_aload_n 0 1 F dX3_refused_0 rfl rfl 0 rfl ?_
  refine g_get 1 4 F (ci := 2) in_X3 rfl 0 (by decide) q146 (fun _ h => h) dX3_refused_1 rfl 0 rfl (v := .int (rf)) rfl ?_
  exact g_iret 4 F R dX3_refused_4 (Nat.zero_le _) (Nat.zero_le _) (⟨rfl, rfl⟩)

set_option maxHeartbeats 4000000 in
theorem m_X8_init (l : Launch) (X : gk_X) (w nu po : Nat) (ch : Int32) (b : Bool) (hpo : po < 144) : Ct l X yX8_init cX8_init 5 none 5 4 206 [.ref w, .int (nI (nu)), .int (nI (po)), .int (ch), .int (bI (b))] [[(w, ob 6 [.int (nI (0)), .int (nI (0)), .null, .int (nI (0)), .int (nI (0)), .null, .int (nI (0)), .int (nI (0)), .int (nI (0)), .int (nI (0))])]] (fun v M' => ∃ h0 h1 b0 b1, v = none ∧ M' = [[(w, ob 6 [.int (nI (nu)), .int (nI (po / 4)), .ref h0, .int (nI (po)), .int (ch), .ref b0, .int (nI (0)), .int (nI (0)), .int (nI (0)), .int (nI (0))])], [(h0, ob 4 [.ref h1])], [(h1, iA X 60 (fun k => nI (zP k)))], [(b0, ob 5 [.ref b1])], [(b1, zA X 144 (toldF po b))]]) := by
  refine Ct.of (by decide) (Nat.le_of_ble_eq_true rfl) "Bumpward$Walker" "<init>" rfl rfl (fun K F eL R => ?_)
  subst eL
  show G K X 5 0 0 [[(w, ob 6 [.int (nI (0)), .int (nI (0)), .null, .int (nI (0)), .int (nI (0)), .null, .int (nI (0)), .int (nI (0)), .int (nI (0)), .int (nI (0))])]] [(0, .ref w), (1, .int (nI (nu))), (2, .int (nI (po))), (3, .int (ch)), (4, .int (bI (b)))] 0 []
  refine g_aload_n 0 1 F dX8_init_0 rfl rfl 0 rfl ?_
  refine g_objInit 1 4 F q743 q93 q94 dX8_init_1 rfl (Nat.le_of_ble_eq_true rfl) (Nat.le_of_ble_eq_true rfl) ?_
  refine g_aload_n 4 5 F dX8_init_4 rfl rfl 0 rfl ?_
  refine g_new 5 8 F in_X9 tyX9 tyX9_ok q744 q450 q72 (ci := 4) rfl (fs := [.null]) (fun j hj => match j, hj with | 0, _ => rfl | j + 1, hj => absurd hj (by omega)) dX8_init_5 rfl (c2 := 1) (s2 := 1) (Nat.le_of_ble_eq_true rfl) (Nat.le_of_ble_eq_true rfl) rfl rfl (M' := fun h0 => [[(w, ob 6 [.int (nI (0)), .int (nI (0)), .null, .int (nI (0)), .int (nI (0)), .null, .int (nI (0)), .int (nI (0)), .int (nI (0)), .int (nI (0))])], [(h0, ob 4 [.null])]]) (fun _ => rfl) (fun h0 => ?_)
  show G K X 5 1 1 [[(w, ob 6 [.int (nI (0)), .int (nI (0)), .null, .int (nI (0)), .int (nI (0)), .null, .int (nI (0)), .int (nI (0)), .int (nI (0)), .int (nI (0))])], [(h0, ob 4 [.null])]] [(0, .ref w), (1, .int (nI (nu))), (2, .int (nI (po))), (3, .int (ch)), (4, .int (bI (b)))] 8 [.ref h0, .ref w]
  refine g_dup 8 9 F dX8_init_8 rfl rfl ?_
  refine g_call 3 12 F (CallOk.IN (b := h0) (As := []) (rest := [.ref h0, .ref w]) F 0 q745 q746 q72 q747 rfl cd_X9_init rfl rfl (Nat.le_of_ble_eq_true rfl) (Nat.le_of_ble_eq_true rfl) dX8_init_9) (m_X9_init (kL K) X h0 ) rfl (Mr := [[(w, ob 6 [.int (nI (0)), .int (nI (0)), .null, .int (nI (0)), .int (nI (0)), .null, .int (nI (0)), .int (nI (0)), .int (nI (0)), .int (nI (0))])]]) [1] [0] rfl rfl rfl (rc_T) (Nat.le_of_ble_eq_true rfl) (c2 := 2) (s2 := 61) (Nat.le_of_ble_eq_true rfl) (Nat.le_of_ble_eq_true rfl) rfl rfl (fun v M1 hp => ?_)
  obtain ⟨a_1, rfl, rfl⟩ := hp
  show G K X 5 2 61 [[(w, ob 6 [.int (nI (0)), .int (nI (0)), .null, .int (nI (0)), .int (nI (0)), .null, .int (nI (0)), .int (nI (0)), .int (nI (0)), .int (nI (0))])], [(h0, ob 4 [.ref a_1])], [(a_1, iA X 60 (fun k => nI (zP k)))]] [(0, .ref w), (1, .int (nI (nu))), (2, .int (nI (po))), (3, .int (ch)), (4, .int (bI (b)))] 12 [.ref h0, .ref w]
  refine g_putF 12 15 F (ci := 6) in_X8 tyX8 tyX8_ok nmX8 rfl 2 (by decide) q763 (fun _ h => h) rfl rfl dX8_init_12 rfl 0 (rfl) (rfl) (Nat.le_of_ble_eq_true rfl) rfl (M' := [[(w, ob 6 [.int (nI (0)), .int (nI (0)), .ref h0, .int (nI (0)), .int (nI (0)), .null, .int (nI (0)), .int (nI (0)), .int (nI (0)), .int (nI (0))])], [(h0, ob 4 [.ref a_1])], [(a_1, iA X 60 (fun k => nI (zP k)))]]) rfl ?_
  refine g_aload_n 15 16 F dX8_init_15 rfl rfl 0 rfl ?_
  refine g_iload_n 16 17 F dX8_init_16 rfl rfl 1 rfl ?_
  refine g_putF 17 20 F (ci := 6) in_X8 tyX8 tyX8_ok nmX8 rfl 0 (by decide) q759 (fun _ h => h) rfl rfl dX8_init_17 rfl 0 (rfl) (rfl) (Nat.le_of_ble_eq_true rfl) rfl (M' := [[(w, ob 6 [.int (nI (nu)), .int (nI (0)), .ref h0, .int (nI (0)), .int (nI (0)), .null, .int (nI (0)), .int (nI (0)), .int (nI (0)), .int (nI (0))])], [(h0, ob 4 [.ref a_1])], [(a_1, iA X 60 (fun k => nI (zP k)))]]) rfl ?_
  refine g_aload_n 20 21 F dX8_init_20 rfl rfl 0 rfl ?_
  refine g_iload_n 21 22 F dX8_init_21 rfl rfl 2 rfl ?_
  refine g_put 22 25 F (ci := 6) in_X8 tyX8 tyX8_ok nmX8 rfl 3 (by decide) q765 (fun _ h => h) rfl dX8_init_22 rfl 0 (rfl) (rfl) (Nat.le_of_ble_eq_true rfl) rfl (M' := [[(w, ob 6 [.int (nI (nu)), .int (nI (0)), .ref h0, .int (nI (po)), .int (nI (0)), .null, .int (nI (0)), .int (nI (0)), .int (nI (0)), .int (nI (0))])], [(h0, ob 4 [.ref a_1])], [(a_1, iA X 60 (fun k => nI (zP k)))]]) rfl ?_
  refine g_aload_n 25 26 F dX8_init_25 rfl rfl 0 rfl ?_
  refine g_iload_n 26 27 F dX8_init_26 rfl rfl 3 rfl ?_
  refine g_put 27 30 F (ci := 6) in_X8 tyX8 tyX8_ok nmX8 rfl 4 (by decide) q767 (fun _ h => h) rfl dX8_init_27 rfl 0 (rfl) (rfl) (Nat.le_of_ble_eq_true rfl) rfl (M' := [[(w, ob 6 [.int (nI (nu)), .int (nI (0)), .ref h0, .int (nI (po)), .int (ch), .null, .int (nI (0)), .int (nI (0)), .int (nI (0)), .int (nI (0))])], [(h0, ob 4 [.ref a_1])], [(a_1, iA X 60 (fun k => nI (zP k)))]]) rfl ?_
  refine g_aload_n 30 31 F dX8_init_30 rfl rfl 0 rfl ?_
  refine g_iload_n 31 32 F dX8_init_31 rfl rfl 2 rfl ?_
  refine g_iconst 32 33 F (nI (4)) dX8_init_32 rfl (by decide) ?_
  refine g_idiv 33 34 F (v := nI (po / 4)) dX8_init_33 rfl (by decide) (pk_div (by omega) (by omega) (by omega)) ?_
  refine g_putF 34 37 F (ci := 6) in_X8 tyX8 tyX8_ok nmX8 rfl 1 (by decide) q761 (fun _ h => h) rfl rfl dX8_init_34 rfl 0 (rfl) (rfl) (Nat.le_of_ble_eq_true rfl) rfl (M' := [[(w, ob 6 [.int (nI (nu)), .int (nI (po / 4)), .ref h0, .int (nI (po)), .int (ch), .null, .int (nI (0)), .int (nI (0)), .int (nI (0)), .int (nI (0))])], [(h0, ob 4 [.ref a_1])], [(a_1, iA X 60 (fun k => nI (zP k)))]]) rfl ?_
  refine g_aload_n 37 38 F dX8_init_37 rfl rfl 0 rfl ?_
  refine g_iload 38 40 F dX8_init_38 rfl 4 rfl ?_
  refine g_ifB_eq 40 43 50 F dX8_init_40 rfl (by decide) (fun c_2 => ?_) (fun c_2 => ?_)
  · refine g_call 3 53 F (CallOk.S (As := []) (rest := [.ref w]) F 0 q756 q757 q73 q758 cd_X10_all rfl rfl (Nat.le_of_ble_eq_true rfl) (Nat.le_of_ble_eq_true rfl) dX8_init_50) (m_X10_all (kL K) X  ) rfl (Mr := [[(w, ob 6 [.int (nI (nu)), .int (nI (po / 4)), .ref h0, .int (nI (po)), .int (ch), .null, .int (nI (0)), .int (nI (0)), .int (nI (0)), .int (nI (0))])], [(h0, ob 4 [.ref a_1])], [(a_1, iA X 60 (fun k => nI (zP k)))]]) [] [0, 1, 2] rfl rfl rfl (rc_T) (Nat.le_of_ble_eq_true rfl) (c2 := 4) (s2 := 206) (Nat.le_refl _) (Nat.le_refl _) rfl rfl (fun v M1 hp => ?_)
    obtain ⟨q_3, a_4, rfl, rfl⟩ := hp
    show G K X 5 4 206 [[(w, ob 6 [.int (nI (nu)), .int (nI (po / 4)), .ref h0, .int (nI (po)), .int (ch), .null, .int (nI (0)), .int (nI (0)), .int (nI (0)), .int (nI (0))])], [(h0, ob 4 [.ref a_1])], [(a_1, iA X 60 (fun k => nI (zP k)))], [(q_3, ob 5 [.ref a_4])], [(a_4, zA X 144 (fun _ => true))]] [(0, .ref w), (1, .int (nI (nu))), (2, .int (nI (po))), (3, .int (ch)), (4, .int (bI (b)))] 53 [.ref q_3, .ref w]
    refine g_put 53 56 F (ci := 6) in_X8 tyX8 tyX8_ok nmX8 rfl 5 (by decide) q769 (fun _ h => h) rfl dX8_init_53 rfl 0 (rfl) (rfl) (Nat.le_of_ble_eq_true rfl) rfl (M' := [[(w, ob 6 [.int (nI (nu)), .int (nI (po / 4)), .ref h0, .int (nI (po)), .int (ch), .ref q_3, .int (nI (0)), .int (nI (0)), .int (nI (0)), .int (nI (0))])], [(h0, ob 4 [.ref a_1])], [(a_1, iA X 60 (fun k => nI (zP k)))], [(q_3, ob 5 [.ref a_4])], [(a_4, zA X 144 (fun _ => true))]]) rfl ?_
    exact g_vret 56 F R dX8_init_56 (Nat.le_refl _) (Nat.le_refl _) (⟨h0, a_1, q_3, a_4, rfl, by first | rw [told_t (by assumption)] | rw [told_f (by assumption)]⟩)
  · refine g_iload_n 43 44 F dX8_init_43 rfl rfl 2 rfl ?_
    refine g_call 3 47 F (CallOk.S (As := [.int (nI (po))]) (rest := [.ref w]) F 1 q753 q754 q73 q755 cd_X10_of rfl rfl (Nat.le_of_ble_eq_true rfl) (Nat.le_of_ble_eq_true rfl) dX8_init_44) (m_X10_of (kL K) X po (by omega)) rfl (Mr := [[(w, ob 6 [.int (nI (nu)), .int (nI (po / 4)), .ref h0, .int (nI (po)), .int (ch), .null, .int (nI (0)), .int (nI (0)), .int (nI (0)), .int (nI (0))])], [(h0, ob 4 [.ref a_1])], [(a_1, iA X 60 (fun k => nI (zP k)))]]) [] [0, 1, 2] rfl rfl rfl (rc_T) (Nat.le_of_ble_eq_true rfl) (c2 := 4) (s2 := 206) (Nat.le_refl _) (Nat.le_refl _) rfl rfl (fun v M1 hp => ?_)
    obtain ⟨q_5, a_6, rfl, rfl⟩ := hp
    show G K X 5 4 206 [[(w, ob 6 [.int (nI (nu)), .int (nI (po / 4)), .ref h0, .int (nI (po)), .int (ch), .null, .int (nI (0)), .int (nI (0)), .int (nI (0)), .int (nI (0))])], [(h0, ob 4 [.ref a_1])], [(a_1, iA X 60 (fun k => nI (zP k)))], [(q_5, ob 5 [.ref a_6])], [(a_6, zA X 144 (fun j => decide (j = po)))]] [(0, .ref w), (1, .int (nI (nu))), (2, .int (nI (po))), (3, .int (ch)), (4, .int (bI (b)))] 47 [.ref q_5, .ref w]
    refine g_goto 47 53 F dX8_init_47 (by decide) ?_
    refine g_put 53 56 F (ci := 6) in_X8 tyX8 tyX8_ok nmX8 rfl 5 (by decide) q769 (fun _ h => h) rfl dX8_init_53 rfl 0 (rfl) (rfl) (Nat.le_of_ble_eq_true rfl) rfl (M' := [[(w, ob 6 [.int (nI (nu)), .int (nI (po / 4)), .ref h0, .int (nI (po)), .int (ch), .ref q_5, .int (nI (0)), .int (nI (0)), .int (nI (0)), .int (nI (0))])], [(h0, ob 4 [.ref a_1])], [(a_1, iA X 60 (fun k => nI (zP k)))], [(q_5, ob 5 [.ref a_6])], [(a_6, zA X 144 (fun j => decide (j = po)))]]) rfl ?_
    exact g_vret 56 F R dX8_init_56 (Nat.le_refl _) (Nat.le_refl _) (⟨h0, a_1, q_5, a_6, rfl, by first | rw [told_t (by assumption)] | rw [told_f (by assumption)]⟩)

set_option maxHeartbeats 4000000 in
theorem m_X8_cell (l : Launch) (X : gk_X) (w h0 h1 b0 b1 nu ho po : Nat) (ch lo ac bu sl : Int32) (e : Nat → Nat) (f : Nat → Bool)  (he : ∀ k, k < 60 → e k < 3) (hho : ho < 36) (hpo : po < 144) : CtP l X yX8_cell cX8_cell 1 (some .int) 1 0 0 [.ref w] [[(w, ob 6 [.int (nI (nu)), .int (nI (ho)), .ref h0, .int (nI (po)), .int (ch), .ref b0, .int (lo), .int (ac), .int (bu), .int (sl)])], [(h0, ob 4 [.ref h1])], [(h1, iA X 60 (fun k => nI (e k)))], [(b0, ob 5 [.ref b1])], [(b1, zA X 144 (f))]] (some (.int (nI (po / 4)))) := by
  unfold CtP
  refine Ct.of (by decide) (Nat.le_of_ble_eq_true rfl) "Bumpward$Walker" "cell" rfl rfl (fun K F eL R => ?_)
  subst eL
  show G K X 1 0 0 [[(w, ob 6 [.int (nI (nu)), .int (nI (ho)), .ref h0, .int (nI (po)), .int (ch), .ref b0, .int (lo), .int (ac), .int (bu), .int (sl)])], [(h0, ob 4 [.ref h1])], [(h1, iA X 60 (fun k => nI (e k)))], [(b0, ob 5 [.ref b1])], [(b1, zA X 144 (f))]] [(0, .ref w)] 0 []
  refine g_aload_n 0 1 F dX8_cell_0 rfl rfl 0 rfl ?_
  refine g_get 1 4 F (ci := 6) in_X8 rfl 3 (by decide) q765 (fun _ h => h) dX8_cell_1 rfl 0 rfl (v := .int (nI (po))) rfl ?_
  refine g_iconst 4 5 F (nI (4)) dX8_cell_4 rfl (by decide) ?_
  refine g_idiv 5 6 F (v := nI (po / 4)) dX8_cell_5 rfl (by decide) (pk_div (by omega) (by omega) (by omega)) ?_
  exact g_iret 6 F R dX8_cell_6 (Nat.zero_le _) (Nat.zero_le _) (⟨rfl, rfl⟩)

set_option maxHeartbeats 4000000 in
theorem m_X8_facing (l : Launch) (X : gk_X) (w h0 h1 b0 b1 nu ho po : Nat) (ch lo ac bu sl : Int32) (e : Nat → Nat) (f : Nat → Bool)  (he : ∀ k, k < 60 → e k < 3) (hho : ho < 36) (hpo : po < 144) : CtP l X yX8_facing cX8_facing 1 (some .int) 1 0 0 [.ref w] [[(w, ob 6 [.int (nI (nu)), .int (nI (ho)), .ref h0, .int (nI (po)), .int (ch), .ref b0, .int (lo), .int (ac), .int (bu), .int (sl)])], [(h0, ob 4 [.ref h1])], [(h1, iA X 60 (fun k => nI (e k)))], [(b0, ob 5 [.ref b1])], [(b1, zA X 144 (f))]] (some (.int (nI (po % 4)))) := by
  unfold CtP
  refine Ct.of (by decide) (Nat.le_of_ble_eq_true rfl) "Bumpward$Walker" "facing" rfl rfl (fun K F eL R => ?_)
  subst eL
  show G K X 1 0 0 [[(w, ob 6 [.int (nI (nu)), .int (nI (ho)), .ref h0, .int (nI (po)), .int (ch), .ref b0, .int (lo), .int (ac), .int (bu), .int (sl)])], [(h0, ob 4 [.ref h1])], [(h1, iA X 60 (fun k => nI (e k)))], [(b0, ob 5 [.ref b1])], [(b1, zA X 144 (f))]] [(0, .ref w)] 0 []
  refine g_aload_n 0 1 F dX8_facing_0 rfl rfl 0 rfl ?_
  refine g_get 1 4 F (ci := 6) in_X8 rfl 3 (by decide) q765 (fun _ h => h) dX8_facing_1 rfl 0 rfl (v := .int (nI (po))) rfl ?_
  refine g_iconst 4 5 F (nI (4)) dX8_facing_4 rfl (by decide) ?_
  refine g_irem 5 6 F (v := nI (po % 4)) dX8_facing_5 rfl (by decide) (pk_rem (by omega) (by omega) (by omega)) ?_
  exact g_iret 6 F R dX8_facing_6 (Nat.zero_le _) (Nat.zero_le _) (⟨rfl, rfl⟩)

set_option maxHeartbeats 4000000 in
theorem m_X8_isSure (l : Launch) (X : gk_X) (w h0 h1 b0 b1 nu ho po : Nat) (ch lo ac bu sl : Int32) (e : Nat → Nat) (f : Nat → Bool)  (he : ∀ k, k < 60 → e k < 3) (hho : ho < 36) (hpo : po < 144) : CtP l X yX8_isSure cX8_isSure 1 (some .boolean) 4 0 0 [.ref w] [[(w, ob 6 [.int (nI (nu)), .int (nI (ho)), .ref h0, .int (nI (po)), .int (ch), .ref b0, .int (lo), .int (ac), .int (bu), .int (sl)])], [(h0, ob 4 [.ref h1])], [(h1, iA X 60 (fun k => nI (e k)))], [(b0, ob 5 [.ref b1])], [(b1, zA X 144 (f))]] (some (.int (bI (decide (cnt f 144 = 1))))) := by
  unfold CtP
  refine Ct.of (by decide) (Nat.le_of_ble_eq_true rfl) "Bumpward$Walker" "isSure" rfl rfl (fun K F eL R => ?_)
  subst eL
  show G K X 1 0 0 [[(w, ob 6 [.int (nI (nu)), .int (nI (ho)), .ref h0, .int (nI (po)), .int (ch), .ref b0, .int (lo), .int (ac), .int (bu), .int (sl)])], [(h0, ob 4 [.ref h1])], [(h1, iA X 60 (fun k => nI (e k)))], [(b0, ob 5 [.ref b1])], [(b1, zA X 144 (f))]] [(0, .ref w)] 0 []
  refine g_aload_n 0 1 F dX8_isSure_0 rfl rfl 0 rfl ?_
  refine g_get 1 4 F (ci := 6) in_X8 rfl 5 (by decide) q769 (fun _ h => h) dX8_isSure_1 rfl 0 rfl (v := .ref b0) rfl ?_
  refine g_callP 3 7 F (CallOk.V (C := "Bumpward$Belief") (b := b0) (As := []) (rest := []) F 0 q418 q419 q420 q73 q421 cdV_X10_isSure rfl rfl (Nat.le_of_ble_eq_true rfl) (Nat.le_of_ble_eq_true rfl) dX8_isSure_4) (m_X10_isSure (kL K) X b0 b1 f ) rfl (Mr := [[(w, ob 6 [.int (nI (nu)), .int (nI (ho)), .ref h0, .int (nI (po)), .int (ch), .ref b0, .int (lo), .int (ac), .int (bu), .int (sl)])], [(h0, ob 4 [.ref h1])], [(h1, iA X 60 (fun k => nI (e k)))]]) [3, 4] [0, 1, 2] rfl 5 rfl (by decide +kernel) rfl rfl (rc_of F 3 5 rfl rfl) (Nat.le_of_ble_eq_true rfl) (c2 := 0) (s2 := 0) (Nat.zero_le _) (Nat.zero_le _) rfl rfl (st1 := [.int (bI (decide (cnt f 144 = 1)))]) rfl ?_
  exact g_bret 7 F R dX8_isSure_7 (Nat.zero_le _) (Nat.zero_le _) (⟨rfl, rfl⟩)

set_option maxHeartbeats 4000000 in
theorem m_X8_sureCell (l : Launch) (X : gk_X) (w h0 h1 b0 b1 nu ho po : Nat) (ch lo ac bu sl : Int32) (e : Nat → Nat) (f : Nat → Bool)  (he : ∀ k, k < 60 → e k < 3) (hho : ho < 36) (hpo : po < 144) : CtP l X yX8_sureCell cX8_sureCell 1 (some .int) 2 0 0 [.ref w] [[(w, ob 6 [.int (nI (nu)), .int (nI (ho)), .ref h0, .int (nI (po)), .int (ch), .ref b0, .int (lo), .int (ac), .int (bu), .int (sl)])], [(h0, ob 4 [.ref h1])], [(h1, iA X 60 (fun k => nI (e k)))], [(b0, ob 5 [.ref b1])], [(b1, zA X 144 (f))]] (some (.int (nI (first f / 4)))) := by
  unfold CtP
  refine Ct.of (by decide) (Nat.le_of_ble_eq_true rfl) "Bumpward$Walker" "sureCell" rfl rfl (fun K F eL R => ?_)
  subst eL
  show G K X 1 0 0 [[(w, ob 6 [.int (nI (nu)), .int (nI (ho)), .ref h0, .int (nI (po)), .int (ch), .ref b0, .int (lo), .int (ac), .int (bu), .int (sl)])], [(h0, ob 4 [.ref h1])], [(h1, iA X 60 (fun k => nI (e k)))], [(b0, ob 5 [.ref b1])], [(b1, zA X 144 (f))]] [(0, .ref w)] 0 []
  have hfl := first_le f
  refine g_aload_n 0 1 F dX8_sureCell_0 rfl rfl 0 rfl ?_
  refine g_get 1 4 F (ci := 6) in_X8 rfl 5 (by decide) q769 (fun _ h => h) dX8_sureCell_1 rfl 0 rfl (v := .ref b0) rfl ?_
  refine g_callP 3 7 F (CallOk.V (C := "Bumpward$Belief") (b := b0) (As := []) (rest := []) F 0 q439 q440 q441 q73 q442 cdV_X10_first rfl rfl (Nat.le_of_ble_eq_true rfl) (Nat.le_of_ble_eq_true rfl) dX8_sureCell_4) (m_X10_first (kL K) X b0 b1 f ) rfl (Mr := [[(w, ob 6 [.int (nI (nu)), .int (nI (ho)), .ref h0, .int (nI (po)), .int (ch), .ref b0, .int (lo), .int (ac), .int (bu), .int (sl)])], [(h0, ob 4 [.ref h1])], [(h1, iA X 60 (fun k => nI (e k)))]]) [3, 4] [0, 1, 2] rfl 5 rfl (by decide +kernel) rfl rfl (rc_of F 3 5 rfl rfl) (Nat.le_of_ble_eq_true rfl) (c2 := 0) (s2 := 0) (Nat.zero_le _) (Nat.zero_le _) rfl rfl (st1 := [.int (nI (first f))]) rfl ?_
  refine g_iconst 7 8 F (nI (4)) dX8_sureCell_7 rfl (by decide) ?_
  refine g_idiv 8 9 F (v := nI ((first f) / 4)) dX8_sureCell_8 rfl (by decide) (pk_div (by omega) (by omega) (by omega)) ?_
  exact g_iret 9 F R dX8_sureCell_9 (Nat.zero_le _) (Nat.zero_le _) (⟨congrArg (fun z => some (Value.int z)) (by simp [*]), rfl⟩)

set_option maxHeartbeats 4000000 in
theorem m_X8_believe (l : Launch) (X : gk_X) (w h0 b0 nu ho po : Nat) (ch lo ac bu sl : Int32) (nb na : Nat) (g : Nat → Bool)  : Ct l X yX8_believe cX8_believe 2 none 4 2 145 [.ref w, .ref nb] [[(w, ob 6 [.int (nI (nu)), .int (nI (ho)), .ref h0, .int (nI (po)), .int (ch), .ref b0, .int (lo), .int (ac), .int (bu), .int (sl)])], [(nb, ob 5 [.ref na])], [(na, zA X 144 (g))]] (fun v M' => ∃ q qa, v = none ∧ M' = [[(w, ob 6 [.int (nI (nu)), .int (nI (ho)), .ref h0, .int (nI (po)), .int (ch), .ref q, .int (loI g lo), .int (ac), .int (bu), .int (sl)])], [(q, ob 5 [.ref qa])], [(qa, zA X 144 (blF g))]]) := by
  refine Ct.of (by decide) (Nat.le_of_ble_eq_true rfl) "Bumpward$Walker" "believe" rfl rfl (fun K F eL R => ?_)
  subst eL
  show G K X 2 0 0 [[(w, ob 6 [.int (nI (nu)), .int (nI (ho)), .ref h0, .int (nI (po)), .int (ch), .ref b0, .int (lo), .int (ac), .int (bu), .int (sl)])], [(nb, ob 5 [.ref na])], [(na, zA X 144 (g))]] [(0, .ref w), (1, .ref nb)] 0 []
  have hcn := cnt_le g 144
  refine g_aload_n 0 1 F dX8_believe_0 rfl rfl 0 rfl ?_
  refine g_aload_n 1 2 F dX8_believe_1 rfl rfl 1 rfl ?_
  refine g_put 2 5 F (ci := 6) in_X8 tyX8 tyX8_ok nmX8 rfl 5 (by decide) q769 (fun _ h => h) rfl dX8_believe_2 rfl 0 (rfl) (rfl) (Nat.le_of_ble_eq_true rfl) rfl (M' := [[(w, ob 6 [.int (nI (nu)), .int (nI (ho)), .ref h0, .int (nI (po)), .int (ch), .ref nb, .int (lo), .int (ac), .int (bu), .int (sl)])], [(nb, ob 5 [.ref na])], [(na, zA X 144 (g))]]) rfl ?_
  refine g_aload_n 5 6 F dX8_believe_5 rfl rfl 0 rfl ?_
  refine g_get 6 9 F (ci := 6) in_X8 rfl 5 (by decide) q769 (fun _ h => h) dX8_believe_6 rfl 0 rfl (v := .ref nb) rfl ?_
  refine g_callP 3 12 F (CallOk.V (C := "Bumpward$Belief") (b := nb) (As := []) (rest := []) F 0 q500 q300 q301 q73 q302 cdV_X10_size rfl rfl (Nat.le_of_ble_eq_true rfl) (Nat.le_of_ble_eq_true rfl) dX8_believe_9) (m_X10_size (kL K) X nb na g ) rfl (Mr := [[(w, ob 6 [.int (nI (nu)), .int (nI (ho)), .ref h0, .int (nI (po)), .int (ch), .ref nb, .int (lo), .int (ac), .int (bu), .int (sl)])]]) [1, 2] [0] rfl 3 rfl (by decide +kernel) rfl rfl (rc_of F 1 5 rfl rfl) (Nat.le_of_ble_eq_true rfl) (c2 := 0) (s2 := 0) (Nat.zero_le _) (Nat.zero_le _) rfl rfl (st1 := [.int (nI (cnt g 144))]) rfl ?_
  refine g_ifN_le 12 15 16 F dX8_believe_12 rfl (by decide) (by omega) (fun c_1 => ?_) (fun c_1 => ?_)
  · refine g_aload_n 16 17 F dX8_believe_16 rfl rfl 0 rfl ?_
    refine g_call 3 20 F (CallOk.S (As := []) (rest := [.ref w]) F 0 q756 q757 q73 q758 cd_X10_all rfl rfl (Nat.le_of_ble_eq_true rfl) (Nat.le_of_ble_eq_true rfl) dX8_believe_17) (m_X10_all (kL K) X  ) rfl (Mr := [[(w, ob 6 [.int (nI (nu)), .int (nI (ho)), .ref h0, .int (nI (po)), .int (ch), .ref nb, .int (lo), .int (ac), .int (bu), .int (sl)])], [(nb, ob 5 [.ref na])], [(na, zA X 144 (g))]]) [] [0, 1, 2] rfl rfl rfl (rc_T) (Nat.le_of_ble_eq_true rfl) (c2 := 2) (s2 := 145) (Nat.le_refl _) (Nat.le_refl _) rfl rfl (fun v M1 hp => ?_)
    obtain ⟨q_2, a_3, rfl, rfl⟩ := hp
    show G K X 2 2 145 [[(w, ob 6 [.int (nI (nu)), .int (nI (ho)), .ref h0, .int (nI (po)), .int (ch), .ref nb, .int (lo), .int (ac), .int (bu), .int (sl)])], [(nb, ob 5 [.ref na])], [(na, zA X 144 (g))], [(q_2, ob 5 [.ref a_3])], [(a_3, zA X 144 (fun _ => true))]] [(0, .ref w), (1, .ref nb)] 20 [.ref q_2, .ref w]
    refine g_put 20 23 F (ci := 6) in_X8 tyX8 tyX8_ok nmX8 rfl 5 (by decide) q769 (fun _ h => h) rfl dX8_believe_20 rfl 0 (rfl) (rfl) (Nat.le_of_ble_eq_true rfl) rfl (M' := [[(w, ob 6 [.int (nI (nu)), .int (nI (ho)), .ref h0, .int (nI (po)), .int (ch), .ref q_2, .int (lo), .int (ac), .int (bu), .int (sl)])], [(nb, ob 5 [.ref na])], [(na, zA X 144 (g))], [(q_2, ob 5 [.ref a_3])], [(a_3, zA X 144 (fun _ => true))]]) rfl ?_
    refine g_aload_n 23 24 F dX8_believe_23 rfl rfl 0 rfl ?_
    refine g_dup 24 25 F dX8_believe_24 rfl rfl ?_
    refine g_get 25 28 F (ci := 6) in_X8 rfl 6 (by decide) q771 (fun _ h => h) dX8_believe_25 rfl 0 rfl (v := .int (lo)) rfl ?_
    refine g_iconst 28 29 F (nI (1)) dX8_believe_28 rfl (by decide) ?_
    refine g_iadd 29 30 F (v := lo + nI 1) dX8_believe_29 rfl (rfl) ?_
    refine g_put 30 33 F (ci := 6) in_X8 tyX8 tyX8_ok nmX8 rfl 6 (by decide) q771 (fun _ h => h) rfl dX8_believe_30 rfl 0 (rfl) (rfl) (Nat.le_of_ble_eq_true rfl) rfl (M' := [[(w, ob 6 [.int (nI (nu)), .int (nI (ho)), .ref h0, .int (nI (po)), .int (ch), .ref q_2, .int (lo + nI 1), .int (ac), .int (bu), .int (sl)])], [(nb, ob 5 [.ref na])], [(na, zA X 144 (g))], [(q_2, ob 5 [.ref a_3])], [(a_3, zA X 144 (fun _ => true))]]) rfl ?_
    refine g_sel [[(w, ob 6 [.int (nI (nu)), .int (nI (ho)), .ref h0, .int (nI (po)), .int (ch), .ref q_2, .int (lo + nI 1), .int (ac), .int (bu), .int (sl)])], [(q_2, ob 5 [.ref a_3])], [(a_3, zA X 144 (fun _ => true))]] [0, 3, 4] rfl rfl ?_
    exact g_vret 33 F R dX8_believe_33 (Nat.le_refl _) (Nat.le_refl _) (⟨q_2, a_3, rfl, by first | rw [blF_0 c_1, loI_0 c_1] | rw [blF_p c_1, loI_p c_1]⟩)
  · exact g_vret 15 F R dX8_believe_15 (Nat.zero_le _) (Nat.zero_le _) (⟨nb, na, rfl, by first | rw [blF_0 c_1, loI_0 c_1] | rw [blF_p c_1, loI_p c_1]⟩)

set_option maxHeartbeats 4000000 in
theorem m_X8_comingHome (l : Launch) (X : gk_X) (w h0 h1 b0 b1 nu ho po : Nat) (ch lo ac bu sl : Int32) (e : Nat → Nat) (f : Nat → Bool)  (he : ∀ k, k < 60 → e k < 3) (hho : ho < 36) (hpo : po < 144) : CtP l X yX8_comingHome cX8_comingHome 1 (some .int) 7 1 36 [.ref w] [[(w, ob 6 [.int (nI (nu)), .int (nI (ho)), .ref h0, .int (nI (po)), .int (ch), .ref b0, .int (lo), .int (ac), .int (bu), .int (sl)])], [(h0, ob 4 [.ref h1])], [(h1, iA X 60 (fun k => nI (e k)))], [(b0, ob 5 [.ref b1])], [(b1, zA X 144 (f))]] (some (.int (chI e f ho))) := by
  unfold CtP
  refine Ct.of (by decide) (Nat.le_of_ble_eq_true rfl) "Bumpward$Walker" "comingHome" rfl rfl (fun K F eL R => ?_)
  subst eL
  show G K X 1 0 0 [[(w, ob 6 [.int (nI (nu)), .int (nI (ho)), .ref h0, .int (nI (po)), .int (ch), .ref b0, .int (lo), .int (ac), .int (bu), .int (sl)])], [(h0, ob 4 [.ref h1])], [(h1, iA X 60 (fun k => nI (e k)))], [(b0, ob 5 [.ref b1])], [(b1, zA X 144 (f))]] [(0, .ref w)] 0 []
  have hfl := first_le f
  refine g_aload_n 0 1 F dX8_comingHome_0 rfl rfl 0 rfl ?_
  refine g_callP 3 4 F (CallOk.V (C := "Bumpward$Walker") (b := w) (As := []) (rest := []) F 0 q434 q415 q416 q71 q417 cdV_X8_isSure rfl rfl (Nat.le_of_ble_eq_true rfl) (Nat.le_of_ble_eq_true rfl) dX8_comingHome_1) (m_X8_isSure (kL K) X w h0 h1 b0 b1 nu ho po ch lo ac bu sl e f (by omega) (by omega) (by omega)) rfl (Mr := []) [0, 1, 2, 3, 4] [] rfl 5 rfl (by decide +kernel) rfl rfl (rc_of F 0 6 rfl rfl) (Nat.le_of_ble_eq_true rfl) (c2 := 0) (s2 := 0) (Nat.zero_le _) (Nat.zero_le _) rfl rfl (st1 := [.int (bI (decide (cnt f 144 = 1)))]) rfl ?_
  refine g_ifB_eq 4 7 26 F dX8_comingHome_4 rfl (by decide) (fun c_1 => ?_) (fun c_1 => ?_)
  · refine g_bipush 26 28 F (-2) dX8_comingHome_26 rfl (by decide) ?_
    exact g_iret 28 F R dX8_comingHome_28 (Nat.zero_le _) (Nat.zero_le _) (⟨congrArg (fun z => some (Value.int z)) (by first | rw [chI, if_neg (of_decide_eq_false c_1)] | rw [chI, if_pos (of_decide_eq_true c_1)]), rfl⟩)
  · refine g_aload_n 7 8 F dX8_comingHome_7 rfl rfl 0 rfl ?_
    refine g_get 8 11 F (ci := 6) in_X8 rfl 2 (by decide) q763 (fun _ h => h) dX8_comingHome_8 rfl 0 rfl (v := .ref h0) rfl ?_
    refine g_aload_n 11 12 F dX8_comingHome_11 rfl rfl 0 rfl ?_
    refine g_callP 3 15 F (CallOk.V (C := "Bumpward$Walker") (b := w) (As := []) (rest := [.ref h0]) F 0 q435 q436 q437 q71 q438 cdV_X8_sureCell rfl rfl (Nat.le_of_ble_eq_true rfl) (Nat.le_of_ble_eq_true rfl) dX8_comingHome_12) (m_X8_sureCell (kL K) X w h0 h1 b0 b1 nu ho po ch lo ac bu sl e f (by omega) (by omega) (by omega)) rfl (Mr := []) [0, 1, 2, 3, 4] [] rfl 5 rfl (by decide +kernel) rfl rfl (rc_of F 0 6 rfl rfl) (Nat.le_of_ble_eq_true rfl) (c2 := 0) (s2 := 0) (Nat.zero_le _) (Nat.zero_le _) rfl rfl (st1 := [.int (nI (first f / 4)), .ref h0]) rfl ?_
    refine g_call 3 18 F (CallOk.V (C := "Bumpward$Plan") (b := h0) (As := [.int (nI (first f / 4))]) (rest := []) F 1 q443 q444 q445 q72 q446 cdV_X9_ways rfl rfl (Nat.le_of_ble_eq_true rfl) (Nat.le_of_ble_eq_true rfl) dX8_comingHome_15) (m_X9_ways (kL K) X h0 h1 e (first f / 4) (by omega) (by omega)) rfl (Mr := [[(w, ob 6 [.int (nI (nu)), .int (nI (ho)), .ref h0, .int (nI (po)), .int (ch), .ref b0, .int (lo), .int (ac), .int (bu), .int (sl)])], [(b0, ob 5 [.ref b1])], [(b1, zA X 144 (f))]]) [1, 2] [0, 3, 4] rfl rfl rfl (rc_of F 1 4 rfl rfl) (Nat.le_of_ble_eq_true rfl) (c2 := 1) (s2 := 36) (Nat.le_refl _) (Nat.le_refl _) rfl rfl (fun v M1 hp => ?_)
    obtain ⟨q_2, rfl, rfl⟩ := hp
    show G K X 1 1 36 [[(w, ob 6 [.int (nI (nu)), .int (nI (ho)), .ref h0, .int (nI (po)), .int (ch), .ref b0, .int (lo), .int (ac), .int (bu), .int (sl)])], [(b0, ob 5 [.ref b1])], [(b1, zA X 144 (f))], [(h0, ob 4 [.ref h1])], [(h1, iA X 60 (fun k => nI (e k)))], [(q_2, iA X 36 (wyF e (first f / 4)))]] [(0, .ref w)] 18 [.ref q_2]
    refine g_aload_n 18 19 F dX8_comingHome_18 rfl rfl 0 rfl ?_
    refine g_get 19 22 F (ci := 6) in_X8 rfl 1 (by decide) q761 (fun _ h => h) dX8_comingHome_19 rfl 0 rfl (v := .int (nI (ho))) rfl ?_
    refine g_iald 22 23 F dX8_comingHome_22 rfl 5 (i := ho) rfl (Nat.le_of_ble_eq_true rfl) (by omega) ?_
    refine g_goto 23 28 F dX8_comingHome_23 (by decide) ?_
    refine g_sel [[(w, ob 6 [.int (nI (nu)), .int (nI (ho)), .ref h0, .int (nI (po)), .int (ch), .ref b0, .int (lo), .int (ac), .int (bu), .int (sl)])], [(h0, ob 4 [.ref h1])], [(h1, iA X 60 (fun k => nI (e k)))], [(b0, ob 5 [.ref b1])], [(b1, zA X 144 (f))]] [0, 3, 4, 1, 2] rfl rfl ?_
    exact g_iret 28 F R dX8_comingHome_28 (Nat.le_refl _) (Nat.le_refl _) (⟨congrArg (fun z => some (Value.int z)) (by first | rw [chI, if_neg (of_decide_eq_false c_1)] | rw [chI, if_pos (of_decide_eq_true c_1)]), rfl⟩)

set_option maxHeartbeats 4000000 in
theorem m_X8_cost (l : Launch) (X : gk_X) (w h0 h1 b0 b1 nu ho po : Nat) (ch lo ac bu sl : Int32) (e : Nat → Nat) (f : Nat → Bool)  (he : ∀ k, k < 60 → e k < 3) (hho : ho < 36) (hpo : po < 144) : CtP l X yX8_cost cX8_cost 1 (some .int) 8 2 72 [.ref w] [[(w, ob 6 [.int (nI (nu)), .int (nI (ho)), .ref h0, .int (nI (po)), .int (ch), .ref b0, .int (lo), .int (ac), .int (bu), .int (sl)])], [(h0, ob 4 [.ref h1])], [(h1, iA X 60 (fun k => nI (e k)))], [(b0, ob 5 [.ref b1])], [(b1, zA X 144 (f))]] (some (.int (coI e f ho))) := by
  unfold CtP
  refine Ct.of (by decide) (Nat.le_of_ble_eq_true rfl) "Bumpward$Walker" "cost" rfl rfl (fun K F eL R => ?_)
  subst eL
  show G K X 1 0 0 [[(w, ob 6 [.int (nI (nu)), .int (nI (ho)), .ref h0, .int (nI (po)), .int (ch), .ref b0, .int (lo), .int (ac), .int (bu), .int (sl)])], [(h0, ob 4 [.ref h1])], [(h1, iA X 60 (fun k => nI (e k)))], [(b0, ob 5 [.ref b1])], [(b1, zA X 144 (f))]] [(0, .ref w)] 0 []
  refine g_aload_n 0 1 F dX8_cost_0 rfl rfl 0 rfl ?_
  refine g_callP 3 4 F (CallOk.V (C := "Bumpward$Walker") (b := w) (As := []) (rest := []) F 0 q462 q431 q432 q71 q433 cdV_X8_comingHome rfl rfl (Nat.le_of_ble_eq_true rfl) (Nat.le_of_ble_eq_true rfl) dX8_cost_1) (m_X8_comingHome (kL K) X w h0 h1 b0 b1 nu ho po ch lo ac bu sl e f (by omega) (by omega) (by omega)) rfl (Mr := []) [0, 1, 2, 3, 4] [] rfl 5 rfl (by decide +kernel) rfl rfl (rc_of F 0 6 rfl rfl) (Nat.le_of_ble_eq_true rfl) (c2 := 1) (s2 := 36) (Nat.le_of_ble_eq_true rfl) (Nat.le_of_ble_eq_true rfl) rfl rfl (st1 := [.int (chI e f ho)]) rfl ?_
  refine g_if_ge 4 7 14 F dX8_cost_4 rfl (by decide) (fun c_1 => ?_) (fun c_1 => ?_)
  · refine g_iconst 14 15 F (nI (2)) dX8_cost_14 rfl (by decide) ?_
    refine g_aload_n 15 16 F dX8_cost_15 rfl rfl 0 rfl ?_
    refine g_callP 3 19 F (CallOk.V (C := "Bumpward$Walker") (b := w) (As := []) (rest := [.int (nI (2))]) F 0 q462 q431 q432 q71 q433 cdV_X8_comingHome rfl rfl (Nat.le_of_ble_eq_true rfl) (Nat.le_of_ble_eq_true rfl) dX8_cost_16) (m_X8_comingHome (kL K) X w h0 h1 b0 b1 nu ho po ch lo ac bu sl e f (by omega) (by omega) (by omega)) rfl (Mr := []) [0, 1, 2, 3, 4] [] rfl 5 rfl (by decide +kernel) rfl rfl (rc_of F 0 6 rfl rfl) (Nat.le_of_ble_eq_true rfl) (c2 := 2) (s2 := 72) (Nat.le_refl _) (Nat.le_refl _) rfl rfl (st1 := [.int (chI e f ho), .int (nI (2))]) rfl ?_
    refine g_imul 19 20 F (v := (nI (2)) * (chI e f ho)) dX8_cost_19 rfl (rfl) ?_
    refine g_iconst 20 21 F (nI (2)) dX8_cost_20 rfl (by decide) ?_
    refine g_iadd 21 22 F (v := ((nI (2)) * (chI e f ho)) + (nI (2))) dX8_cost_21 rfl (rfl) ?_
    exact g_iret 22 F R dX8_cost_22 (Nat.le_refl _) (Nat.le_refl _) (⟨congrArg (fun z => some (Value.int z)) (by first | rw [coI, if_pos (Int32.not_le.mp c_1)] | rw [coI, if_neg (Int32.not_lt.mpr c_1)]), rfl⟩)
  · refine g_aload_n 7 8 F dX8_cost_7 rfl rfl 0 rfl ?_
    refine g_callP 3 11 F (CallOk.V (C := "Bumpward$Walker") (b := w) (As := []) (rest := []) F 0 q462 q431 q432 q71 q433 cdV_X8_comingHome rfl rfl (Nat.le_of_ble_eq_true rfl) (Nat.le_of_ble_eq_true rfl) dX8_cost_8) (m_X8_comingHome (kL K) X w h0 h1 b0 b1 nu ho po ch lo ac bu sl e f (by omega) (by omega) (by omega)) rfl (Mr := []) [0, 1, 2, 3, 4] [] rfl 5 rfl (by decide +kernel) rfl rfl (rc_of F 0 6 rfl rfl) (Nat.le_of_ble_eq_true rfl) (c2 := 2) (s2 := 72) (Nat.le_refl _) (Nat.le_refl _) rfl rfl (st1 := [.int (chI e f ho)]) rfl ?_
    refine g_goto 11 22 F dX8_cost_11 (by decide) ?_
    exact g_iret 22 F R dX8_cost_22 (Nat.le_refl _) (Nat.le_refl _) (⟨congrArg (fun z => some (Value.int z)) (by first | rw [coI, if_pos (Int32.not_le.mp c_1)] | rw [coI, if_neg (Int32.not_lt.mpr c_1)]), rfl⟩)

set_option maxHeartbeats 4000000 in
theorem m_X8_isSafe (l : Launch) (X : gk_X) (w h0 h1 b0 b1 nu ho po : Nat) (ch lo ac bu sl : Int32) (e : Nat → Nat) (f : Nat → Bool)  (he : ∀ k, k < 60 → e k < 3) (hho : ho < 36) (hpo : po < 144) : CtP l X yX8_isSafe cX8_isSafe 1 (some .boolean) 9 4 144 [.ref w] [[(w, ob 6 [.int (nI (nu)), .int (nI (ho)), .ref h0, .int (nI (po)), .int (ch), .ref b0, .int (lo), .int (ac), .int (bu), .int (sl)])], [(h0, ob 4 [.ref h1])], [(h1, iA X 60 (fun k => nI (e k)))], [(b0, ob 5 [.ref b1])], [(b1, zA X 144 (f))]] (some (.int (bI (sfB e f ho ch)))) := by
  unfold CtP
  refine Ct.of (by decide) (Nat.le_of_ble_eq_true rfl) "Bumpward$Walker" "isSafe" rfl rfl (fun K F eL R => ?_)
  subst eL
  show G K X 1 0 0 [[(w, ob 6 [.int (nI (nu)), .int (nI (ho)), .ref h0, .int (nI (po)), .int (ch), .ref b0, .int (lo), .int (ac), .int (bu), .int (sl)])], [(h0, ob 4 [.ref h1])], [(h1, iA X 60 (fun k => nI (e k)))], [(b0, ob 5 [.ref b1])], [(b1, zA X 144 (f))]] [(0, .ref w)] 0 []
  refine g_aload_n 0 1 F dX8_isSafe_0 rfl rfl 0 rfl ?_
  refine g_callP 3 4 F (CallOk.V (C := "Bumpward$Walker") (b := w) (As := []) (rest := []) F 0 q467 q459 q460 q71 q461 cdV_X8_cost rfl rfl (Nat.le_of_ble_eq_true rfl) (Nat.le_of_ble_eq_true rfl) dX8_isSafe_1) (m_X8_cost (kL K) X w h0 h1 b0 b1 nu ho po ch lo ac bu sl e f (by omega) (by omega) (by omega)) rfl (Mr := []) [0, 1, 2, 3, 4] [] rfl 5 rfl (by decide +kernel) rfl rfl (rc_of F 0 6 rfl rfl) (Nat.le_of_ble_eq_true rfl) (c2 := 2) (s2 := 72) (Nat.le_of_ble_eq_true rfl) (Nat.le_of_ble_eq_true rfl) rfl rfl (st1 := [.int (coI e f ho)]) rfl ?_
  refine g_if_lt 4 7 28 F dX8_isSafe_4 rfl (by decide) (fun c_1 => ?_) (fun c_1 => ?_)
  · refine g_aload_n 28 29 F dX8_isSafe_28 rfl rfl 0 rfl ?_
    refine g_get 29 32 F (ci := 6) in_X8 rfl 4 (by decide) q767 (fun _ h => h) dX8_isSafe_29 rfl 0 rfl (v := .int (ch)) rfl ?_
    refine g_bipush 32 34 F (nI (20)) dX8_isSafe_32 rfl (by decide) ?_
    refine g_dia_le 34 41 42 F dX8_isSafe_34 (by decide) dX8_isSafe_37 dX8_isSafe_38 (by decide) dX8_isSafe_41 rfl ?_
    exact g_bret 42 F R dX8_isSafe_42 (Nat.le_of_ble_eq_true rfl) (Nat.le_of_ble_eq_true rfl) (⟨congrArg (fun z => some (Value.int z)) (by first | rw [sfB, if_neg (Int32.not_le.mpr c_1)] | (rw [sfB, if_pos (Int32.not_lt.mp c_1), decide_eq_false (Int32.not_le.mpr c_2)]; rfl) | (rw [sfB, if_pos (Int32.not_lt.mp c_1), decide_eq_true (Int32.not_lt.mp c_2)]; rfl)), rfl⟩)
  · refine g_aload_n 7 8 F dX8_isSafe_7 rfl rfl 0 rfl ?_
    refine g_get 8 11 F (ci := 6) in_X8 rfl 4 (by decide) q767 (fun _ h => h) dX8_isSafe_8 rfl 0 rfl (v := .int (ch)) rfl ?_
    refine g_iconst 11 12 F (nI (1)) dX8_isSafe_11 rfl (by decide) ?_
    refine g_isub 12 13 F (v := ch - (nI (1))) dX8_isSafe_12 rfl (rfl) ?_
    refine g_aload_n 13 14 F dX8_isSafe_13 rfl rfl 0 rfl ?_
    refine g_callP 3 17 F (CallOk.V (C := "Bumpward$Walker") (b := w) (As := []) (rest := [.int (ch - (nI (1)))]) F 0 q467 q459 q460 q71 q461 cdV_X8_cost rfl rfl (Nat.le_of_ble_eq_true rfl) (Nat.le_of_ble_eq_true rfl) dX8_isSafe_14) (m_X8_cost (kL K) X w h0 h1 b0 b1 nu ho po ch lo ac bu sl e f (by omega) (by omega) (by omega)) rfl (Mr := []) [0, 1, 2, 3, 4] [] rfl 5 rfl (by decide +kernel) rfl rfl (rc_of F 0 6 rfl rfl) (Nat.le_of_ble_eq_true rfl) (c2 := 4) (s2 := 144) (Nat.le_refl _) (Nat.le_refl _) rfl rfl (st1 := [.int (coI e f ho), .int (ch - (nI (1)))]) rfl ?_
    refine g_icmp_lt 17 20 24 F dX8_isSafe_17 rfl (by decide) (fun c_2 => ?_) (fun c_2 => ?_)
    · refine g_iconst 24 25 F (nI (0)) dX8_isSafe_24 rfl (by decide) ?_
      refine g_goto 25 42 F dX8_isSafe_25 (by decide) ?_
      exact g_zret 42 F R dX8_isSafe_42 (Nat.le_refl _) (Nat.le_refl _) (by decide) (⟨congrArg (fun z => some (Value.int z)) (by first | rw [sfB, if_neg (Int32.not_le.mpr c_1)] | (rw [sfB, if_pos (Int32.not_lt.mp c_1), decide_eq_false (Int32.not_le.mpr c_2)]; rfl) | (rw [sfB, if_pos (Int32.not_lt.mp c_1), decide_eq_true (Int32.not_lt.mp c_2)]; rfl)), rfl⟩)
    · refine g_iconst 20 21 F (nI (1)) dX8_isSafe_20 rfl (by decide) ?_
      refine g_goto 21 42 F dX8_isSafe_21 (by decide) ?_
      exact g_zret 42 F R dX8_isSafe_42 (Nat.le_refl _) (Nat.le_refl _) (by decide) (⟨congrArg (fun z => some (Value.int z)) (by first | rw [sfB, if_neg (Int32.not_le.mpr c_1)] | (rw [sfB, if_pos (Int32.not_lt.mp c_1), decide_eq_false (Int32.not_le.mpr c_2)]; rfl) | (rw [sfB, if_pos (Int32.not_lt.mp c_1), decide_eq_true (Int32.not_lt.mp c_2)]; rfl)), rfl⟩)

set_option maxHeartbeats 4000000 in
theorem m_X8_goal (l : Launch) (X : gk_X) (w h0 h1 b0 b1 nu ho po : Nat) (ch lo ac bu sl : Int32) (e : Nat → Nat) (f : Nat → Bool)  (he : ∀ k, k < 60 → e k < 3) (hho : ho < 36) (hpo : po < 144) : CtP l X yX8_goal cX8_goal 4 (some .int) 7 1 36 [.ref w] [[(w, ob 6 [.int (nI (nu)), .int (nI (ho)), .ref h0, .int (nI (po)), .int (ch), .ref b0, .int (lo), .int (ac), .int (bu), .int (sl)])], [(h0, ob 4 [.ref h1])], [(h1, iA X 60 (fun k => nI (e k)))], [(b0, ob 5 [.ref b1])], [(b1, zA X 144 (f))]] (some (.int (goI e f))) := by
  unfold CtP
  refine Ct.of (by decide) (Nat.le_of_ble_eq_true rfl) "Bumpward$Walker" "goal" rfl rfl (fun K F eL R => ?_)
  subst eL
  show G K X 4 0 0 [[(w, ob 6 [.int (nI (nu)), .int (nI (ho)), .ref h0, .int (nI (po)), .int (ch), .ref b0, .int (lo), .int (ac), .int (bu), .int (sl)])], [(h0, ob 4 [.ref h1])], [(h1, iA X 60 (fun k => nI (e k)))], [(b0, ob 5 [.ref b1])], [(b1, zA X 144 (f))]] [(0, .ref w)] 0 []
  have hfl := first_le f
  refine g_aload_n 0 1 F dX8_goal_0 rfl rfl 0 rfl ?_
  refine g_callP 3 4 F (CallOk.V (C := "Bumpward$Walker") (b := w) (As := []) (rest := []) F 0 q434 q415 q416 q71 q417 cdV_X8_isSure rfl rfl (Nat.le_of_ble_eq_true rfl) (Nat.le_of_ble_eq_true rfl) dX8_goal_1) (m_X8_isSure (kL K) X w h0 h1 b0 b1 nu ho po ch lo ac bu sl e f (by omega) (by omega) (by omega)) rfl (Mr := []) [0, 1, 2, 3, 4] [] rfl 5 rfl (by decide +kernel) rfl rfl (rc_of F 0 6 rfl rfl) (Nat.le_of_ble_eq_true rfl) (c2 := 0) (s2 := 0) (Nat.zero_le _) (Nat.zero_le _) rfl rfl (st1 := [.int (bI (decide (cnt f 144 = 1)))]) rfl ?_
  refine g_ifB_ne 4 7 10 F dX8_goal_4 rfl (by decide) (fun c_1 => ?_) (fun c_1 => ?_)
  · refine g_aload_n 10 11 F dX8_goal_10 rfl rfl 0 rfl ?_
    refine g_get 11 14 F (ci := 6) in_X8 rfl 2 (by decide) q763 (fun _ h => h) dX8_goal_11 rfl 0 rfl (v := .ref h0) rfl ?_
    refine g_aload_n 14 15 F dX8_goal_14 rfl rfl 0 rfl ?_
    refine g_callP 3 18 F (CallOk.V (C := "Bumpward$Walker") (b := w) (As := []) (rest := [.ref h0]) F 0 q435 q436 q437 q71 q438 cdV_X8_sureCell rfl rfl (Nat.le_of_ble_eq_true rfl) (Nat.le_of_ble_eq_true rfl) dX8_goal_15) (m_X8_sureCell (kL K) X w h0 h1 b0 b1 nu ho po ch lo ac bu sl e f (by omega) (by omega) (by omega)) rfl (Mr := []) [0, 1, 2, 3, 4] [] rfl 5 rfl (by decide +kernel) rfl rfl (rc_of F 0 6 rfl rfl) (Nat.le_of_ble_eq_true rfl) (c2 := 0) (s2 := 0) (Nat.zero_le _) (Nat.zero_le _) rfl rfl (st1 := [.int (nI (first f / 4)), .ref h0]) rfl ?_
    refine g_call 3 21 F (CallOk.V (C := "Bumpward$Plan") (b := h0) (As := [.int (nI (first f / 4))]) (rest := []) F 1 q443 q444 q445 q72 q446 cdV_X9_ways rfl rfl (Nat.le_of_ble_eq_true rfl) (Nat.le_of_ble_eq_true rfl) dX8_goal_18) (m_X9_ways (kL K) X h0 h1 e (first f / 4) (by omega) (by omega)) rfl (Mr := [[(w, ob 6 [.int (nI (nu)), .int (nI (ho)), .ref h0, .int (nI (po)), .int (ch), .ref b0, .int (lo), .int (ac), .int (bu), .int (sl)])], [(b0, ob 5 [.ref b1])], [(b1, zA X 144 (f))]]) [1, 2] [0, 3, 4] rfl rfl rfl (rc_of F 1 4 rfl rfl) (Nat.le_of_ble_eq_true rfl) (c2 := 1) (s2 := 36) (Nat.le_refl _) (Nat.le_refl _) rfl rfl (fun v M1 hp => ?_)
    obtain ⟨q_2, rfl, rfl⟩ := hp
    show G K X 4 1 36 [[(w, ob 6 [.int (nI (nu)), .int (nI (ho)), .ref h0, .int (nI (po)), .int (ch), .ref b0, .int (lo), .int (ac), .int (bu), .int (sl)])], [(b0, ob 5 [.ref b1])], [(b1, zA X 144 (f))], [(h0, ob 4 [.ref h1])], [(h1, iA X 60 (fun k => nI (e k)))], [(q_2, iA X 36 (wyF e (first f / 4)))]] [(0, .ref w)] 21 [.ref q_2]
    refine g_astore_n 21 22 F [(1, .ref q_2), (0, .ref w)] dX8_goal_21 rfl rfl (Nat.le_of_ble_eq_true rfl) rfl ?_
    refine g_iconst 22 23 F (-1) dX8_goal_22 rfl (by decide) ?_
    refine g_istore_n 23 24 F [(2, .int (-1)), (1, .ref q_2), (0, .ref w)] dX8_goal_23 rfl rfl (Nat.le_of_ble_eq_true rfl) rfl ?_
    refine g_iconst 24 25 F (nI (0)) dX8_goal_24 rfl (by decide) ?_
    refine g_istore_n 25 26 F [(3, .int (nI (0))), (2, .int (-1)), (1, .ref q_2), (0, .ref w)] dX8_goal_25 rfl rfl (Nat.le_of_ble_eq_true rfl) rfl ?_
    refine g_ls [(0, .ref w), (1, .ref q_2), (2, .int (gI (glN (wyF e (first f / 4)) e 0))), (3, .int (nI (0)))] [3, 2, 1, 0] (rfl) ?_
    refine g_down (P := fun k => G K X 4 1 36 [[(w, ob 6 [.int (nI (nu)), .int (nI (ho)), .ref h0, .int (nI (po)), .int (ch), .ref b0, .int (lo), .int (ac), .int (bu), .int (sl)])], [(b0, ob 5 [.ref b1])], [(b1, zA X 144 (f))], [(h0, ob 4 [.ref h1])], [(h1, iA X 60 (fun k => nI (e k)))], [(q_2, iA X 36 (wyF e (first f / 4)))]] [(0, .ref w), (1, .ref q_2), (2, .int (gI (glN (wyF e (first f / 4)) e k))), (3, .int (nI (k)))] 26 []) 36 0 (by omega) ?_ (fun k hl_k hi_k ih_k => ?_)
    · show G K X 4 1 36 [[(w, ob 6 [.int (nI (nu)), .int (nI (ho)), .ref h0, .int (nI (po)), .int (ch), .ref b0, .int (lo), .int (ac), .int (bu), .int (sl)])], [(b0, ob 5 [.ref b1])], [(b1, zA X 144 (f))], [(h0, ob 4 [.ref h1])], [(h1, iA X 60 (fun k => nI (e k)))], [(q_2, iA X 36 (wyF e (first f / 4)))]] [(0, .ref w), (1, .ref q_2), (2, .int (gI (glN (wyF e (first f / 4)) e 36))), (3, .int (nI (36)))] 26 []
      refine g_iload_n 26 27 F dX8_goal_26 rfl rfl 3 rfl ?_
      refine g_bipush 27 29 F (nI (36)) dX8_goal_27 rfl (by decide) ?_
      refine g_icmpN_ge 29 32 72 F dX8_goal_29 rfl (by decide) (by omega) (by omega) (fun c_3 => ?_) (fun c_3 => ?_)
      · refine g_iload_n 72 73 F dX8_goal_72 rfl rfl 2 rfl ?_
        refine g_sel [[(w, ob 6 [.int (nI (nu)), .int (nI (ho)), .ref h0, .int (nI (po)), .int (ch), .ref b0, .int (lo), .int (ac), .int (bu), .int (sl)])], [(h0, ob 4 [.ref h1])], [(h1, iA X 60 (fun k => nI (e k)))], [(b0, ob 5 [.ref b1])], [(b1, zA X 144 (f))]] [0, 3, 4, 1, 2] rfl rfl ?_
        exact g_iret 73 F R dX8_goal_73 (Nat.le_refl _) (Nat.le_refl _) (⟨congrArg (fun z => some (Value.int z)) (by first | rw [goI, if_neg (of_decide_eq_false c_1)] | rw [goI, if_pos (of_decide_eq_true c_1)]), rfl⟩)
      · exact absurd c_3 (by omega)
    · show G K X 4 1 36 [[(w, ob 6 [.int (nI (nu)), .int (nI (ho)), .ref h0, .int (nI (po)), .int (ch), .ref b0, .int (lo), .int (ac), .int (bu), .int (sl)])], [(b0, ob 5 [.ref b1])], [(b1, zA X 144 (f))], [(h0, ob 4 [.ref h1])], [(h1, iA X 60 (fun k => nI (e k)))], [(q_2, iA X 36 (wyF e (first f / 4)))]] [(0, .ref w), (1, .ref q_2), (2, .int (gI (glN (wyF e (first f / 4)) e k))), (3, .int (nI (k)))] 26 []
      have hgl := glN_lt (wyF e (first f / 4)) e k (by omega)
      refine g_iload_n 26 27 F dX8_goal_26 rfl rfl 3 rfl ?_
      refine g_bipush 27 29 F (nI (36)) dX8_goal_27 rfl (by decide) ?_
      refine g_icmpN_ge 29 32 72 F dX8_goal_29 rfl (by decide) (by omega) (by omega) (fun c_4 => ?_) (fun c_4 => ?_)
      · exact absurd c_4 (by omega)
      · refine g_aload_n 32 33 F dX8_goal_32 rfl rfl 1 rfl ?_
        refine g_iload_n 33 34 F dX8_goal_33 rfl rfl 3 rfl ?_
        refine g_iald 34 35 F dX8_goal_34 rfl 5 (i := k) rfl (Nat.le_of_ble_eq_true rfl) (by omega) ?_
        refine g_iconst 35 36 F (-1) dX8_goal_35 rfl (by decide) ?_
        refine g_icmp_eq 36 39 66 F dX8_goal_36 rfl (by decide) (fun c_5 => ?_) (fun c_5 => ?_)
        · have hcond : ¬ glC (wyF e (first f / 4)) e k := fun h => h.1 c_5
          refine g_iinc 66 69 F (v := nI (k + 1)) [(3, .int (nI (k + 1))), (0, .ref w), (1, .ref q_2), (2, .int (gI (glN (wyF e (first f / 4)) e k)))] dX8_goal_66 rfl 3 rfl (nI_add _ _) (Nat.le_of_ble_eq_true rfl) rfl ?_
          refine g_goto 69 26 F dX8_goal_69 (by decide) ?_
          refine g_ls [(0, .ref w), (1, .ref q_2), (2, .int (gI (glN (wyF e (first f / 4)) e (k + 1)))), (3, .int (nI (k + 1)))] [1, 2, 3, 0] (by first | (rw [gl_take hi_k hcond]; rfl) | (rw [gl_keep hcond]; rfl)) ?_
          exact ih_k
        · have hA := c_5
          refine g_aload_n 39 40 F dX8_goal_39 rfl rfl 0 rfl ?_
          refine g_get 40 43 F (ci := 6) in_X8 rfl 2 (by decide) q763 (fun _ h => h) dX8_goal_40 rfl 0 rfl (v := .ref h0) rfl ?_
          refine g_iload_n 43 44 F dX8_goal_43 rfl rfl 3 rfl ?_
          refine g_callP 3 47 F (CallOk.V (C := "Bumpward$Plan") (b := h0) (As := [.int (nI (k))]) (rest := []) F 1 q472 q473 q474 q72 q475 cdV_X9_isOpenEnded rfl rfl (Nat.le_of_ble_eq_true rfl) (Nat.le_of_ble_eq_true rfl) dX8_goal_44) (m_X9_isOpenEnded (kL K) X h0 h1 e k (by omega) (by omega)) rfl (Mr := [[(w, ob 6 [.int (nI (nu)), .int (nI (ho)), .ref h0, .int (nI (po)), .int (ch), .ref b0, .int (lo), .int (ac), .int (bu), .int (sl)])], [(b0, ob 5 [.ref b1])], [(b1, zA X 144 (f))], [(q_2, iA X 36 (wyF e (first f / 4)))]]) [3, 4] [0, 1, 2, 5] rfl 6 rfl (by decide +kernel) rfl rfl (rc_of F 3 4 rfl rfl) (Nat.le_of_ble_eq_true rfl) (c2 := 1) (s2 := 36) (Nat.le_refl _) (Nat.le_refl _) rfl rfl (st1 := [.int (bI (oeN e k 4))]) rfl ?_
          refine g_ifB_eq 47 50 66 F dX8_goal_47 rfl (by decide) (fun c_6 => ?_) (fun c_6 => ?_)
          · have hcond : ¬ glC (wyF e (first f / 4)) e k := fun h => by rw [glC, c_6] at h; exact absurd h.2.1 (by decide)
            refine g_iinc 66 69 F (v := nI (k + 1)) [(3, .int (nI (k + 1))), (0, .ref w), (1, .ref q_2), (2, .int (gI (glN (wyF e (first f / 4)) e k)))] dX8_goal_66 rfl 3 rfl (nI_add _ _) (Nat.le_of_ble_eq_true rfl) rfl ?_
            refine g_goto 69 26 F dX8_goal_69 (by decide) ?_
            refine g_ls [(0, .ref w), (1, .ref q_2), (2, .int (gI (glN (wyF e (first f / 4)) e (k + 1)))), (3, .int (nI (k + 1)))] [1, 2, 3, 0] (by first | (rw [gl_take hi_k hcond]; rfl) | (rw [gl_keep hcond]; rfl)) ?_
            exact ih_k
          · have hO := c_6
            refine g_iload_n 50 51 F dX8_goal_50 rfl rfl 2 rfl ?_
            refine g_iconst 51 52 F (-1) dX8_goal_51 rfl (by decide) ?_
            refine g_icmp_eq 52 55 64 F dX8_goal_52 rfl (by decide) (fun c_7 => ?_) (fun c_7 => ?_)
            · have hcond : glC (wyF e (first f / 4)) e k := ⟨hA, hO, Or.inl ((gI_no (by omega)).mp c_7)⟩
              refine g_iload_n 64 65 F dX8_goal_64 rfl rfl 3 rfl ?_
              refine g_istore_n 65 66 F [(2, .int (nI (k))), (0, .ref w), (1, .ref q_2), (3, .int (nI (k)))] dX8_goal_65 rfl rfl (Nat.le_of_ble_eq_true rfl) rfl ?_
              refine g_iinc 66 69 F (v := nI (k + 1)) [(3, .int (nI (k + 1))), (2, .int (nI (k))), (0, .ref w), (1, .ref q_2)] dX8_goal_66 rfl 3 rfl (nI_add _ _) (Nat.le_of_ble_eq_true rfl) rfl ?_
              refine g_goto 69 26 F dX8_goal_69 (by decide) ?_
              refine g_ls [(0, .ref w), (1, .ref q_2), (2, .int (gI (glN (wyF e (first f / 4)) e (k + 1)))), (3, .int (nI (k + 1)))] [2, 3, 1, 0] (by first | (rw [gl_take hi_k hcond]; rfl) | (rw [gl_keep hcond]; rfl)) ?_
              exact ih_k
            · have hB : ¬ glN (wyF e (first f / 4)) e k = 36 := fun q => c_7 (by rw [q]; rfl)
              refine g_aload_n 55 56 F dX8_goal_55 rfl rfl 1 rfl ?_
              refine g_iload_n 56 57 F dX8_goal_56 rfl rfl 3 rfl ?_
              refine g_iald 57 58 F dX8_goal_57 rfl 5 (i := k) rfl (Nat.le_of_ble_eq_true rfl) (by omega) ?_
              refine g_aload_n 58 59 F dX8_goal_58 rfl rfl 1 rfl ?_
              refine g_iload_n 59 60 F dX8_goal_59 rfl rfl 2 rfl ?_
              refine g_top (v := nI (glN (wyF e (first f / 4)) e k)) (gI_nI hB) ?_
              refine g_iald 60 61 F dX8_goal_60 rfl 5 (i := glN (wyF e (first f / 4)) e k) rfl (Nat.le_of_ble_eq_true rfl) (by omega) ?_
              refine g_icmp_ge 61 64 66 F dX8_goal_61 rfl (by decide) (fun c_8 => ?_) (fun c_8 => ?_)
              · have hcond : ¬ glC (wyF e (first f / 4)) e k := fun h => h.2.2.elim (fun q => hB q) (fun q => absurd q (Int32.not_lt.mpr c_8))
                refine g_iinc 66 69 F (v := nI (k + 1)) [(3, .int (nI (k + 1))), (0, .ref w), (1, .ref q_2), (2, .int (gI (glN (wyF e (first f / 4)) e k)))] dX8_goal_66 rfl 3 rfl (nI_add _ _) (Nat.le_of_ble_eq_true rfl) rfl ?_
                refine g_goto 69 26 F dX8_goal_69 (by decide) ?_
                refine g_ls [(0, .ref w), (1, .ref q_2), (2, .int (gI (glN (wyF e (first f / 4)) e (k + 1)))), (3, .int (nI (k + 1)))] [1, 2, 3, 0] (by first | (rw [gl_take hi_k hcond]; rfl) | (rw [gl_keep hcond]; rfl)) ?_
                exact ih_k
              · have hcond : glC (wyF e (first f / 4)) e k := ⟨hA, hO, Or.inr (Int32.not_le.mp c_8)⟩
                refine g_iload_n 64 65 F dX8_goal_64 rfl rfl 3 rfl ?_
                refine g_istore_n 65 66 F [(2, .int (nI (k))), (0, .ref w), (1, .ref q_2), (3, .int (nI (k)))] dX8_goal_65 rfl rfl (Nat.le_of_ble_eq_true rfl) rfl ?_
                refine g_iinc 66 69 F (v := nI (k + 1)) [(3, .int (nI (k + 1))), (2, .int (nI (k))), (0, .ref w), (1, .ref q_2)] dX8_goal_66 rfl 3 rfl (nI_add _ _) (Nat.le_of_ble_eq_true rfl) rfl ?_
                refine g_goto 69 26 F dX8_goal_69 (by decide) ?_
                refine g_ls [(0, .ref w), (1, .ref q_2), (2, .int (gI (glN (wyF e (first f / 4)) e (k + 1)))), (3, .int (nI (k + 1)))] [2, 3, 1, 0] (by first | (rw [gl_take hi_k hcond]; rfl) | (rw [gl_keep hcond]; rfl)) ?_
                exact ih_k
  · refine g_bipush 7 9 F (-2) dX8_goal_7 rfl (by decide) ?_
    exact g_iret 9 F R dX8_goal_9 (Nat.zero_le _) (Nat.zero_le _) (⟨congrArg (fun z => some (Value.int z)) (by first | rw [goI, if_neg (of_decide_eq_false c_1)] | rw [goI, if_pos (of_decide_eq_true c_1)]), rfl⟩)

set_option maxHeartbeats 4000000 in
theorem m_X8_worst (l : Launch) (X : gk_X) (w h0 h1 b0 b1 nu ho po : Nat) (ch lo ac bu sl : Int32) (e : Nat → Nat) (f : Nat → Bool) (a : Nat) (he : ∀ k, k < 60 → e k < 3) (hho : ho < 36) (hpo : po < 144) (ha : a < 4) : CtP l X yX8_worst cX8_worst 4 (some .int) 8 16 1160 [.ref w, .int (nI (a))] [[(w, ob 6 [.int (nI (nu)), .int (nI (ho)), .ref h0, .int (nI (po)), .int (ch), .ref b0, .int (lo), .int (ac), .int (bu), .int (sl)])], [(h0, ob 4 [.ref h1])], [(h1, iA X 60 (fun k => nI (e k)))], [(b0, ob 5 [.ref b1])], [(b1, zA X 144 (f))]] (some (.int (nI (wsN e f a)))) := by
  unfold CtP
  refine Ct.of (by decide) (Nat.le_of_ble_eq_true rfl) "Bumpward$Walker" "worst" rfl rfl (fun K F eL R => ?_)
  subst eL
  show G K X 4 0 0 [[(w, ob 6 [.int (nI (nu)), .int (nI (ho)), .ref h0, .int (nI (po)), .int (ch), .ref b0, .int (lo), .int (ac), .int (bu), .int (sl)])], [(h0, ob 4 [.ref h1])], [(h1, iA X 60 (fun k => nI (e k)))], [(b0, ob 5 [.ref b1])], [(b1, zA X 144 (f))]] [(0, .ref w), (1, .int (nI (a)))] 0 []
  refine g_iload_n 0 1 F dX8_worst_0 rfl rfl 1 rfl ?_
  refine g_ifN_ne 1 4 38 F dX8_worst_1 rfl (by decide) (by omega) (fun c_1 => ?_) (fun c_1 => ?_)
  · refine g_iload_n 38 39 F dX8_worst_38 rfl rfl 1 rfl ?_
    refine g_iconst 39 40 F (nI (3)) dX8_worst_39 rfl (by decide) ?_
    refine g_icmpN_eq 40 43 51 F dX8_worst_40 rfl (by decide) (by omega) (by omega) (fun c_2 => ?_) (fun c_2 => ?_)
    · refine g_iconst 51 52 F (nI (0)) dX8_worst_51 rfl (by decide) ?_
      refine g_istore_n 52 53 F [(2, .int (nI (0))), (0, .ref w), (1, .int (nI (a)))] dX8_worst_52 rfl rfl (Nat.le_of_ble_eq_true rfl) rfl ?_
      refine g_iconst 53 54 F (nI (0)) dX8_worst_53 rfl (by decide) ?_
      refine g_istore_n 54 55 F [(3, .int (nI (0))), (2, .int (nI (0))), (0, .ref w), (1, .int (nI (a)))] dX8_worst_54 rfl rfl (Nat.le_of_ble_eq_true rfl) rfl ?_
      refine g_ls [(0, .ref w), (1, .int (nI (a))), (2, .int (nI (wfN e f 0))), (3, .int (nI (0)))] [2, 3, 1, 0] (rfl) ?_
      refine g_wid (c2 := 2 * 0) (s2 := 145 * 0) (by omega) (by omega) ?_
      refine g_down (P := fun n => G K X 4 (2 * n) (145 * n) [[(w, ob 6 [.int (nI (nu)), .int (nI (ho)), .ref h0, .int (nI (po)), .int (ch), .ref b0, .int (lo), .int (ac), .int (bu), .int (sl)])], [(h0, ob 4 [.ref h1])], [(h1, iA X 60 (fun k => nI (e k)))], [(b0, ob 5 [.ref b1])], [(b1, zA X 144 (f))]] [(0, .ref w), (1, .int (nI (a))), (2, .int (nI (wfN e f n))), (3, .int (nI (n)))] 55 []) 8 0 (by omega) ?_ (fun n hl_n hi_n ih_n => ?_)
      · show G K X 4 (2 * 8) (145 * 8) [[(w, ob 6 [.int (nI (nu)), .int (nI (ho)), .ref h0, .int (nI (po)), .int (ch), .ref b0, .int (lo), .int (ac), .int (bu), .int (sl)])], [(h0, ob 4 [.ref h1])], [(h1, iA X 60 (fun k => nI (e k)))], [(b0, ob 5 [.ref b1])], [(b1, zA X 144 (f))]] [(0, .ref w), (1, .int (nI (a))), (2, .int (nI (wfN e f 8))), (3, .int (nI (8)))] 55 []
        refine g_iload_n 55 56 F dX8_worst_55 rfl rfl 3 rfl ?_
        refine g_bipush 56 58 F (nI (8)) dX8_worst_56 rfl (by decide) ?_
        refine g_icmpN_ge 58 61 87 F dX8_worst_58 rfl (by decide) (by omega) (by omega) (fun c_3 => ?_) (fun c_3 => ?_)
        · refine g_iload_n 87 88 F dX8_worst_87 rfl rfl 2 rfl ?_
          exact g_iret 88 F R dX8_worst_88 (by omega) (by omega) (⟨congrArg (fun z => some (Value.int z)) (by simp [wsN, *]), rfl⟩)
        · exact absurd c_3 (by omega)
      · show G K X 4 (2 * n) (145 * n) [[(w, ob 6 [.int (nI (nu)), .int (nI (ho)), .ref h0, .int (nI (po)), .int (ch), .ref b0, .int (lo), .int (ac), .int (bu), .int (sl)])], [(h0, ob 4 [.ref h1])], [(h1, iA X 60 (fun k => nI (e k)))], [(b0, ob 5 [.ref b1])], [(b1, zA X 144 (f))]] [(0, .ref w), (1, .int (nI (a))), (2, .int (nI (wfN e f n))), (3, .int (nI (n)))] 55 []
        refine g_iload_n 55 56 F dX8_worst_55 rfl rfl 3 rfl ?_
        refine g_bipush 56 58 F (nI (8)) dX8_worst_56 rfl (by decide) ?_
        refine g_icmpN_ge 58 61 87 F dX8_worst_58 rfl (by decide) (by omega) (by omega) (fun c_4 => ?_) (fun c_4 => ?_)
        · exact absurd c_4 (by omega)
        · refine g_iload_n 61 62 F dX8_worst_61 rfl rfl 2 rfl ?_
          refine g_aload_n 62 63 F dX8_worst_62 rfl rfl 0 rfl ?_
          refine g_get 63 66 F (ci := 6) in_X8 rfl 5 (by decide) q769 (fun _ h => h) dX8_worst_63 rfl 0 rfl (v := .ref b0) rfl ?_
          refine g_aload_n 66 67 F dX8_worst_66 rfl rfl 0 rfl ?_
          refine g_get 67 70 F (ci := 6) in_X8 rfl 2 (by decide) q763 (fun _ h => h) dX8_worst_67 rfl 0 rfl (v := .ref h0) rfl ?_
          refine g_iload_n 70 71 F dX8_worst_70 rfl rfl 3 rfl ?_
          refine g_call 3 74 F (CallOk.V (C := "Bumpward$Belief") (b := b0) (As := [.ref h0, .int (nI (n))]) (rest := [.int (nI (wfN e f n))]) F 2 q504 q505 q506 q73 q507 cdV_X10_felt rfl rfl (Nat.le_of_ble_eq_true rfl) (Nat.le_of_ble_eq_true rfl) dX8_worst_71) (m_X10_felt (kL K) X b0 b1 f h0 h1 e n (by omega) (by omega)) rfl (Mr := [[(w, ob 6 [.int (nI (nu)), .int (nI (ho)), .ref h0, .int (nI (po)), .int (ch), .ref b0, .int (lo), .int (ac), .int (bu), .int (sl)])]]) [3, 4, 1, 2] [0] rfl rfl rfl (rc_of F 3 5 rfl rfl) (Nat.le_of_ble_eq_true rfl) (c2 := 2 * n + 2) (s2 := 145 * n + 145) (by omega) (by omega) rfl rfl (fun v M1 hp => ?_)
          obtain ⟨q_5, a_6, rfl, rfl⟩ := hp
          show G K X 4 (2 * n + 2) (145 * n + 145) [[(w, ob 6 [.int (nI (nu)), .int (nI (ho)), .ref h0, .int (nI (po)), .int (ch), .ref b0, .int (lo), .int (ac), .int (bu), .int (sl)])], [(b0, ob 5 [.ref b1])], [(b1, zA X 144 (f))], [(h0, ob 4 [.ref h1])], [(h1, iA X 60 (fun k => nI (e k)))], [(q_5, ob 5 [.ref a_6])], [(a_6, zA X 144 (ftF e f n))]] [(0, .ref w), (1, .int (nI (a))), (2, .int (nI (wfN e f n))), (3, .int (nI (n)))] 74 [.ref q_5, .int (nI (wfN e f n))]
          refine g_callP 3 77 F (CallOk.V (C := "Bumpward$Belief") (b := q_5) (As := []) (rest := [.int (nI (wfN e f n))]) F 0 q500 q300 q301 q73 q302 cdV_X10_size rfl rfl (Nat.le_of_ble_eq_true rfl) (Nat.le_of_ble_eq_true rfl) dX8_worst_74) (m_X10_size (kL K) X q_5 a_6 (ftF e f n) ) rfl (Mr := [[(w, ob 6 [.int (nI (nu)), .int (nI (ho)), .ref h0, .int (nI (po)), .int (ch), .ref b0, .int (lo), .int (ac), .int (bu), .int (sl)])], [(b0, ob 5 [.ref b1])], [(b1, zA X 144 (f))], [(h0, ob 4 [.ref h1])], [(h1, iA X 60 (fun k => nI (e k)))]]) [5, 6] [0, 1, 2, 3, 4] rfl 7 rfl (by decide +kernel) rfl rfl (rc_of F 5 5 rfl rfl) (Nat.le_of_ble_eq_true rfl) (c2 := 2 * n + 2) (s2 := 145 * n + 145) (by omega) (by omega) rfl rfl (st1 := [.int (nI (cnt (ftF e f n) 144)), .int (nI (wfN e f n))]) rfl ?_
          refine g_mmax 77 80 F (v := nI (wfN e f (n + 1))) q501 q502 q66 q503 dX8_worst_77 rfl (Nat.le_of_ble_eq_true rfl) (Nat.le_of_ble_eq_true rfl) (by omega) (by omega) (mx_nI (Nat.lt_of_le_of_lt (wfN_le _ _ _) (by decide)) (Nat.lt_of_le_of_lt (cnt_le _ _) (by decide))) ?_
          refine g_istore_n 80 81 F [(2, .int (nI (wfN e f (n + 1)))), (0, .ref w), (1, .int (nI (a))), (3, .int (nI (n)))] dX8_worst_80 rfl rfl (Nat.le_of_ble_eq_true rfl) rfl ?_
          refine g_iinc 81 84 F (v := nI (n + 1)) [(3, .int (nI (n + 1))), (2, .int (nI (wfN e f (n + 1)))), (0, .ref w), (1, .int (nI (a)))] dX8_worst_81 rfl 3 rfl (nI_add _ _) (Nat.le_of_ble_eq_true rfl) rfl ?_
          refine g_goto 84 55 F dX8_worst_84 (by decide) ?_
          refine g_sel [[(w, ob 6 [.int (nI (nu)), .int (nI (ho)), .ref h0, .int (nI (po)), .int (ch), .ref b0, .int (lo), .int (ac), .int (bu), .int (sl)])], [(h0, ob 4 [.ref h1])], [(h1, iA X 60 (fun k => nI (e k)))], [(b0, ob 5 [.ref b1])], [(b1, zA X 144 (f))]] [0, 3, 4, 1, 2] rfl rfl ?_
          refine g_ls [(0, .ref w), (1, .int (nI (a))), (2, .int (nI (wfN e f (n + 1)))), (3, .int (nI (n + 1)))] [2, 3, 1, 0] (rfl) ?_
          refine g_wid (c2 := 2 * (n + 1)) (s2 := 145 * (n + 1)) (by omega) (by omega) ?_
          exact ih_n
    · refine g_aload_n 43 44 F dX8_worst_43 rfl rfl 0 rfl ?_
      refine g_get 44 47 F (ci := 6) in_X8 rfl 5 (by decide) q769 (fun _ h => h) dX8_worst_44 rfl 0 rfl (v := .ref b0) rfl ?_
      refine g_callP 3 50 F (CallOk.V (C := "Bumpward$Belief") (b := b0) (As := []) (rest := []) F 0 q500 q300 q301 q73 q302 cdV_X10_size rfl rfl (Nat.le_of_ble_eq_true rfl) (Nat.le_of_ble_eq_true rfl) dX8_worst_47) (m_X10_size (kL K) X b0 b1 f ) rfl (Mr := [[(w, ob 6 [.int (nI (nu)), .int (nI (ho)), .ref h0, .int (nI (po)), .int (ch), .ref b0, .int (lo), .int (ac), .int (bu), .int (sl)])], [(h0, ob 4 [.ref h1])], [(h1, iA X 60 (fun k => nI (e k)))]]) [3, 4] [0, 1, 2] rfl 5 rfl (by decide +kernel) rfl rfl (rc_of F 3 5 rfl rfl) (Nat.le_of_ble_eq_true rfl) (c2 := 0) (s2 := 0) (Nat.zero_le _) (Nat.zero_le _) rfl rfl (st1 := [.int (nI (cnt f 144))]) rfl ?_
      exact g_iret 50 F R dX8_worst_50 (Nat.zero_le _) (Nat.zero_le _) (⟨congrArg (fun z => some (Value.int z)) (by simp [wsN, *]), rfl⟩)
  · refine g_aload_n 4 5 F dX8_worst_4 rfl rfl 0 rfl ?_
    refine g_get 5 8 F (ci := 6) in_X8 rfl 5 (by decide) q769 (fun _ h => h) dX8_worst_5 rfl 0 rfl (v := .ref b0) rfl ?_
    refine g_aload_n 8 9 F dX8_worst_8 rfl rfl 0 rfl ?_
    refine g_get 9 12 F (ci := 6) in_X8 rfl 2 (by decide) q763 (fun _ h => h) dX8_worst_9 rfl 0 rfl (v := .ref h0) rfl ?_
    refine g_iconst 12 13 F (nI (1)) dX8_worst_12 rfl (by decide) ?_
    refine g_top (v := bI (true)) (rfl) ?_
    refine g_call 3 16 F (CallOk.V (C := "Bumpward$Belief") (b := b0) (As := [.ref h0, .int (bI (true))]) (rest := []) F 2 q480 q481 q482 q73 q483 cdV_X10_forward rfl rfl (Nat.le_of_ble_eq_true rfl) (Nat.le_of_ble_eq_true rfl) dX8_worst_13) (m_X10_forward (kL K) X b0 b1 f h0 h1 e true (by omega)) rfl (Mr := [[(w, ob 6 [.int (nI (nu)), .int (nI (ho)), .ref h0, .int (nI (po)), .int (ch), .ref b0, .int (lo), .int (ac), .int (bu), .int (sl)])]]) [3, 4, 1, 2] [0] rfl rfl rfl (rc_of F 3 5 rfl rfl) (Nat.le_of_ble_eq_true rfl) (c2 := 2) (s2 := 145) (Nat.le_of_ble_eq_true rfl) (Nat.le_of_ble_eq_true rfl) rfl rfl (fun v M1 hp => ?_)
    obtain ⟨q_7, a_8, rfl, rfl⟩ := hp
    show G K X 4 2 145 [[(w, ob 6 [.int (nI (nu)), .int (nI (ho)), .ref h0, .int (nI (po)), .int (ch), .ref b0, .int (lo), .int (ac), .int (bu), .int (sl)])], [(b0, ob 5 [.ref b1])], [(b1, zA X 144 (f))], [(h0, ob 4 [.ref h1])], [(h1, iA X 60 (fun k => nI (e k)))], [(q_7, ob 5 [.ref a_8])], [(a_8, zA X 144 (fwF e f true))]] [(0, .ref w), (1, .int (nI (a)))] 16 [.ref q_7]
    refine g_callP 3 19 F (CallOk.V (C := "Bumpward$Belief") (b := q_7) (As := []) (rest := []) F 0 q500 q300 q301 q73 q302 cdV_X10_size rfl rfl (Nat.le_of_ble_eq_true rfl) (Nat.le_of_ble_eq_true rfl) dX8_worst_16) (m_X10_size (kL K) X q_7 a_8 (fwF e f true) ) rfl (Mr := [[(w, ob 6 [.int (nI (nu)), .int (nI (ho)), .ref h0, .int (nI (po)), .int (ch), .ref b0, .int (lo), .int (ac), .int (bu), .int (sl)])], [(b0, ob 5 [.ref b1])], [(b1, zA X 144 (f))], [(h0, ob 4 [.ref h1])], [(h1, iA X 60 (fun k => nI (e k)))]]) [5, 6] [0, 1, 2, 3, 4] rfl 7 rfl (by decide +kernel) rfl rfl (rc_of F 5 5 rfl rfl) (Nat.le_of_ble_eq_true rfl) (c2 := 2) (s2 := 145) (Nat.le_of_ble_eq_true rfl) (Nat.le_of_ble_eq_true rfl) rfl rfl (st1 := [.int (nI (cnt (fwF e f true) 144))]) rfl ?_
    refine g_aload_n 19 20 F dX8_worst_19 rfl rfl 0 rfl ?_
    refine g_get 20 23 F (ci := 6) in_X8 rfl 5 (by decide) q769 (fun _ h => h) dX8_worst_20 rfl 0 rfl (v := .ref b0) rfl ?_
    refine g_aload_n 23 24 F dX8_worst_23 rfl rfl 0 rfl ?_
    refine g_get 24 27 F (ci := 6) in_X8 rfl 2 (by decide) q763 (fun _ h => h) dX8_worst_24 rfl 0 rfl (v := .ref h0) rfl ?_
    refine g_iconst 27 28 F (nI (0)) dX8_worst_27 rfl (by decide) ?_
    refine g_top (v := bI (false)) (rfl) ?_
    refine g_call 3 31 F (CallOk.V (C := "Bumpward$Belief") (b := b0) (As := [.ref h0, .int (bI (false))]) (rest := [.int (nI (cnt (fwF e f true) 144))]) F 2 q480 q481 q482 q73 q483 cdV_X10_forward rfl rfl (Nat.le_of_ble_eq_true rfl) (Nat.le_of_ble_eq_true rfl) dX8_worst_28) (m_X10_forward (kL K) X b0 b1 f h0 h1 e false (by omega)) rfl (Mr := [[(w, ob 6 [.int (nI (nu)), .int (nI (ho)), .ref h0, .int (nI (po)), .int (ch), .ref b0, .int (lo), .int (ac), .int (bu), .int (sl)])], [(q_7, ob 5 [.ref a_8])], [(a_8, zA X 144 (fwF e f true))]]) [1, 2, 3, 4] [0, 5, 6] rfl rfl rfl (rc_of F 1 5 rfl rfl) (Nat.le_of_ble_eq_true rfl) (c2 := 4) (s2 := 290) (Nat.le_of_ble_eq_true rfl) (Nat.le_of_ble_eq_true rfl) rfl rfl (fun v M1 hp => ?_)
    obtain ⟨q_9, a_10, rfl, rfl⟩ := hp
    show G K X 4 4 290 [[(w, ob 6 [.int (nI (nu)), .int (nI (ho)), .ref h0, .int (nI (po)), .int (ch), .ref b0, .int (lo), .int (ac), .int (bu), .int (sl)])], [(q_7, ob 5 [.ref a_8])], [(a_8, zA X 144 (fwF e f true))], [(b0, ob 5 [.ref b1])], [(b1, zA X 144 (f))], [(h0, ob 4 [.ref h1])], [(h1, iA X 60 (fun k => nI (e k)))], [(q_9, ob 5 [.ref a_10])], [(a_10, zA X 144 (fwF e f false))]] [(0, .ref w), (1, .int (nI (a)))] 31 [.ref q_9, .int (nI (cnt (fwF e f true) 144))]
    refine g_callP 3 34 F (CallOk.V (C := "Bumpward$Belief") (b := q_9) (As := []) (rest := [.int (nI (cnt (fwF e f true) 144))]) F 0 q500 q300 q301 q73 q302 cdV_X10_size rfl rfl (Nat.le_of_ble_eq_true rfl) (Nat.le_of_ble_eq_true rfl) dX8_worst_31) (m_X10_size (kL K) X q_9 a_10 (fwF e f false) ) rfl (Mr := [[(w, ob 6 [.int (nI (nu)), .int (nI (ho)), .ref h0, .int (nI (po)), .int (ch), .ref b0, .int (lo), .int (ac), .int (bu), .int (sl)])], [(q_7, ob 5 [.ref a_8])], [(a_8, zA X 144 (fwF e f true))], [(b0, ob 5 [.ref b1])], [(b1, zA X 144 (f))], [(h0, ob 4 [.ref h1])], [(h1, iA X 60 (fun k => nI (e k)))]]) [7, 8] [0, 1, 2, 3, 4, 5, 6] (by decide +kernel) 9 rfl (by decide +kernel) rfl rfl (rc_of F 7 5 rfl rfl) (Nat.le_of_ble_eq_true rfl) (c2 := 4) (s2 := 290) (Nat.le_of_ble_eq_true rfl) (Nat.le_of_ble_eq_true rfl) rfl rfl (st1 := [.int (nI (cnt (fwF e f false) 144)), .int (nI (cnt (fwF e f true) 144))]) rfl ?_
    refine g_mmax 34 37 F (v := nI (max (cnt (fwF e f true) 144) (cnt (fwF e f false) 144))) q501 q502 q66 q503 dX8_worst_34 rfl (Nat.le_of_ble_eq_true rfl) (Nat.le_of_ble_eq_true rfl) (Nat.le_of_ble_eq_true rfl) (Nat.le_of_ble_eq_true rfl) (mx_nI (Nat.lt_of_le_of_lt (cnt_le _ _) (by decide)) (Nat.lt_of_le_of_lt (cnt_le _ _) (by decide))) ?_
    refine g_sel [[(w, ob 6 [.int (nI (nu)), .int (nI (ho)), .ref h0, .int (nI (po)), .int (ch), .ref b0, .int (lo), .int (ac), .int (bu), .int (sl)])], [(h0, ob 4 [.ref h1])], [(h1, iA X 60 (fun k => nI (e k)))], [(b0, ob 5 [.ref b1])], [(b1, zA X 144 (f))]] [0, 5, 6, 3, 4] rfl rfl ?_
    exact g_iret 37 F R dX8_worst_37 (Nat.le_of_ble_eq_true rfl) (Nat.le_of_ble_eq_true rfl) (⟨congrArg (fun z => some (Value.int z)) (by simp [wsN, *]), rfl⟩)

set_option maxHeartbeats 4000000 in
theorem m_X8_best (l : Launch) (X : gk_X) (w h0 h1 b0 b1 nu ho po : Nat) (ch lo ac bu sl : Int32) (e : Nat → Nat) (f : Nat → Bool)  (he : ∀ k, k < 60 → e k < 3) (hho : ho < 36) (hpo : po < 144) : CtP l X yX8_best cX8_best 3 (some .int) 9 96 6960 [.ref w] [[(w, ob 6 [.int (nI (nu)), .int (nI (ho)), .ref h0, .int (nI (po)), .int (ch), .ref b0, .int (lo), .int (ac), .int (bu), .int (sl)])], [(h0, ob 4 [.ref h1])], [(h1, iA X 60 (fun k => nI (e k)))], [(b0, ob 5 [.ref b1])], [(b1, zA X 144 (f))]] (some (.int (nI (brN e f 3)))) := by
  unfold CtP
  refine Ct.of (by decide) (Nat.le_of_ble_eq_true rfl) "Bumpward$Walker" "best" rfl rfl (fun K F eL R => ?_)
  subst eL
  show G K X 3 0 0 [[(w, ob 6 [.int (nI (nu)), .int (nI (ho)), .ref h0, .int (nI (po)), .int (ch), .ref b0, .int (lo), .int (ac), .int (bu), .int (sl)])], [(h0, ob 4 [.ref h1])], [(h1, iA X 60 (fun k => nI (e k)))], [(b0, ob 5 [.ref b1])], [(b1, zA X 144 (f))]] [(0, .ref w)] 0 []
  refine g_iconst 0 1 F (nI (0)) dX8_best_0 rfl (by decide) ?_
  refine g_istore_n 1 2 F [(1, .int (nI (0))), (0, .ref w)] dX8_best_1 rfl rfl (Nat.le_of_ble_eq_true rfl) rfl ?_
  refine g_iconst 2 3 F (nI (1)) dX8_best_2 rfl (by decide) ?_
  refine g_istore_n 3 4 F [(2, .int (nI (1))), (1, .int (nI (0))), (0, .ref w)] dX8_best_3 rfl rfl (Nat.le_of_ble_eq_true rfl) rfl ?_
  refine g_ls [(0, .ref w), (1, .int (nI (brN e f 0))), (2, .int (nI (0 + 1)))] [2, 1, 0] (rfl) ?_
  refine g_wid (c2 := 32 * 0) (s2 := 2320 * 0) (by omega) (by omega) ?_
  refine g_down (P := fun i => G K X 3 (32 * i) (2320 * i) [[(w, ob 6 [.int (nI (nu)), .int (nI (ho)), .ref h0, .int (nI (po)), .int (ch), .ref b0, .int (lo), .int (ac), .int (bu), .int (sl)])], [(h0, ob 4 [.ref h1])], [(h1, iA X 60 (fun k => nI (e k)))], [(b0, ob 5 [.ref b1])], [(b1, zA X 144 (f))]] [(0, .ref w), (1, .int (nI (brN e f i))), (2, .int (nI (i + 1)))] 4 []) 3 0 (by omega) ?_ (fun i hl_i hi_i ih_i => ?_)
  · show G K X 3 (32 * 3) (2320 * 3) [[(w, ob 6 [.int (nI (nu)), .int (nI (ho)), .ref h0, .int (nI (po)), .int (ch), .ref b0, .int (lo), .int (ac), .int (bu), .int (sl)])], [(h0, ob 4 [.ref h1])], [(h1, iA X 60 (fun k => nI (e k)))], [(b0, ob 5 [.ref b1])], [(b1, zA X 144 (f))]] [(0, .ref w), (1, .int (nI (brN e f 3))), (2, .int (nI (3 + 1)))] 4 []
    refine g_iload_n 4 5 F dX8_best_4 rfl rfl 2 rfl ?_
    refine g_iconst 5 6 F (nI (3)) dX8_best_5 rfl (by decide) ?_
    refine g_icmpN_gt 6 9 30 F dX8_best_6 rfl (by decide) (by omega) (by omega) (fun c_1 => ?_) (fun c_1 => ?_)
    · refine g_iload_n 30 31 F dX8_best_30 rfl rfl 1 rfl ?_
      exact g_iret 31 F R dX8_best_31 (by omega) (by omega) (⟨rfl, rfl⟩)
    · exact absurd c_1 (by omega)
  · show G K X 3 (32 * i) (2320 * i) [[(w, ob 6 [.int (nI (nu)), .int (nI (ho)), .ref h0, .int (nI (po)), .int (ch), .ref b0, .int (lo), .int (ac), .int (bu), .int (sl)])], [(h0, ob 4 [.ref h1])], [(h1, iA X 60 (fun k => nI (e k)))], [(b0, ob 5 [.ref b1])], [(b1, zA X 144 (f))]] [(0, .ref w), (1, .int (nI (brN e f i))), (2, .int (nI (i + 1)))] 4 []
    have hbr := brN_le e f i
    have hw1 := wsN_le e f (i + 1)
    have hw2 := wsN_le e f (brN e f i)
    refine g_iload_n 4 5 F dX8_best_4 rfl rfl 2 rfl ?_
    refine g_iconst 5 6 F (nI (3)) dX8_best_5 rfl (by decide) ?_
    refine g_icmpN_gt 6 9 30 F dX8_best_6 rfl (by decide) (by omega) (by omega) (fun c_2 => ?_) (fun c_2 => ?_)
    · exact absurd c_2 (by omega)
    · refine g_aload_n 9 10 F dX8_best_9 rfl rfl 0 rfl ?_
      refine g_iload_n 10 11 F dX8_best_10 rfl rfl 2 rfl ?_
      refine g_callP 3 14 F (CallOk.V (C := "Bumpward$Walker") (b := w) (As := [.int (nI (i + 1))]) (rest := []) F 1 q515 q477 q478 q71 q479 cdV_X8_worst rfl rfl (Nat.le_of_ble_eq_true rfl) (Nat.le_of_ble_eq_true rfl) dX8_best_11) (m_X8_worst (kL K) X w h0 h1 b0 b1 nu ho po ch lo ac bu sl e f (i + 1) (by omega) (by omega) (by omega) (by omega)) rfl (Mr := []) [0, 1, 2, 3, 4] [] rfl 5 rfl (by decide +kernel) rfl rfl (rc_of F 0 6 rfl rfl) (Nat.le_of_ble_eq_true rfl) (c2 := 32 * i + 16) (s2 := 2320 * i + 1160) (by omega) (by omega) rfl rfl (st1 := [.int (nI (wsN e f (i + 1)))]) rfl ?_
      refine g_aload_n 14 15 F dX8_best_14 rfl rfl 0 rfl ?_
      refine g_iload_n 15 16 F dX8_best_15 rfl rfl 1 rfl ?_
      refine g_callP 3 19 F (CallOk.V (C := "Bumpward$Walker") (b := w) (As := [.int (nI (brN e f i))]) (rest := [.int (nI (wsN e f (i + 1)))]) F 1 q515 q477 q478 q71 q479 cdV_X8_worst rfl rfl (Nat.le_of_ble_eq_true rfl) (Nat.le_of_ble_eq_true rfl) dX8_best_16) (m_X8_worst (kL K) X w h0 h1 b0 b1 nu ho po ch lo ac bu sl e f (brN e f i) (by omega) (by omega) (by omega) (by omega)) rfl (Mr := []) [0, 1, 2, 3, 4] [] rfl 5 rfl (by decide +kernel) rfl rfl (rc_of F 0 6 rfl rfl) (Nat.le_of_ble_eq_true rfl) (c2 := 32 * i + 16 + 16) (s2 := 2320 * i + 1160 + 1160) (by omega) (by omega) rfl rfl (st1 := [.int (nI (wsN e f (brN e f i))), .int (nI (wsN e f (i + 1)))]) rfl ?_
      refine g_icmpN_ge 19 22 24 F dX8_best_19 rfl (by decide) (by omega) (by omega) (fun c_3 => ?_) (fun c_3 => ?_)
      · have hcond : ¬ wsN e f (i + 1) < wsN e f (brN e f i) := by omega
        refine g_iinc 24 27 F (v := nI (i + 1 + 1)) [(2, .int (nI (i + 1 + 1))), (0, .ref w), (1, .int (nI (brN e f i)))] dX8_best_24 rfl 2 rfl (nI_add _ _) (Nat.le_of_ble_eq_true rfl) rfl ?_
        refine g_goto 27 4 F dX8_best_27 (by decide) ?_
        refine g_ls [(0, .ref w), (1, .int (nI (brN e f (i + 1)))), (2, .int (nI ((i + 1) + 1)))] [1, 2, 0] (by first | (rw [brN, if_pos hcond]; rfl) | (rw [brN, if_neg hcond]; rfl)) ?_
        refine g_wid (c2 := 32 * (i + 1)) (s2 := 2320 * (i + 1)) (by omega) (by omega) ?_
        exact ih_i
      · have hcond := c_3
        refine g_iload_n 22 23 F dX8_best_22 rfl rfl 2 rfl ?_
        refine g_istore_n 23 24 F [(1, .int (nI (i + 1))), (0, .ref w), (2, .int (nI (i + 1)))] dX8_best_23 rfl rfl (Nat.le_of_ble_eq_true rfl) rfl ?_
        refine g_iinc 24 27 F (v := nI (i + 1 + 1)) [(2, .int (nI (i + 1 + 1))), (1, .int (nI (i + 1))), (0, .ref w)] dX8_best_24 rfl 2 rfl (nI_add _ _) (Nat.le_of_ble_eq_true rfl) rfl ?_
        refine g_goto 27 4 F dX8_best_27 (by decide) ?_
        refine g_ls [(0, .ref w), (1, .int (nI (brN e f (i + 1)))), (2, .int (nI ((i + 1) + 1)))] [2, 1, 0] (by first | (rw [brN, if_pos hcond]; rfl) | (rw [brN, if_neg hcond]; rfl)) ?_
        refine g_wid (c2 := 32 * (i + 1)) (s2 := 2320 * (i + 1)) (by omega) (by omega) ?_
        exact ih_i
