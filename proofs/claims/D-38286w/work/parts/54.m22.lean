/-! Bumpward: kinds, Optional, what is refused -/
theorem cd_J11_init : yJ11_init.cls ≠ "java/lang/invoke/MethodHandle" ∧ yJ11_init.cls ≠ "java/lang/invoke/VarHandle" ∧ (parseMethodDescriptor yJ11_init.desc).map (fun d => d.parameters.length) = some 1 := by decide +kernel
theorem cd_J12_requireNonNull : yJ12_requireNonNull.cls ≠ "java/lang/invoke/MethodHandle" ∧ yJ12_requireNonNull.cls ≠ "java/lang/invoke/VarHandle" ∧ (parseMethodDescriptor yJ12_requireNonNull.desc).map (fun d => d.parameters.length) = some 1 := by decide +kernel
theorem cd_X1_index : yX1_index.cls ≠ "java/lang/invoke/MethodHandle" ∧ yX1_index.cls ≠ "java/lang/invoke/VarHandle" ∧ (parseMethodDescriptor yX1_index.desc).map (fun d => d.parameters.length) = some 3 := by decide +kernel
set_option maxHeartbeats 4000000 in
theorem m_J3_ordinal (l : Launch) (X : gk_X) (k : Nat) (hk : k < 3) : CtP l X yJ3_ordinal cJ3_ordinal 1 (some .int) 1 0 0 [.ref (X.2.2 k)] [] (some (.int (nI (k)))) := by
  unfold CtP
  refine Ct.of (by decide) (Nat.le_of_ble_eq_true rfl) "java/lang/Enum" "ordinal" rfl rfl (fun K F eL R => ?_)
  subst eL
  show G K X 1 0 0 [] [(0, .ref (X.2.2 k))] 0 []
  refine g_aload_n 0 1 F dJ3_ordinal_0 rfl rfl 0 rfl ?_
  refine g_getO 1 4 F (kd_ord F hk) q1827 (fun _ h => h) dJ3_ordinal_1 rfl ?_
  exact g_iret 4 F R dJ3_ordinal_4 (Nat.zero_le _) (Nat.zero_le _) (⟨rfl, rfl⟩)

set_option maxHeartbeats 4000000 in
theorem m_X12_isShut (l : Launch) (X : gk_X) (a : Nat) (h u : Int32)  : CtP l X yX12_isShut cX12_isShut 3 (some .boolean) 1 0 0 [.ref a, .int (h), .int (u)] [] (some (.int (bI (false)))) := by
  unfold CtP
  refine Ct.of (by decide) (Nat.le_of_ble_eq_true rfl) "Bumpward$Kind$1" "isShut" rfl rfl (fun K F eL R => ?_)
  subst eL
  show G K X 3 0 0 [] [(0, .ref a), (1, .int (h)), (2, .int (u))] 0 []
  refine g_iconst 0 1 F (nI (0)) dX12_isShut_0 rfl (by decide) ?_
  exact g_zret 1 F R dX12_isShut_1 (Nat.zero_le _) (Nat.zero_le _) (by decide) (⟨congrArg (fun z => some (Value.int z)) (rfl), rfl⟩)

set_option maxHeartbeats 4000000 in
theorem m_X5_isShut (l : Launch) (X : gk_X) (a : Nat) (h u : Int32)  : CtP l X yX5_isShut cX5_isShut 3 (some .boolean) 1 0 0 [.ref a, .int (h), .int (u)] [] (some (.int (bI (true)))) := by
  unfold CtP
  refine Ct.of (by decide) (Nat.le_of_ble_eq_true rfl) "Bumpward$Kind" "isShut" rfl rfl (fun K F eL R => ?_)
  subst eL
  show G K X 3 0 0 [] [(0, .ref a), (1, .int (h)), (2, .int (u))] 0 []
  refine g_iconst 0 1 F (nI (1)) dX5_isShut_0 rfl (by decide) ?_
  exact g_zret 1 F R dX5_isShut_1 (Nat.zero_le _) (Nat.zero_le _) (by decide) (⟨congrArg (fun z => some (Value.int z)) (rfl), rfl⟩)

set_option maxHeartbeats 4000000 in
theorem m_X13_isShut (l : Launch) (X : gk_X) (a : Nat) (h u : Int32)  : CtP l X yX13_isShut cX13_isShut 3 (some .boolean) 1 0 0 [.ref a, .int (h), .int (u)] [] (some (.int (bI (decide ((h >>> (u &&& 31)) &&& nI 1 = 0))))) := by
  unfold CtP
  refine Ct.of (by decide) (Nat.le_of_ble_eq_true rfl) "Bumpward$Kind$2" "isShut" rfl rfl (fun K F eL R => ?_)
  subst eL
  show G K X 3 0 0 [] [(0, .ref a), (1, .int (h)), (2, .int (u))] 0 []
  refine g_iload_n 0 1 F dX13_isShut_0 rfl rfl 1 rfl ?_
  refine g_iload_n 1 2 F dX13_isShut_1 rfl rfl 2 rfl ?_
  refine g_ishr 2 3 F (v := h >>> (u &&& 31)) dX13_isShut_2 rfl (rfl) ?_
  refine g_iconst 3 4 F (nI (1)) dX13_isShut_3 rfl (by decide) ?_
  refine g_iand 4 5 F (v := (h >>> (u &&& 31)) &&& (nI (1))) dX13_isShut_4 rfl (rfl) ?_
  refine g_diaZ_ne 5 12 13 F dX13_isShut_5 (by decide) dX13_isShut_8 dX13_isShut_9 (by decide) dX13_isShut_12 rfl ?_
  exact g_bret 13 F R dX13_isShut_13 (Nat.zero_le _) (Nat.zero_le _) (⟨congrArg (fun z => some (Value.int z)) (rfl), rfl⟩)

set_option maxHeartbeats 4000000 in
theorem m_J11_empty (l : Launch) (X : gk_X)   : CtP l X yJ11_empty cJ11_empty 1 (some (.object "java/util/Optional")) 1 0 0 [] [] (some (.ref (X.2.2 4))) := by
  unfold CtP
  refine Ct.of (by decide) (Nat.le_of_ble_eq_true rfl) "java/util/Optional" "empty" rfl rfl (fun K F eL R => ?_)
  subst eL
  show G K X 1 0 0 [] [] 0 []
  refine g_gets 0 3 F (F.con.2.1.1.1) q368 (fun _ h => h) dJ11_empty_0 rfl ?_
  refine g_astore_n 3 4 F [(0, .ref (X.2.2 4))] dJ11_empty_3 rfl rfl (Nat.le_of_ble_eq_true rfl) rfl ?_
  refine g_aload_n 4 5 F dJ11_empty_4 rfl rfl 0 rfl ?_
  exact g_aret 5 F R dJ11_empty_5 (Nat.zero_le _) (Nat.zero_le _) (Or.inl ⟨_, rfl⟩) (⟨rfl, rfl⟩)

set_option maxHeartbeats 4000000 in
theorem m_J12_requireNonNull (l : Launch) (X : gk_X) (a : Nat)  : CtP l X yJ12_requireNonNull cJ12_requireNonNull 1 (some (.object "java/lang/Object")) 1 0 0 [.ref a] [] (some (.ref a)) := by
  unfold CtP
  refine Ct.of (by decide) (Nat.le_of_ble_eq_true rfl) "java/util/Objects" "requireNonNull" rfl rfl (fun K F eL R => ?_)
  subst eL
  show G K X 1 0 0 [] [(0, .ref a)] 0 []
  refine g_aload_n 0 1 F dJ12_requireNonNull_0 rfl rfl 0 rfl ?_
  refine g_ifnonnull 1 12 F dJ12_requireNonNull_1 (by decide) ?_
  refine g_aload_n 12 13 F dJ12_requireNonNull_12 rfl rfl 0 rfl ?_
  exact g_aret 13 F R dJ12_requireNonNull_13 (Nat.zero_le _) (Nat.zero_le _) (Or.inl ⟨_, rfl⟩) (⟨rfl, rfl⟩)

set_option maxHeartbeats 4000000 in
theorem m_J11_init (l : Launch) (X : gk_X) (q a : Nat)  : Ct l X yJ11_init cJ11_init 2 none 2 0 0 [.ref q, .ref a] [[(q, ob 12 [.null])]] (fun v M' => v = none ∧ M' = [[(q, ob 12 [.ref a])]]) := by
  refine Ct.of (by decide) (Nat.le_of_ble_eq_true rfl) "java/util/Optional" "<init>" rfl rfl (fun K F eL R => ?_)
  subst eL
  show G K X 2 0 0 [[(q, ob 12 [.null])]] [(0, .ref q), (1, .ref a)] 0 []
  refine g_aload_n 0 1 F dJ11_init_0 rfl rfl 0 rfl ?_
  refine g_objInit 1 4 F q381 q93 q94 dJ11_init_1 rfl (Nat.le_of_ble_eq_true rfl) (Nat.le_of_ble_eq_true rfl) ?_
  refine g_aload_n 4 5 F dJ11_init_4 rfl rfl 0 rfl ?_
  refine g_aload_n 5 6 F dJ11_init_5 rfl rfl 1 rfl ?_
  refine g_putF 6 9 F (ci := 12) in_J11 tyJ11 tyJ11_ok nmJ11 rfl 0 (by decide) q382 (fun _ h => h) rfl rfl dJ11_init_6 rfl 0 (rfl) (rfl) (Nat.le_of_ble_eq_true rfl) rfl (M' := [[(q, ob 12 [.ref a])]]) rfl ?_
  exact g_vret 9 F R dJ11_init_9 (Nat.zero_le _) (Nat.zero_le _) (⟨rfl, rfl⟩)

set_option maxHeartbeats 4000000 in
theorem m_J11_of (l : Launch) (X : gk_X) (a : Nat)  : Ct l X yJ11_of cJ11_of 1 (some (.object "java/util/Optional")) 4 1 1 [.ref a] [] (fun v M' => ∃ q, v = some (.ref q) ∧ M' = [[(q, ob 12 [.ref a])]]) := by
  refine Ct.of (by decide) (Nat.le_of_ble_eq_true rfl) "java/util/Optional" "of" rfl rfl (fun K F eL R => ?_)
  subst eL
  show G K X 1 0 0 [] [(0, .ref a)] 0 []
  refine g_new 0 3 F in_J11 tyJ11 tyJ11_ok q373 q374 q67 (ci := 12) rfl (fs := [.null]) (fun j hj => match j, hj with | 0, _ => rfl | j + 1, hj => absurd hj (by omega)) dJ11_of_0 rfl (c2 := 1) (s2 := 1) (Nat.le_refl _) (Nat.le_refl _) rfl rfl (M' := fun q => [[(q, ob 12 [.null])]]) (fun _ => rfl) (fun q => ?_)
  show G K X 1 1 1 [[(q, ob 12 [.null])]] [(0, .ref a)] 3 [.ref q]
  refine g_dup 3 4 F dJ11_of_3 rfl rfl ?_
  refine g_aload_n 4 5 F dJ11_of_4 rfl rfl 0 rfl ?_
  refine g_callP 3 8 F (CallOk.S (As := [.ref a]) (rest := [.ref q, .ref q]) F 1 q375 q376 q68 q377 cd_J12_requireNonNull rfl rfl (Nat.le_of_ble_eq_true rfl) (Nat.le_of_ble_eq_true rfl) dJ11_of_5) (m_J12_requireNonNull (kL K) X a ) rfl (Mr := [[(q, ob 12 [.null])]]) [] [0] rfl 1 rfl (by decide +kernel) rfl rfl (rc_T) (Nat.le_of_ble_eq_true rfl) (c2 := 1) (s2 := 1) (Nat.le_refl _) (Nat.le_refl _) rfl rfl (st1 := [.ref a, .ref q, .ref q]) rfl ?_
  refine g_call 3 11 F (CallOk.I (b := q) (As := [.ref a]) (rest := [.ref q]) F 1 q378 q379 q67 q380 rfl cd_J11_init rfl rfl (Nat.le_of_ble_eq_true rfl) (Nat.le_of_ble_eq_true rfl) dJ11_of_8) (m_J11_init (kL K) X q a ) rfl (Mr := []) [0] [] rfl rfl rfl (rc_T) (Nat.le_of_ble_eq_true rfl) (c2 := 1) (s2 := 1) (Nat.le_refl _) (Nat.le_refl _) rfl rfl (fun v M1 hp => ?_)
  obtain ⟨rfl, rfl⟩ := hp
  show G K X 1 1 1 [[(q, ob 12 [.ref a])]] [(0, .ref a)] 11 [.ref q]
  exact g_aret 11 F R dJ11_of_11 (Nat.le_refl _) (Nat.le_refl _) (Or.inl ⟨_, rfl⟩) (⟨q, rfl, rfl⟩)

set_option maxHeartbeats 4000000 in
theorem m_J11_isEmpty (l : Launch) (X : gk_X) (q a : Nat)  : CtP l X yJ11_isEmpty cJ11_isEmpty 1 (some .boolean) 1 0 0 [.ref q] [[(q, ob 12 [.ref a])]] (some (.int (bI (false)))) := by
  unfold CtP
  refine Ct.of (by decide) (Nat.le_of_ble_eq_true rfl) "java/util/Optional" "isEmpty" rfl rfl (fun K F eL R => ?_)
  subst eL
  show G K X 1 0 0 [[(q, ob 12 [.ref a])]] [(0, .ref q)] 0 []
  refine g_aload_n 0 1 F dJ11_isEmpty_0 rfl rfl 0 rfl ?_
  refine g_get 1 4 F (ci := 12) in_J11 rfl 0 (by decide) q382 (fun _ h => h) dJ11_isEmpty_1 rfl 0 rfl (v := .ref a) rfl ?_
  refine g_ifnonnull 4 11 F dJ11_isEmpty_4 (by decide) ?_
  refine g_iconst 11 12 F (nI (0)) dJ11_isEmpty_11 rfl (by decide) ?_
  exact g_zret 12 F R dJ11_isEmpty_12 (Nat.zero_le _) (Nat.zero_le _) (by decide) (⟨congrArg (fun z => some (Value.int z)) (rfl), rfl⟩)

set_option maxHeartbeats 4000000 in
theorem m_J11_isPresent (l : Launch) (X : gk_X) (q a : Nat)  : CtP l X yJ11_isPresent cJ11_isPresent 1 (some .boolean) 1 0 0 [.ref q] [[(q, ob 12 [.ref a])]] (some (.int (bI (true)))) := by
  unfold CtP
  refine Ct.of (by decide) (Nat.le_of_ble_eq_true rfl) "java/util/Optional" "isPresent" rfl rfl (fun K F eL R => ?_)
  subst eL
  show G K X 1 0 0 [[(q, ob 12 [.ref a])]] [(0, .ref q)] 0 []
  refine g_aload_n 0 1 F dJ11_isPresent_0 rfl rfl 0 rfl ?_
  refine g_get 1 4 F (ci := 12) in_J11 rfl 0 (by decide) q382 (fun _ h => h) dJ11_isPresent_1 rfl 0 rfl (v := .ref a) rfl ?_
  refine g_ifnull 4 7 F dJ11_isPresent_4 rfl ?_
  refine g_iconst 7 8 F (nI (1)) dJ11_isPresent_7 rfl (by decide) ?_
  refine g_goto 8 12 F dJ11_isPresent_8 (by decide) ?_
  exact g_zret 12 F R dJ11_isPresent_12 (Nat.zero_le _) (Nat.zero_le _) (by decide) (⟨congrArg (fun z => some (Value.int z)) (rfl), rfl⟩)

set_option maxHeartbeats 4000000 in
theorem m_J11_get (l : Launch) (X : gk_X) (q a : Nat)  : CtP l X yJ11_get cJ11_get 1 (some (.object "java/lang/Object")) 1 0 0 [.ref q] [[(q, ob 12 [.ref a])]] (some (.ref a)) := by
  unfold CtP
  refine Ct.of (by decide) (Nat.le_of_ble_eq_true rfl) "java/util/Optional" "get" rfl rfl (fun K F eL R => ?_)
  subst eL
  show G K X 1 0 0 [[(q, ob 12 [.ref a])]] [(0, .ref q)] 0 []
  refine g_aload_n 0 1 F dJ11_get_0 rfl rfl 0 rfl ?_
  refine g_get 1 4 F (ci := 12) in_J11 rfl 0 (by decide) q382 (fun _ h => h) dJ11_get_1 rfl 0 rfl (v := .ref a) rfl ?_
  refine g_ifnonnull 4 17 F dJ11_get_4 (by decide) ?_
  refine g_aload_n 17 18 F dJ11_get_17 rfl rfl 0 rfl ?_
  refine g_get 18 21 F (ci := 12) in_J11 rfl 0 (by decide) q382 (fun _ h => h) dJ11_get_18 rfl 0 rfl (v := .ref a) rfl ?_
  exact g_aret 21 F R dJ11_get_21 (Nat.zero_le _) (Nat.zero_le _) (Or.inl ⟨_, rfl⟩) (⟨rfl, rfl⟩)

set_option maxHeartbeats 4000000 in
theorem m_J11_isEmpty0 (l : Launch) (X : gk_X)   : CtP l X yJ11_isEmpty cJ11_isEmpty 1 (some .boolean) 1 0 0 [.ref (X.2.2 4)] [] (some (.int (bI (true)))) := by
  unfold CtP
  refine Ct.of (by decide) (Nat.le_of_ble_eq_true rfl) "java/util/Optional" "isEmpty" rfl rfl (fun K F eL R => ?_)
  subst eL
  show G K X 1 0 0 [] [(0, .ref (X.2.2 4))] 0 []
  refine g_aload_n 0 1 F dJ11_isEmpty_0 rfl rfl 0 rfl ?_
  refine g_getO 1 4 F (F.con.2.1.1.2.2) q382 (fun _ h => h) dJ11_isEmpty_1 rfl ?_
  refine g_ifnonnullN 4 7 F dJ11_isEmpty_4 rfl ?_
  refine g_iconst 7 8 F (nI (1)) dJ11_isEmpty_7 rfl (by decide) ?_
  refine g_goto 8 12 F dJ11_isEmpty_8 (by decide) ?_
  exact g_zret 12 F R dJ11_isEmpty_12 (Nat.zero_le _) (Nat.zero_le _) (by decide) (⟨congrArg (fun z => some (Value.int z)) (rfl), rfl⟩)

set_option maxHeartbeats 4000000 in
theorem m_J11_isPresent0 (l : Launch) (X : gk_X)   : CtP l X yJ11_isPresent cJ11_isPresent 1 (some .boolean) 1 0 0 [.ref (X.2.2 4)] [] (some (.int (bI (false)))) := by
  unfold CtP
  refine Ct.of (by decide) (Nat.le_of_ble_eq_true rfl) "java/util/Optional" "isPresent" rfl rfl (fun K F eL R => ?_)
  subst eL
  show G K X 1 0 0 [] [(0, .ref (X.2.2 4))] 0 []
  refine g_aload_n 0 1 F dJ11_isPresent_0 rfl rfl 0 rfl ?_
  refine g_getO 1 4 F (F.con.2.1.1.2.2) q382 (fun _ h => h) dJ11_isPresent_1 rfl ?_
  refine g_ifnullN 4 11 F dJ11_isPresent_4 (by decide) ?_
  refine g_iconst 11 12 F (nI (0)) dJ11_isPresent_11 rfl (by decide) ?_
  exact g_zret 12 F R dJ11_isPresent_12 (Nat.zero_le _) (Nat.zero_le _) (by decide) (⟨congrArg (fun z => some (Value.int z)) (rfl), rfl⟩)

set_option maxHeartbeats 4000000 in
theorem m_X1_hour (l : Launch) (X : gk_X) (bo ea cx bx wl dw pt : Nat) (mi mt dp : Int32) (dg : Int64)  : CtP l X yX1_hour cX1_hour 1 (some .int) 1 0 0 [.ref bo] [[(bo, ob 0 [.ref ea, .ref cx, .ref bx, .ref wl, .ref dw, .ref pt, .int (mi), .int (mt), .int (dp), .long (dg)])]] (some (.int (hrI mi))) := by
  unfold CtP
  refine Ct.of (by decide) (Nat.le_of_ble_eq_true rfl) "Bumpward" "hour" rfl rfl (fun K F eL R => ?_)
  subst eL
  show G K X 1 0 0 [[(bo, ob 0 [.ref ea, .ref cx, .ref bx, .ref wl, .ref dw, .ref pt, .int (mi), .int (mt), .int (dp), .long (dg)])]] [(0, .ref bo)] 0 []
  refine g_aload_n 0 1 F dX1_hour_0 rfl rfl 0 rfl ?_
  refine g_get 1 4 F (ci := 0) in_X1 rfl 6 (by decide) q172 (fun _ h => h) dX1_hour_1 rfl 0 rfl (v := .int (mi)) rfl ?_
  refine g_bipush 4 6 F (nI (60)) dX1_hour_4 rfl (by decide) ?_
  refine g_idiv 6 7 F (v := mi / (nI (60))) dX1_hour_6 rfl (by decide) (rfl) ?_
  refine g_bipush 7 9 F (nI (24)) dX1_hour_7 rfl (by decide) ?_
  refine g_irem 9 10 F (v := hrI mi) dX1_hour_9 rfl (by decide) (rfl) ?_
  exact g_iret 10 F R dX1_hour_10 (Nat.zero_le _) (Nat.zero_le _) (⟨rfl, rfl⟩)

set_option maxHeartbeats 4000000 in
theorem m_X1_index (l : Launch) (X : gk_X) (k : Int32) (m t : Nat)  : CtX l X yX1_index cX1_index 3 (some .int) 8 1 6 [.int (k), .int (nI (m)), .ref t] [] (fun v M' => nxB k (nI m) = false ∧ v = some (.int (k)) ∧ M' = []) (fun E M' => E = "java/lang/IndexOutOfBoundsException" ∧ nxB k (nI m) = true ∧ M' = []) := by
  refine CtX.of (by decide) (Nat.le_of_ble_eq_true rfl) "Bumpward" "index" rfl rfl (fun K F eL R RX => ?_)
  subst eL
  show G K X 3 0 0 [] [(0, .int (k)), (1, .int (nI (m))), (2, .ref t)] 0 []
  refine g_iload_n 0 1 F dX1_index_0 rfl rfl 0 rfl ?_
  refine g_if_lt 1 4 9 F dX1_index_1 rfl (by decide) (fun c_1 => ?_) (fun c_1 => ?_)
  · have h1 := c_1
    exact gx_throwA 9 F RX (cls := "java/lang/IndexOutOfBoundsException") ["java/lang/RuntimeException", "java/lang/Exception"] (kk := 2) (by decide +kernel) (by decide +kernel) q636 q63 at_ioo og_ioo dX1_index_9 dX1_index_12 dX1_index_13 dX1_index_14 dX1_index_17 rfl 2 rfl (Nat.le_of_ble_eq_true rfl) (Nat.le_of_ble_eq_true rfl) (Nat.le_refl _) (Nat.le_refl _) (⟨rfl, by first | exact nx_2 h2 | exact nx_1 h1, rfl⟩)
  · have h1 := c_1
    refine g_iload_n 4 5 F dX1_index_4 rfl rfl 0 rfl ?_
    refine g_iload_n 5 6 F dX1_index_5 rfl rfl 1 rfl ?_
    refine g_icmp_lt 6 9 18 F dX1_index_6 rfl (by decide) (fun c_2 => ?_) (fun c_2 => ?_)
    · have h2 := c_2
      refine g_iload_n 18 19 F dX1_index_18 rfl rfl 0 rfl ?_
      exact g_iret 19 F R dX1_index_19 (Nat.zero_le _) (Nat.zero_le _) (⟨nx_3 h1 h2, rfl, rfl⟩)
    · have h2 := c_2
      exact gx_throwA 9 F RX (cls := "java/lang/IndexOutOfBoundsException") ["java/lang/RuntimeException", "java/lang/Exception"] (kk := 2) (by decide +kernel) (by decide +kernel) q636 q63 at_ioo og_ioo dX1_index_9 dX1_index_12 dX1_index_13 dX1_index_14 dX1_index_17 rfl 2 rfl (Nat.le_of_ble_eq_true rfl) (Nat.le_of_ble_eq_true rfl) (Nat.le_refl _) (Nat.le_refl _) (⟨rfl, by first | exact nx_2 h2 | exact nx_1 h1, rfl⟩)

set_option maxHeartbeats 4000000 in
theorem m_X1_cellOf (l : Launch) (X : gk_X) (x : Int32)  : CtX l X yX1_cellOf cX1_cellOf 1 (some .int) 9 1 6 [.int (x)] [] (fun v M' => noC x = false ∧ v = some (.int (x)) ∧ M' = []) (fun E M' => E = "java/lang/IndexOutOfBoundsException" ∧ noC x = true ∧ M' = []) := by
  refine CtX.of (by decide) (Nat.le_of_ble_eq_true rfl) "Bumpward" "cellOf" rfl rfl (fun K F eL R RX => ?_)
  subst eL
  show G K X 1 0 0 [] [(0, .int (x))] 0 []
  refine g_iload_n 0 1 F dX1_cellOf_0 rfl rfl 0 rfl ?_
  refine g_bipush 1 3 F (nI (36)) dX1_cellOf_1 rfl (by decide) ?_
  refine g_ldcS 3 5 F (tx := "cell") (c := 10) (by simp [gl_tx]) dX1_cellOf_3 rfl ?_
  refine g_callX 8 F (CallOkX.S (As := [.int (x), .int (nI (36)), .ref (X.2.2 10)]) (rest := []) F 3 q633 q634 q49 q635 cd_X1_index rfl rfl (Nat.le_of_ble_eq_true rfl) (Nat.le_of_ble_eq_true rfl) dX1_cellOf_5) (m_X1_index (kL K) X x 36 (X.2.2 10) ) rfl (Mr := []) [] [] rfl rfl rfl (rc_T) (Nat.le_of_ble_eq_true rfl) (c2 := 1) (s2 := 6) (Nat.le_refl _) (Nat.le_refl _) rfl rfl (fun E M1 hp => ?_) (fun v M1 hp => ?_)
  · obtain ⟨rfl, hxx, rfl⟩ := hp
    exact gx_out F RX (Nat.le_refl _) (Nat.le_refl _) (⟨rfl, by rw [← nx_C]; exact hxx, rfl⟩)
  · obtain ⟨hx_1, rfl, rfl⟩ := hp
    show G K X 1 1 6 [] [(0, .int (x))] 8 [.int (x)]
    exact g_iret 8 F R dX1_cellOf_8 (Nat.le_refl _) (Nat.le_refl _) (⟨by rw [← nx_C]; exact hx_1, rfl, rfl⟩)

set_option maxHeartbeats 4000000 in
theorem m_X1_sideOf (l : Launch) (X : gk_X) (x : Int32)  : CtX l X yX1_sideOf cX1_sideOf 1 (some .int) 9 1 6 [.int (x)] [] (fun v M' => noS x = false ∧ v = some (.int (x)) ∧ M' = []) (fun E M' => E = "java/lang/IndexOutOfBoundsException" ∧ noS x = true ∧ M' = []) := by
  refine CtX.of (by decide) (Nat.le_of_ble_eq_true rfl) "Bumpward" "sideOf" rfl rfl (fun K F eL R RX => ?_)
  subst eL
  show G K X 1 0 0 [] [(0, .int (x))] 0 []
  refine g_iload_n 0 1 F dX1_sideOf_0 rfl rfl 0 rfl ?_
  refine g_iconst 1 2 F (nI (4)) dX1_sideOf_1 rfl (by decide) ?_
  refine g_ldcS 2 4 F (tx := "side") (c := 11) (by simp [gl_tx]) dX1_sideOf_2 rfl ?_
  refine g_callX 7 F (CallOkX.S (As := [.int (x), .int (nI (4)), .ref (X.2.2 11)]) (rest := []) F 3 q633 q634 q49 q635 cd_X1_index rfl rfl (Nat.le_of_ble_eq_true rfl) (Nat.le_of_ble_eq_true rfl) dX1_sideOf_4) (m_X1_index (kL K) X x 4 (X.2.2 11) ) rfl (Mr := []) [] [] rfl rfl rfl (rc_T) (Nat.le_of_ble_eq_true rfl) (c2 := 1) (s2 := 6) (Nat.le_refl _) (Nat.le_refl _) rfl rfl (fun E M1 hp => ?_) (fun v M1 hp => ?_)
  · obtain ⟨rfl, hxx, rfl⟩ := hp
    exact gx_out F RX (Nat.le_refl _) (Nat.le_refl _) (⟨rfl, by rw [← nx_S]; exact hxx, rfl⟩)
  · obtain ⟨hx_1, rfl, rfl⟩ := hp
    show G K X 1 1 6 [] [(0, .int (x))] 7 [.int (x)]
    exact g_iret 7 F R dX1_sideOf_7 (Nat.le_refl _) (Nat.le_refl _) (⟨by rw [← nx_S]; exact hx_1, rfl, rfl⟩)

set_option maxHeartbeats 4000000 in
theorem m_X1_check (l : Launch) (X : gk_X) (b : Bool) (t : Nat)  : CtX l X yX1_check cX1_check 2 none 8 1 6 [.int (bI (b)), .ref t] [] (fun v M' => (!b) = false ∧ v = none ∧ M' = []) (fun E M' => E = "java/lang/IllegalArgumentException" ∧ (!b) = true ∧ M' = []) := by
  refine CtX.of (by decide) (Nat.le_of_ble_eq_true rfl) "Bumpward" "check" rfl rfl (fun K F eL R RX => ?_)
  subst eL
  show G K X 2 0 0 [] [(0, .int (bI (b))), (1, .ref t)] 0 []
  refine g_iload_n 0 1 F dX1_check_0 rfl rfl 0 rfl ?_
  refine g_ifB_ne 1 4 13 F dX1_check_1 rfl (by decide) (fun c_1 => ?_) (fun c_1 => ?_)
  · exact g_vret 13 F R dX1_check_13 (Nat.zero_le _) (Nat.zero_le _) (⟨by rw [c_1]; rfl, rfl, rfl⟩)
  · exact gx_throwA 4 F RX (cls := "java/lang/IllegalArgumentException") ["java/lang/RuntimeException", "java/lang/Exception"] (kk := 1) (by decide +kernel) (by decide +kernel) q661 q69 at_iae og_iae dX1_check_4 dX1_check_7 dX1_check_8 dX1_check_9 dX1_check_12 rfl 1 rfl (Nat.le_of_ble_eq_true rfl) (Nat.le_of_ble_eq_true rfl) (Nat.le_refl _) (Nat.le_refl _) (⟨rfl, by rw [c_1]; rfl, rfl⟩)

set_option maxHeartbeats 4000000 in
theorem m_X1_state (l : Launch) (X : gk_X) (b : Bool) (t : Nat)  : CtX l X yX1_state cX1_state 2 none 8 1 6 [.int (bI (b)), .ref t] [] (fun v M' => (!b) = false ∧ v = none ∧ M' = []) (fun E M' => E = "java/lang/IllegalStateException" ∧ (!b) = true ∧ M' = []) := by
  refine CtX.of (by decide) (Nat.le_of_ble_eq_true rfl) "Bumpward" "state" rfl rfl (fun K F eL R RX => ?_)
  subst eL
  show G K X 2 0 0 [] [(0, .int (bI (b))), (1, .ref t)] 0 []
  refine g_iload_n 0 1 F dX1_state_0 rfl rfl 0 rfl ?_
  refine g_ifB_ne 1 4 13 F dX1_state_1 rfl (by decide) (fun c_1 => ?_) (fun c_1 => ?_)
  · exact g_vret 13 F R dX1_state_13 (Nat.zero_le _) (Nat.zero_le _) (⟨by rw [c_1]; rfl, rfl, rfl⟩)
  · exact gx_throwA 4 F RX (cls := "java/lang/IllegalStateException") ["java/lang/RuntimeException", "java/lang/Exception"] (kk := 1) (by decide +kernel) (by decide +kernel) q724 q70 at_ise og_ise dX1_state_4 dX1_state_7 dX1_state_8 dX1_state_9 dX1_state_12 rfl 1 rfl (Nat.le_of_ble_eq_true rfl) (Nat.le_of_ble_eq_true rfl) (Nat.le_refl _) (Nat.le_refl _) (⟨rfl, by rw [c_1]; rfl, rfl⟩)

set_option maxHeartbeats 4000000 in
theorem m_X1_count_2 (l : Launch) (X : gk_X) (a n : Nat) (f : Nat → Bool) (hn : n ≤ 144) : CtP l X yX1_count_2 cX1_count_2 6 (some .int) 2 0 0 [.ref a] [[(a, zA X n (f))]] (some (.int (nI (cnt f n)))) := by
  unfold CtP
  refine Ct.of (by decide) (Nat.le_of_ble_eq_true rfl) "Bumpward" "count" rfl rfl (fun K F eL R => ?_)
  subst eL
  show G K X 6 0 0 [[(a, zA X n (f))]] [(0, .ref a)] 0 []
  refine g_iconst 0 1 F (nI (0)) dX1_count_2_0 rfl (by decide) ?_
  refine g_istore_n 1 2 F [(1, .int (nI (0))), (0, .ref a)] dX1_count_2_1 rfl rfl (Nat.le_of_ble_eq_true rfl) rfl ?_
  refine g_aload_n 2 3 F dX1_count_2_2 rfl rfl 1 rfl ?_
  refine g_astore_n 3 4 F [(2, .ref a), (1, .int (nI (0))), (0, .ref a)] dX1_count_2_3 rfl rfl (Nat.le_of_ble_eq_true rfl) rfl ?_
  refine g_aload_n 4 5 F dX1_count_2_4 rfl rfl 0 rfl ?_
  refine g_alen 5 6 F dX1_count_2_5 rfl 0 0 rfl rfl (n := n) rfl ?_
  refine g_istore_n 6 7 F [(3, .int (nI (n))), (2, .ref a), (1, .int (nI (0))), (0, .ref a)] dX1_count_2_6 rfl rfl (Nat.le_of_ble_eq_true rfl) rfl ?_
  refine g_iconst 7 8 F (nI (0)) dX1_count_2_7 rfl (by decide) ?_
  refine g_istore 8 10 F [(4, .int (nI (0))), (3, .int (nI (n))), (2, .ref a), (1, .int (nI (0))), (0, .ref a)] dX1_count_2_8 rfl (Nat.le_of_ble_eq_true rfl) rfl ?_
  refine g_ls [(0, .ref a), (1, .int (nI (cnt f 0))), (2, .ref a), (3, .int (nI (n))), (4, .int (nI (0)))] [4, 3, 2, 1, 0] (rfl) ?_
  refine g_down (P := fun i => G K X 6 0 0 [[(a, zA X n (f))]] [(0, .ref a), (1, .int (nI (cnt f i))), (2, .ref a), (3, .int (nI (n))), (4, .int (nI (i)))] 10 []) n 0 (by omega) ?_ (fun i hl_i hi_i ih_i => ?_)
  · show G K X 6 0 0 [[(a, zA X n (f))]] [(0, .ref a), (1, .int (nI (cnt f n))), (2, .ref a), (3, .int (nI (n))), (4, .int (nI (n)))] 10 []
    refine g_iload 10 12 F dX1_count_2_10 rfl 4 rfl ?_
    refine g_iload_n 12 13 F dX1_count_2_12 rfl rfl 3 rfl ?_
    refine g_icmpN_ge 13 16 36 F dX1_count_2_13 rfl (by decide) (by omega) (by omega) (fun c_1 => ?_) (fun c_1 => ?_)
    · refine g_iload_n 36 37 F dX1_count_2_36 rfl rfl 1 rfl ?_
      exact g_iret 37 F R dX1_count_2_37 (Nat.zero_le _) (Nat.zero_le _) (⟨rfl, rfl⟩)
    · exact absurd c_1 (by omega)
  · show G K X 6 0 0 [[(a, zA X n (f))]] [(0, .ref a), (1, .int (nI (cnt f i))), (2, .ref a), (3, .int (nI (n))), (4, .int (nI (i)))] 10 []
    refine g_iload 10 12 F dX1_count_2_10 rfl 4 rfl ?_
    refine g_iload_n 12 13 F dX1_count_2_12 rfl rfl 3 rfl ?_
    refine g_icmpN_ge 13 16 36 F dX1_count_2_13 rfl (by decide) (by omega) (by omega) (fun c_2 => ?_) (fun c_2 => ?_)
    · exact absurd c_2 (by omega)
    · refine g_aload_n 16 17 F dX1_count_2_16 rfl rfl 2 rfl ?_
      refine g_iload 17 19 F dX1_count_2_17 rfl 4 rfl ?_
      refine g_zald 19 20 F dX1_count_2_19 rfl 0 (i := i) rfl (by omega) (by omega) ?_
      refine g_istore 20 22 F [(5, .int (bI (f i))), (0, .ref a), (1, .int (nI (cnt f i))), (2, .ref a), (3, .int (nI (n))), (4, .int (nI (i)))] dX1_count_2_20 rfl (Nat.le_of_ble_eq_true rfl) rfl ?_
      refine g_iload_n 22 23 F dX1_count_2_22 rfl rfl 2 rfl ?_
      refine g_iload 23 25 F dX1_count_2_23 rfl 0 rfl ?_
      refine g_callP 3 28 F (CallOk.S (As := [.int (bI (f i))]) (rest := [.int (nI (cnt f i))]) F 1 q291 q292 q49 q293 cd_X1_one rfl rfl (Nat.le_of_ble_eq_true rfl) (Nat.le_of_ble_eq_true rfl) dX1_count_2_25) (m_X1_one (kL K) X (f i) ) rfl (Mr := [[(a, zA X n (f))]]) [] [0] rfl 1 rfl (by decide +kernel) rfl rfl (rc_T) (Nat.le_of_ble_eq_true rfl) (c2 := 0) (s2 := 0) (Nat.zero_le _) (Nat.zero_le _) rfl rfl (st1 := [.int (bI (f i)), .int (nI (cnt f i))]) rfl ?_
      refine g_iadd 28 29 F (v := nI (cnt f i + (bN (f i)))) dX1_count_2_28 rfl (nI_addB _ _) ?_
      refine g_istore_n 29 30 F [(1, .int (nI (cnt f i + (bN (f i))))), (5, .int (bI (f i))), (0, .ref a), (2, .ref a), (3, .int (nI (n))), (4, .int (nI (i)))] dX1_count_2_29 rfl rfl (Nat.le_of_ble_eq_true rfl) rfl ?_
      refine g_iinc 30 33 F (v := nI (i + 1)) [(4, .int (nI (i + 1))), (1, .int (nI (cnt f i + (bN (f i))))), (5, .int (bI (f i))), (0, .ref a), (2, .ref a), (3, .int (nI (n)))] dX1_count_2_30 rfl 5 rfl (nI_add _ _) (Nat.le_of_ble_eq_true rfl) rfl ?_
      refine g_goto 33 10 F dX1_count_2_33 (by decide) ?_
      refine g_ls [(0, .ref a), (1, .int (nI (cnt f (i + 1)))), (2, .ref a), (3, .int (nI (n))), (4, .int (nI (i + 1)))] [3, 1, 4, 5, 0] (rfl) ?_
      exact ih_i

set_option maxHeartbeats 4000000 in
theorem m_X4_init (l : Launch) (X : gk_X) (q : Nat)  : Ct l X yX4_init cX4_init 1 none 2 0 0 [.ref q] [[(q, ob 3 [.null, .int (nI (0))])]] (fun v M' => v = none ∧ M' = [[(q, ob 3 [.ref (X.2.2 0), .int (nI (0))])]]) := by
  refine Ct.of (by decide) (Nat.le_of_ble_eq_true rfl) "Bumpward$Edge" "<init>" rfl rfl (fun K F eL R => ?_)
  subst eL
  show G K X 1 0 0 [[(q, ob 3 [.null, .int (nI (0))])]] [(0, .ref q)] 0 []
  refine g_aload_n 0 1 F dX4_init_0 rfl rfl 0 rfl ?_
  refine g_objInit 1 4 F q154 q93 q94 dX4_init_1 rfl (Nat.le_of_ble_eq_true rfl) (Nat.le_of_ble_eq_true rfl) ?_
  refine g_aload_n 4 5 F dX4_init_4 rfl rfl 0 rfl ?_
  refine g_gets 5 8 F (F.con.1.1.1) q155 (fun _ h => h) dX4_init_5 rfl ?_
  refine g_put 8 11 F (ci := 3) in_X4 tyX4 tyX4_ok nmX4 rfl 0 (by decide) q157 (fun _ h => h) rfl dX4_init_8 rfl 0 (rfl) (rfl) (Nat.le_of_ble_eq_true rfl) rfl (M' := [[(q, ob 3 [.ref (X.2.2 0), .int (nI (0))])]]) rfl ?_
  exact g_vret 11 F R dX4_init_11 (Nat.zero_le _) (Nat.zero_le _) (⟨rfl, rfl⟩)
