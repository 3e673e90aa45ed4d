/-! ArrayList and its iterator -/
theorem cdF_hasNext : yItrHas.cls ≠ "java/lang/invoke/MethodHandle" ∧ yItrHas.cls ≠ "java/lang/invoke/VarHandle" ∧ (parseMethodDescriptor yItrHas.desc).map (fun d => d.parameters.length) = some 0 := by decide +kernel
theorem cdF_next : yItrNext.cls ≠ "java/lang/invoke/MethodHandle" ∧ yItrNext.cls ≠ "java/lang/invoke/VarHandle" ∧ (parseMethodDescriptor yItrNext.desc).map (fun d => d.parameters.length) = some 0 := by decide +kernel
theorem cd_J0_init : yJ0_init.cls ≠ "java/lang/invoke/MethodHandle" ∧ yJ0_init.cls ≠ "java/lang/invoke/VarHandle" ∧ (parseMethodDescriptor yJ0_init.desc).map (fun d => d.parameters.length) = some 0 := by decide +kernel
theorem cd_J12_checkIndex : yJ12_checkIndex.cls ≠ "java/lang/invoke/MethodHandle" ∧ yJ12_checkIndex.cls ≠ "java/lang/invoke/VarHandle" ∧ (parseMethodDescriptor yJ12_checkIndex.desc).map (fun d => d.parameters.length) = some 2 := by decide +kernel
theorem cd_J17_checkIndex : yJ17_checkIndex.cls ≠ "java/lang/invoke/MethodHandle" ∧ yJ17_checkIndex.cls ≠ "java/lang/invoke/VarHandle" ∧ (parseMethodDescriptor yJ17_checkIndex.desc).map (fun d => d.parameters.length) = some 3 := by decide +kernel
theorem cdV_J18_checkForComodification : yJ18_checkForComodification.cls = "java/util/ArrayList$Itr" ∧ yJ18_checkForComodification.cls ≠ "java/lang/invoke/MethodHandle" ∧ yJ18_checkForComodification.cls ≠ "java/lang/invoke/VarHandle" ∧ (parseMethodDescriptor yJ18_checkForComodification.desc).map (fun d => d.parameters.length) = some 0 := by decide +kernel
theorem cd_J18_init : yJ18_init.cls ≠ "java/lang/invoke/MethodHandle" ∧ yJ18_init.cls ≠ "java/lang/invoke/VarHandle" ∧ (parseMethodDescriptor yJ18_init.desc).map (fun d => d.parameters.length) = some 1 := by decide +kernel
theorem cd_J1_init : yJ1_init.cls ≠ "java/lang/invoke/MethodHandle" ∧ yJ1_init.cls ≠ "java/lang/invoke/VarHandle" ∧ (parseMethodDescriptor yJ1_init.desc).map (fun d => d.parameters.length) = some 0 := by decide +kernel
theorem cdV_J2_add_2 : yJ2_add_2.cls = "java/util/ArrayList" ∧ yJ2_add_2.cls ≠ "java/lang/invoke/MethodHandle" ∧ yJ2_add_2.cls ≠ "java/lang/invoke/VarHandle" ∧ (parseMethodDescriptor yJ2_add_2.desc).map (fun d => d.parameters.length) = some 3 := by decide +kernel
theorem cdV_J2_elementData : yJ2_elementData.cls = "java/util/ArrayList" ∧ yJ2_elementData.cls ≠ "java/lang/invoke/MethodHandle" ∧ yJ2_elementData.cls ≠ "java/lang/invoke/VarHandle" ∧ (parseMethodDescriptor yJ2_elementData.desc).map (fun d => d.parameters.length) = some 1 := by decide +kernel
theorem cdV_J2_grow : yJ2_grow.cls = "java/util/ArrayList" ∧ yJ2_grow.cls ≠ "java/lang/invoke/MethodHandle" ∧ yJ2_grow.cls ≠ "java/lang/invoke/VarHandle" ∧ (parseMethodDescriptor yJ2_grow.desc).map (fun d => d.parameters.length) = some 0 := by decide +kernel
theorem cdV_J2_grow_2 : yJ2_grow_2.cls = "java/util/ArrayList" ∧ yJ2_grow_2.cls ≠ "java/lang/invoke/MethodHandle" ∧ yJ2_grow_2.cls ≠ "java/lang/invoke/VarHandle" ∧ (parseMethodDescriptor yJ2_grow_2.desc).map (fun d => d.parameters.length) = some 1 := by decide +kernel
set_option maxHeartbeats 4000000 in
theorem m_J0_init (l : Launch) (X : gk_X) (ls : Nat)  : CtP l X yJ0_init cJ0_init 1 none 2 0 0 [.ref ls] [] none := by
  unfold CtP
  refine Ct.of (by decide) (Nat.le_of_ble_eq_true rfl) "java/util/AbstractCollection" "<init>" rfl rfl (fun K F eL R => ?_)
  subst eL
  show G K X 1 0 0 [] [(0, .ref ls)] 0 []
  refine g_aload_n 0 1 F dJ0_init_0 rfl rfl 0 rfl ?_
  refine g_objInit 1 4 F q108 q93 q94 dJ0_init_1 rfl (Nat.le_of_ble_eq_true rfl) (Nat.le_of_ble_eq_true rfl) ?_
  exact g_vret 4 F R dJ0_init_4 (Nat.zero_le _) (Nat.zero_le _) (⟨rfl, rfl⟩)

set_option maxHeartbeats 4000000 in
theorem m_J1_init (l : Launch) (X : gk_X) (ls n : Nat) (m : Int32) (av : Value)  : Ct l X yJ1_init cJ1_init 1 none 3 0 0 [.ref ls] [[(ls, ob 10 [.int (m), av, .int (nI (n))])]] (fun v M' => v = none ∧ M' = [[(ls, ob 10 [.int (nI (0)), av, .int (nI (n))])]]) := by
  refine Ct.of (by decide) (Nat.le_of_ble_eq_true rfl) "java/util/AbstractList" "<init>" rfl rfl (fun K F eL R => ?_)
  subst eL
  show G K X 1 0 0 [[(ls, ob 10 [.int (m), av, .int (nI (n))])]] [(0, .ref ls)] 0 []
  refine g_aload_n 0 1 F dJ1_init_0 rfl rfl 0 rfl ?_
  refine g_callP 3 4 F (CallOk.I (b := ls) (As := []) (rest := []) F 0 q105 q106 q50 q107 rfl cd_J0_init rfl rfl (Nat.le_of_ble_eq_true rfl) (Nat.le_of_ble_eq_true rfl) dJ1_init_1) (m_J0_init (kL K) X ls ) rfl (Mr := [[(ls, ob 10 [.int (m), av, .int (nI (n))])]]) [] [0] rfl 1 rfl (by decide +kernel) rfl rfl (rc_T) (Nat.le_of_ble_eq_true rfl) (c2 := 0) (s2 := 0) (Nat.zero_le _) (Nat.zero_le _) rfl rfl (st1 := []) rfl ?_
  refine g_aload_n 4 5 F dJ1_init_4 rfl rfl 0 rfl ?_
  refine g_iconst 5 6 F (nI (0)) dJ1_init_5 rfl (by decide) ?_
  refine g_put 6 9 F (ci := 10) in_J2 tyJ2 tyJ2_ok nmJ2 rfl 0 (by decide) q115 (fun _ h => h) rfl dJ1_init_6 rfl 0 (rfl) (rfl) (Nat.le_of_ble_eq_true rfl) rfl (M' := [[(ls, ob 10 [.int (nI (0)), av, .int (nI (n))])]]) rfl ?_
  exact g_vret 9 F R dJ1_init_9 (Nat.zero_le _) (Nat.zero_le _) (⟨rfl, rfl⟩)

set_option maxHeartbeats 4000000 in
theorem m_J2_init (l : Launch) (X : gk_X) (ls : Nat)  : Ct l X yJ2_init cJ2_init 1 none 4 0 0 [.ref ls] [[(ls, ob 10 [.int (nI (0)), .null, .int (nI (0))])]] (fun v M' => v = none ∧ M' = [[(ls, ob 10 [.int (nI (0)), .ref (X.2.2 5), .int (nI (0))])]]) := by
  refine Ct.of (by decide) (Nat.le_of_ble_eq_true rfl) "java/util/ArrayList" "<init>" rfl rfl (fun K F eL R => ?_)
  subst eL
  show G K X 1 0 0 [[(ls, ob 10 [.int (nI (0)), .null, .int (nI (0))])]] [(0, .ref ls)] 0 []
  refine g_aload_n 0 1 F dJ2_init_0 rfl rfl 0 rfl ?_
  refine g_call 3 4 F (CallOk.I (b := ls) (As := []) (rest := []) F 0 q102 q103 q51 q104 rfl cd_J1_init rfl rfl (Nat.le_of_ble_eq_true rfl) (Nat.le_of_ble_eq_true rfl) dJ2_init_1) (m_J1_init (kL K) X ls 0 (nI (0)) .null ) rfl (Mr := []) [0] [] rfl rfl rfl (rc_T) (Nat.le_of_ble_eq_true rfl) (c2 := 0) (s2 := 0) (Nat.zero_le _) (Nat.zero_le _) rfl rfl (fun v M1 hp => ?_)
  obtain ⟨rfl, rfl⟩ := hp
  show G K X 1 0 0 [[(ls, ob 10 [.int (nI (0)), .null, .int (nI (0))])]] [(0, .ref ls)] 4 []
  refine g_aload_n 4 5 F dJ2_init_4 rfl rfl 0 rfl ?_
  refine g_gets 5 8 F (F.con.2.1.2.1.1) q109 (fun _ h => h) dJ2_init_5 rfl ?_
  refine g_put 8 11 F (ci := 10) in_J2 tyJ2 tyJ2_ok nmJ2 rfl 1 (by decide) q111 (fun _ h => h) rfl dJ2_init_8 rfl 0 (rfl) (rfl) (Nat.le_of_ble_eq_true rfl) rfl (M' := [[(ls, ob 10 [.int (nI (0)), .ref (X.2.2 5), .int (nI (0))])]]) rfl ?_
  exact g_vret 11 F R dJ2_init_11 (Nat.zero_le _) (Nat.zero_le _) (⟨rfl, rfl⟩)

set_option maxHeartbeats 4000000 in
theorem m_J2_size (l : Launch) (X : gk_X) (ls n : Nat) (m : Int32) (av : Value)  : CtP l X yJ2_size cJ2_size 1 (some .int) 1 0 0 [.ref ls] [[(ls, ob 10 [.int (m), av, .int (nI (n))])]] (some (.int (nI (n)))) := by
  unfold CtP
  refine Ct.of (by decide) (Nat.le_of_ble_eq_true rfl) "java/util/ArrayList" "size" rfl rfl (fun K F eL R => ?_)
  subst eL
  show G K X 1 0 0 [[(ls, ob 10 [.int (m), av, .int (nI (n))])]] [(0, .ref ls)] 0 []
  refine g_aload_n 0 1 F dJ2_size_0 rfl rfl 0 rfl ?_
  refine g_get 1 4 F (ci := 10) in_J2 rfl 2 (by decide) q114 (fun _ h => h) dJ2_size_1 rfl 0 rfl (v := .int (nI (n))) rfl ?_
  exact g_iret 4 F R dJ2_size_4 (Nat.zero_le _) (Nat.zero_le _) (⟨rfl, rfl⟩)

set_option maxHeartbeats 4000000 in
theorem m_J2_grow_2 (l : Launch) (X : gk_X) (ls : Nat) (m : Int32)  : Ct l X yJ2_grow_2 cJ2_grow_2 4 (some (.array (.object "java/lang/Object"))) 2 1 10 [.ref ls, .int (nI (1))] [[(ls, ob 10 [.int (m), .ref (X.2.2 5), .int (nI (0))])]] (fun v M' => ∃ a, v = some (.ref a) ∧ M' = [[(ls, ob 10 [.int (m), .ref a, .int (nI (0))])], [(a, oA X 4 10 (fun _ => none))]]) := by
  refine Ct.of (by decide) (Nat.le_of_ble_eq_true rfl) "java/util/ArrayList" "grow" rfl rfl (fun K F eL R => ?_)
  subst eL
  show G K X 4 0 0 [[(ls, ob 10 [.int (m), .ref (X.2.2 5), .int (nI (0))])]] [(0, .ref ls), (1, .int (nI (1)))] 0 []
  refine g_aload_n 0 1 F dJ2_grow_2_0 rfl rfl 0 rfl ?_
  refine g_get 1 4 F (ci := 10) in_J2 rfl 1 (by decide) q111 (fun _ h => h) dJ2_grow_2_1 rfl 0 rfl (v := .ref (X.2.2 5)) rfl ?_
  refine g_tlen 4 5 F F.con.2.1.2.1.2 dJ2_grow_2_4 rfl ?_
  refine g_istore_n 5 6 F [(2, .int (nI (0))), (0, .ref ls), (1, .int (nI (1)))] dJ2_grow_2_5 rfl rfl (Nat.le_of_ble_eq_true rfl) rfl ?_
  refine g_iload_n 6 7 F dJ2_grow_2_6 rfl rfl 0 rfl ?_
  refine g_ifN_gt 7 10 20 F dJ2_grow_2_7 rfl (by decide) (by omega) (fun c_1 => ?_) (fun c_1 => ?_)
  · exact absurd c_1 (by omega)
  · refine g_aload_n 10 11 F dJ2_grow_2_10 rfl rfl 1 rfl ?_
    refine g_get 11 14 F (ci := 10) in_J2 rfl 1 (by decide) q111 (fun _ h => h) dJ2_grow_2_11 rfl 0 rfl (v := .ref (X.2.2 5)) rfl ?_
    refine g_gets 14 17 F (F.con.2.1.2.1.1) q109 (fun _ h => h) dJ2_grow_2_14 rfl ?_
    refine g_acmp_eq 17 20 45 F dJ2_grow_2_17 rfl (by decide) (fun c_2 => ?_) (fun c_2 => ?_)
    · refine g_aload_n 45 46 F dJ2_grow_2_45 rfl rfl 1 rfl ?_
      refine g_bipush 46 48 F (nI (10)) dJ2_grow_2_46 rfl (by decide) ?_
      refine g_iload_n 48 49 F dJ2_grow_2_48 rfl rfl 2 rfl ?_
      refine g_mmax 49 52 F (v := nI (10)) q860 q502 q66 q503 dJ2_grow_2_49 rfl (Nat.le_of_ble_eq_true rfl) (Nat.le_of_ble_eq_true rfl) (Nat.zero_le _) (Nat.zero_le _) (by decide) ?_
      refine g_newO 52 55 F 4 rfl q861 (F.hG.2.2.2.1.2) dJ2_grow_2_52 rfl (n := 10) (Nat.le_of_ble_eq_true rfl) (c2 := 1) (s2 := 10) (Nat.le_refl _) (Nat.le_refl _) rfl rfl (M' := fun a => [[(ls, ob 10 [.int (m), .ref (X.2.2 5), .int (nI (0))])], [(a, oA X 4 10 (fun _ => none))]]) (fun _ => rfl) (fun a => ?_)
      show G K X 4 1 10 [[(ls, ob 10 [.int (m), .ref (X.2.2 5), .int (nI (0))])], [(a, oA X 4 10 (fun _ => none))]] [(2, .int (nI (0))), (0, .ref ls), (1, .int (nI (1)))] 55 [.ref a, .ref ls]
      refine g_dup_x1 55 56 F dJ2_grow_2_55 rfl rfl rfl ?_
      refine g_put 56 59 F (ci := 10) in_J2 tyJ2 tyJ2_ok nmJ2 rfl 1 (by decide) q111 (fun _ h => h) rfl dJ2_grow_2_56 rfl 0 (rfl) (rfl) (Nat.le_of_ble_eq_true rfl) rfl (M' := [[(ls, ob 10 [.int (m), .ref a, .int (nI (0))])], [(a, oA X 4 10 (fun _ => none))]]) rfl ?_
      exact g_aret 59 F R dJ2_grow_2_59 (Nat.le_refl _) (Nat.le_refl _) (Or.inr ⟨_, rfl⟩) (⟨a, rfl, rfl⟩)
    · exact absurd rfl c_2

set_option maxHeartbeats 4000000 in
theorem m_J2_grow (l : Launch) (X : gk_X) (ls : Nat) (m : Int32)  : Ct l X yJ2_grow cJ2_grow 1 (some (.array (.object "java/lang/Object"))) 3 1 10 [.ref ls] [[(ls, ob 10 [.int (m), .ref (X.2.2 5), .int (nI (0))])]] (fun v M' => ∃ a, v = some (.ref a) ∧ M' = [[(ls, ob 10 [.int (m), .ref a, .int (nI (0))])], [(a, oA X 4 10 (fun _ => none))]]) := by
  refine Ct.of (by decide) (Nat.le_of_ble_eq_true rfl) "java/util/ArrayList" "grow" rfl rfl (fun K F eL R => ?_)
  subst eL
  show G K X 1 0 0 [[(ls, ob 10 [.int (m), .ref (X.2.2 5), .int (nI (0))])]] [(0, .ref ls)] 0 []
  refine g_aload_n 0 1 F dJ2_grow_0 rfl rfl 0 rfl ?_
  refine g_aload_n 1 2 F dJ2_grow_1 rfl rfl 0 rfl ?_
  refine g_get 2 5 F (ci := 10) in_J2 rfl 2 (by decide) q114 (fun _ h => h) dJ2_grow_2 rfl 0 rfl (v := .int (nI (0))) rfl ?_
  refine g_iconst 5 6 F (nI (1)) dJ2_grow_5 rfl (by decide) ?_
  refine g_iadd 6 7 F (v := nI (1)) dJ2_grow_6 rfl (nI_add _ _) ?_
  refine g_call 3 10 F (CallOk.V (C := "java/util/ArrayList") (b := ls) (As := [.int (nI (1))]) (rest := []) F 1 q809 q811 qs17 q52 q812 cdV_J2_grow_2 rfl rfl (Nat.le_of_ble_eq_true rfl) (Nat.le_of_ble_eq_true rfl) dJ2_grow_7) (m_J2_grow_2 (kL K) X ls m ) rfl (Mr := []) [0] [] rfl rfl rfl (rc_of F 0 10 rfl rfl) (Nat.le_of_ble_eq_true rfl) (c2 := 1) (s2 := 10) (Nat.le_refl _) (Nat.le_refl _) rfl rfl (fun v M1 hp => ?_)
  obtain ⟨a_1, rfl, rfl⟩ := hp
  show G K X 1 1 10 [[(ls, ob 10 [.int (m), .ref a_1, .int (nI (0))])], [(a_1, oA X 4 10 (fun _ => none))]] [(0, .ref ls)] 10 [.ref a_1]
  exact g_aret 10 F R dJ2_grow_10 (Nat.le_refl _) (Nat.le_refl _) (Or.inr ⟨_, rfl⟩) (⟨a_1, rfl, rfl⟩)

set_option maxHeartbeats 4000000 in
theorem m_J2_add_20 (l : Launch) (X : gk_X) (ls q : Nat) (m : Int32) (ci : Nat) (vs : List Value) (C : String) (T : u_T) (N : Nat) (hci : gl_cl[ci]? = some (C, T, N)) (hca : Cond.castable C "java/lang/Object" ∈ lw_tbl) : Ct l X yJ2_add_2 cJ2_add_2 4 none 4 1 10 [.ref ls, .ref q, .ref (X.2.2 5), .int (nI (0))] [[(ls, ob 10 [.int (m), .ref (X.2.2 5), .int (nI (0))])], [(q, ob ci vs)]] (fun v M' => ∃ a, v = none ∧ M' = [[(ls, ob 10 [.int (m), .ref a, .int (nI (1))])], [(a, oA X 4 10 (va_up (fun _ => none) 0 (some q)))], [(q, ob ci vs)]]) := by
  refine Ct.of (by decide) (Nat.le_of_ble_eq_true rfl) "java/util/ArrayList" "add" rfl rfl (fun K F eL R => ?_)
  subst eL
  show G K X 4 0 0 [[(ls, ob 10 [.int (m), .ref (X.2.2 5), .int (nI (0))])], [(q, ob ci vs)]] [(0, .ref ls), (1, .ref q), (2, .ref (X.2.2 5)), (3, .int (nI (0)))] 0 []
  refine g_iload_n 0 1 F dJ2_add_2_0 rfl rfl 3 rfl ?_
  refine g_aload_n 1 2 F dJ2_add_2_1 rfl rfl 2 rfl ?_
  refine g_tlen 2 3 F F.con.2.1.2.1.2 dJ2_add_2_2 rfl ?_
  refine g_icmpN_ne 3 6 11 F dJ2_add_2_3 rfl (by decide) (by omega) (by omega) (fun c_1 => ?_) (fun c_1 => ?_)
  · exact absurd rfl c_1
  · refine g_aload_n 6 7 F dJ2_add_2_6 rfl rfl 0 rfl ?_
    refine g_call 3 10 F (CallOk.V (C := "java/util/ArrayList") (b := ls) (As := []) (rest := []) F 0 q805 q807 qs16 q52 q808 cdV_J2_grow rfl rfl (Nat.le_of_ble_eq_true rfl) (Nat.le_of_ble_eq_true rfl) dJ2_add_2_7) (m_J2_grow (kL K) X ls m ) rfl (Mr := [[(q, ob ci vs)]]) [0] [1] rfl rfl rfl (rc_of F 0 10 rfl rfl) (Nat.le_of_ble_eq_true rfl) (c2 := 1) (s2 := 10) (Nat.le_refl _) (Nat.le_refl _) rfl rfl (fun v M1 hp => ?_)
    obtain ⟨a_2, rfl, rfl⟩ := hp
    show G K X 4 1 10 [[(q, ob ci vs)], [(ls, ob 10 [.int (m), .ref a_2, .int (nI (0))])], [(a_2, oA X 4 10 (fun _ => none))]] [(0, .ref ls), (1, .ref q), (2, .ref (X.2.2 5)), (3, .int (nI (0)))] 10 [.ref a_2]
    refine g_astore_n 10 11 F [(2, .ref a_2), (0, .ref ls), (1, .ref q), (3, .int (nI (0)))] dJ2_add_2_10 rfl rfl (Nat.le_of_ble_eq_true rfl) rfl ?_
    refine g_aload_n 11 12 F dJ2_add_2_11 rfl rfl 0 rfl ?_
    refine g_iload_n 12 13 F dJ2_add_2_12 rfl rfl 3 rfl ?_
    refine g_aload_n 13 14 F dJ2_add_2_13 rfl rfl 2 rfl ?_
    refine g_oastO 14 15 F dJ2_add_2_14 rfl 2 rfl (fl_mem (bi := 0) rfl (List.mem_singleton.mpr rfl)) hci hca (Nat.le_of_ble_eq_true rfl) (by omega) (f' := va_up (fun _ => none) 0 (some q)) (rfl) (M' := [[(q, ob ci vs)], [(ls, ob 10 [.int (m), .ref a_2, .int (nI (0))])], [(a_2, oA X 4 10 (va_up (fun _ => none) 0 (some q)))]]) rfl ?_
    refine g_aload_n 15 16 F dJ2_add_2_15 rfl rfl 1 rfl ?_
    refine g_iload_n 16 17 F dJ2_add_2_16 rfl rfl 3 rfl ?_
    refine g_iconst 17 18 F (nI (1)) dJ2_add_2_17 rfl (by decide) ?_
    refine g_iadd 18 19 F (v := nI (1)) dJ2_add_2_18 rfl (nI_add _ _) ?_
    refine g_put 19 22 F (ci := 10) in_J2 tyJ2 tyJ2_ok nmJ2 rfl 2 (by decide) q114 (fun _ h => h) rfl dJ2_add_2_19 rfl 1 (rfl) (rfl) (Nat.le_of_ble_eq_true rfl) rfl (M' := [[(q, ob ci vs)], [(ls, ob 10 [.int (m), .ref a_2, .int (nI (1))])], [(a_2, oA X 4 10 (va_up (fun _ => none) 0 (some q)))]]) rfl ?_
    refine g_sel [[(ls, ob 10 [.int (m), .ref a_2, .int (nI (1))])], [(a_2, oA X 4 10 (va_up (fun _ => none) 0 (some q)))], [(q, ob ci vs)]] [1, 2, 0] rfl rfl ?_
    exact g_vret 22 F R dJ2_add_2_22 (Nat.le_refl _) (Nat.le_refl _) (⟨a_2, rfl, rfl⟩)

set_option maxHeartbeats 4000000 in
theorem m_J2_add_2n (l : Launch) (X : gk_X) (ls q ar n : Nat) (m : Int32) (f : Nat → Option Nat) (ci : Nat) (vs : List Value) (C : String) (T : u_T) (N : Nat) (hn : n < 10) (hci : gl_cl[ci]? = some (C, T, N)) (hca : Cond.castable C "java/lang/Object" ∈ lw_tbl) : Ct l X yJ2_add_2 cJ2_add_2 4 none 1 0 0 [.ref ls, .ref q, .ref ar, .int (nI (n))] [[(ls, ob 10 [.int (m), .ref ar, .int (nI (n))])], [(ar, oA X 4 10 (f))], [(q, ob ci vs)]] (fun v M' => v = none ∧ M' = [[(ls, ob 10 [.int (m), .ref ar, .int (nI (n + 1))])], [(ar, oA X 4 10 (va_up f n (some q)))], [(q, ob ci vs)]]) := by
  refine Ct.of (by decide) (Nat.le_of_ble_eq_true rfl) "java/util/ArrayList" "add" rfl rfl (fun K F eL R => ?_)
  subst eL
  show G K X 4 0 0 [[(ls, ob 10 [.int (m), .ref ar, .int (nI (n))])], [(ar, oA X 4 10 (f))], [(q, ob ci vs)]] [(0, .ref ls), (1, .ref q), (2, .ref ar), (3, .int (nI (n)))] 0 []
  refine g_iload_n 0 1 F dJ2_add_2_0 rfl rfl 3 rfl ?_
  refine g_aload_n 1 2 F dJ2_add_2_1 rfl rfl 2 rfl ?_
  refine g_alen 2 3 F dJ2_add_2_2 rfl 1 4 rfl rfl (n := 10) rfl ?_
  refine g_icmpN_ne 3 6 11 F dJ2_add_2_3 rfl (by decide) (by omega) (by omega) (fun c_1 => ?_) (fun c_1 => ?_)
  · refine g_aload_n 11 12 F dJ2_add_2_11 rfl rfl 2 rfl ?_
    refine g_iload_n 12 13 F dJ2_add_2_12 rfl rfl 3 rfl ?_
    refine g_aload_n 13 14 F dJ2_add_2_13 rfl rfl 1 rfl ?_
    refine g_oastO 14 15 F dJ2_add_2_14 rfl 1 rfl (fl_mem (bi := 2) rfl (List.mem_singleton.mpr rfl)) hci hca (Nat.le_of_ble_eq_true rfl) (by omega) (f' := va_up f n (some q)) (rfl) (M' := [[(ls, ob 10 [.int (m), .ref ar, .int (nI (n))])], [(ar, oA X 4 10 (va_up f n (some q)))], [(q, ob ci vs)]]) rfl ?_
    refine g_aload_n 15 16 F dJ2_add_2_15 rfl rfl 0 rfl ?_
    refine g_iload_n 16 17 F dJ2_add_2_16 rfl rfl 3 rfl ?_
    refine g_iconst 17 18 F (nI (1)) dJ2_add_2_17 rfl (by decide) ?_
    refine g_iadd 18 19 F (v := nI (n + 1)) dJ2_add_2_18 rfl (nI_add _ _) ?_
    refine g_put 19 22 F (ci := 10) in_J2 tyJ2 tyJ2_ok nmJ2 rfl 2 (by decide) q114 (fun _ h => h) rfl dJ2_add_2_19 rfl 0 (rfl) (rfl) (Nat.le_of_ble_eq_true rfl) rfl (M' := [[(ls, ob 10 [.int (m), .ref ar, .int (nI (n + 1))])], [(ar, oA X 4 10 (va_up f n (some q)))], [(q, ob ci vs)]]) rfl ?_
    exact g_vret 22 F R dJ2_add_2_22 (Nat.zero_le _) (Nat.zero_le _) (⟨rfl, rfl⟩)
  · exact absurd c_1 (by omega)

set_option maxHeartbeats 4000000 in
theorem m_J2_add0 (l : Launch) (X : gk_X) (ls q : Nat) (m : Int32) (ci : Nat) (vs : List Value) (C : String) (T : u_T) (N : Nat) (hci : gl_cl[ci]? = some (C, T, N)) (hca : Cond.castable C "java/lang/Object" ∈ lw_tbl) : Ct l X yJ2_add cJ2_add 2 (some .boolean) 5 1 10 [.ref ls, .ref q] [[(ls, ob 10 [.int (m), .ref (X.2.2 5), .int (nI (0))])], [(q, ob ci vs)]] (fun v M' => ∃ a, v = some (.int (bI (true))) ∧ M' = [[(ls, ob 10 [.int (m + nI 1), .ref a, .int (nI (1))])], [(a, oA X 4 10 (va_up (fun _ => none) 0 (some q)))], [(q, ob ci vs)]]) := by
  refine Ct.of (by decide) (Nat.le_of_ble_eq_true rfl) "java/util/ArrayList" "add" rfl rfl (fun K F eL R => ?_)
  subst eL
  show G K X 2 0 0 [[(ls, ob 10 [.int (m), .ref (X.2.2 5), .int (nI (0))])], [(q, ob ci vs)]] [(0, .ref ls), (1, .ref q)] 0 []
  refine g_aload_n 0 1 F dJ2_add_0 rfl rfl 0 rfl ?_
  refine g_dup 1 2 F dJ2_add_1 rfl rfl ?_
  refine g_get 2 5 F (ci := 10) in_J2 rfl 0 (by decide) q118 (u_same (F.hts _ q117)) dJ2_add_2 rfl 0 rfl (v := .int (m)) rfl ?_
  refine g_iconst 5 6 F (nI (1)) dJ2_add_5 rfl (by decide) ?_
  refine g_iadd 6 7 F (v := m + nI 1) dJ2_add_6 rfl (rfl) ?_
  refine g_put 7 10 F (ci := 10) in_J2 tyJ2 tyJ2_ok nmJ2 rfl 0 (by decide) q118 (u_same (F.hts _ q117)) rfl dJ2_add_7 rfl 0 (rfl) (rfl) (Nat.le_of_ble_eq_true rfl) rfl (M' := [[(ls, ob 10 [.int (m + nI 1), .ref (X.2.2 5), .int (nI (0))])], [(q, ob ci vs)]]) rfl ?_
  refine g_aload_n 10 11 F dJ2_add_10 rfl rfl 0 rfl ?_
  refine g_aload_n 11 12 F dJ2_add_11 rfl rfl 1 rfl ?_
  refine g_aload_n 12 13 F dJ2_add_12 rfl rfl 0 rfl ?_
  refine g_get 13 16 F (ci := 10) in_J2 rfl 1 (by decide) q111 (fun _ h => h) dJ2_add_13 rfl 0 rfl (v := .ref (X.2.2 5)) rfl ?_
  refine g_aload_n 16 17 F dJ2_add_16 rfl rfl 0 rfl ?_
  refine g_get 17 20 F (ci := 10) in_J2 rfl 2 (by decide) q114 (fun _ h => h) dJ2_add_17 rfl 0 rfl (v := .int (nI (0))) rfl ?_
  refine g_call 3 23 F (CallOk.V (C := "java/util/ArrayList") (b := ls) (As := [.ref q, .ref (X.2.2 5), .int (nI (0))]) (rest := []) F 3 q801 q803 qs15 q52 q804 cdV_J2_add_2 rfl rfl (Nat.le_of_ble_eq_true rfl) (Nat.le_of_ble_eq_true rfl) dJ2_add_20) (m_J2_add_20 (kL K) X ls q (m + nI 1) ci vs C T N hci hca) rfl (Mr := []) [0, 1] [] rfl rfl rfl (rc_of F 0 10 rfl rfl) (Nat.le_of_ble_eq_true rfl) (c2 := 1) (s2 := 10) (Nat.le_refl _) (Nat.le_refl _) rfl rfl (fun v M1 hp => ?_)
  obtain ⟨a_1, rfl, rfl⟩ := hp
  show G K X 2 1 10 [[(ls, ob 10 [.int (m + nI 1), .ref a_1, .int (nI (1))])], [(a_1, oA X 4 10 (va_up (fun _ => none) 0 (some q)))], [(q, ob ci vs)]] [(0, .ref ls), (1, .ref q)] 23 []
  refine g_iconst 23 24 F (nI (1)) dJ2_add_23 rfl (by decide) ?_
  exact g_zret 24 F R dJ2_add_24 (Nat.le_refl _) (Nat.le_refl _) (by decide) (⟨a_1, rfl, rfl⟩)

set_option maxHeartbeats 4000000 in
theorem m_J2_addn (l : Launch) (X : gk_X) (ls q ar n : Nat) (m : Int32) (f : Nat → Option Nat) (ci : Nat) (vs : List Value) (C : String) (T : u_T) (N : Nat) (hn : n < 10) (hci : gl_cl[ci]? = some (C, T, N)) (hca : Cond.castable C "java/lang/Object" ∈ lw_tbl) : Ct l X yJ2_add cJ2_add 2 (some .boolean) 2 0 0 [.ref ls, .ref q] [[(ls, ob 10 [.int (m), .ref ar, .int (nI (n))])], [(ar, oA X 4 10 (f))], [(q, ob ci vs)]] (fun v M' => v = some (.int (bI (true))) ∧ M' = [[(ls, ob 10 [.int (m + nI 1), .ref ar, .int (nI (n + 1))])], [(ar, oA X 4 10 (va_up f n (some q)))], [(q, ob ci vs)]]) := by
  refine Ct.of (by decide) (Nat.le_of_ble_eq_true rfl) "java/util/ArrayList" "add" rfl rfl (fun K F eL R => ?_)
  subst eL
  show G K X 2 0 0 [[(ls, ob 10 [.int (m), .ref ar, .int (nI (n))])], [(ar, oA X 4 10 (f))], [(q, ob ci vs)]] [(0, .ref ls), (1, .ref q)] 0 []
  refine g_aload_n 0 1 F dJ2_add_0 rfl rfl 0 rfl ?_
  refine g_dup 1 2 F dJ2_add_1 rfl rfl ?_
  refine g_get 2 5 F (ci := 10) in_J2 rfl 0 (by decide) q118 (u_same (F.hts _ q117)) dJ2_add_2 rfl 0 rfl (v := .int (m)) rfl ?_
  refine g_iconst 5 6 F (nI (1)) dJ2_add_5 rfl (by decide) ?_
  refine g_iadd 6 7 F (v := m + nI 1) dJ2_add_6 rfl (rfl) ?_
  refine g_put 7 10 F (ci := 10) in_J2 tyJ2 tyJ2_ok nmJ2 rfl 0 (by decide) q118 (u_same (F.hts _ q117)) rfl dJ2_add_7 rfl 0 (rfl) (rfl) (Nat.le_of_ble_eq_true rfl) rfl (M' := [[(ls, ob 10 [.int (m + nI 1), .ref ar, .int (nI (n))])], [(ar, oA X 4 10 (f))], [(q, ob ci vs)]]) rfl ?_
  refine g_aload_n 10 11 F dJ2_add_10 rfl rfl 0 rfl ?_
  refine g_aload_n 11 12 F dJ2_add_11 rfl rfl 1 rfl ?_
  refine g_aload_n 12 13 F dJ2_add_12 rfl rfl 0 rfl ?_
  refine g_get 13 16 F (ci := 10) in_J2 rfl 1 (by decide) q111 (fun _ h => h) dJ2_add_13 rfl 0 rfl (v := .ref ar) rfl ?_
  refine g_aload_n 16 17 F dJ2_add_16 rfl rfl 0 rfl ?_
  refine g_get 17 20 F (ci := 10) in_J2 rfl 2 (by decide) q114 (fun _ h => h) dJ2_add_17 rfl 0 rfl (v := .int (nI (n))) rfl ?_
  refine g_call 3 23 F (CallOk.V (C := "java/util/ArrayList") (b := ls) (As := [.ref q, .ref ar, .int (nI (n))]) (rest := []) F 3 q801 q803 qs15 q52 q804 cdV_J2_add_2 rfl rfl (Nat.le_of_ble_eq_true rfl) (Nat.le_of_ble_eq_true rfl) dJ2_add_20) (m_J2_add_2n (kL K) X ls q ar n (m + nI 1) f ci vs C T N (by omega) hci hca) rfl (Mr := []) [0, 1, 2] [] rfl rfl rfl (rc_of F 0 10 rfl rfl) (Nat.le_of_ble_eq_true rfl) (c2 := 0) (s2 := 0) (Nat.zero_le _) (Nat.zero_le _) rfl rfl (fun v M1 hp => ?_)
  obtain ⟨rfl, rfl⟩ := hp
  show G K X 2 0 0 [[(ls, ob 10 [.int (m + nI 1), .ref ar, .int (nI (n + 1))])], [(ar, oA X 4 10 (va_up f n (some q)))], [(q, ob ci vs)]] [(0, .ref ls), (1, .ref q)] 23 []
  refine g_iconst 23 24 F (nI (1)) dJ2_add_23 rfl (by decide) ?_
  exact g_zret 24 F R dJ2_add_24 (Nat.zero_le _) (Nat.zero_le _) (by decide) (⟨rfl, rfl⟩)

set_option maxHeartbeats 4000000 in
theorem m_J2_elementData (l : Launch) (X : gk_X) (ls ar n i w : Nat) (m : Int32) (f : Nat → Option Nat) (hi : i < 10) (hf : f i = some w) : CtP l X yJ2_elementData cJ2_elementData 2 (some (.object "java/lang/Object")) 1 0 0 [.ref ls, .int (nI (i))] [[(ls, ob 10 [.int (m), .ref ar, .int (nI (n))])], [(ar, oA X 4 10 (f))]] (some (.ref w)) := by
  unfold CtP
  refine Ct.of (by decide) (Nat.le_of_ble_eq_true rfl) "java/util/ArrayList" "elementData" rfl rfl (fun K F eL R => ?_)
  subst eL
  show G K X 2 0 0 [[(ls, ob 10 [.int (m), .ref ar, .int (nI (n))])], [(ar, oA X 4 10 (f))]] [(0, .ref ls), (1, .int (nI (i)))] 0 []
  refine g_aload_n 0 1 F dJ2_elementData_0 rfl rfl 0 rfl ?_
  refine g_get 1 4 F (ci := 10) in_J2 rfl 1 (by decide) q111 (fun _ h => h) dJ2_elementData_1 rfl 0 rfl (v := .ref ar) rfl ?_
  refine g_iload_n 4 5 F dJ2_elementData_4 rfl rfl 1 rfl ?_
  refine g_oald 5 6 F dJ2_elementData_5 rfl 1 (i := i) rfl rfl (Nat.le_of_ble_eq_true rfl) (by omega) (w := w) (hf) ?_
  exact g_aret 6 F R dJ2_elementData_6 (Nat.zero_le _) (Nat.zero_le _) (Or.inl ⟨_, rfl⟩) (⟨rfl, rfl⟩)

set_option maxHeartbeats 4000000 in
theorem m_J17_checkIndex (l : Launch) (X : gk_X) (i n : Nat) (hi : i < n) (hn : n ≤ 10) : CtP l X yJ17_checkIndex cJ17_checkIndex 3 (some .int) 1 0 0 [.int (nI (i)), .int (nI (n)), .null] [] (some (.int (nI (i)))) := by
  unfold CtP
  refine Ct.of (by decide) (Nat.le_of_ble_eq_true rfl) "jdk/internal/util/Preconditions" "checkIndex" rfl rfl (fun K F eL R => ?_)
  subst eL
  show G K X 3 0 0 [] [(0, .int (nI (i))), (1, .int (nI (n))), (2, .null)] 0 []
  refine g_iload_n 0 1 F dJ17_checkIndex_0 rfl rfl 0 rfl ?_
  refine g_ifN_lt 1 4 9 F dJ17_checkIndex_1 rfl (by decide) (by omega) (fun c_1 => ?_) (fun c_1 => ?_)
  · exact c_1.elim
  · refine g_iload_n 4 5 F dJ17_checkIndex_4 rfl rfl 0 rfl ?_
    refine g_iload_n 5 6 F dJ17_checkIndex_5 rfl rfl 1 rfl ?_
    refine g_icmpN_lt 6 9 16 F dJ17_checkIndex_6 rfl (by decide) (by omega) (by omega) (fun c_2 => ?_) (fun c_2 => ?_)
    · refine g_iload_n 16 17 F dJ17_checkIndex_16 rfl rfl 0 rfl ?_
      exact g_iret 17 F R dJ17_checkIndex_17 (Nat.zero_le _) (Nat.zero_le _) (⟨rfl, rfl⟩)
    · exact absurd c_2 (by omega)

set_option maxHeartbeats 4000000 in
theorem m_J12_checkIndex (l : Launch) (X : gk_X) (i n : Nat) (hi : i < n) (hn : n ≤ 10) : CtP l X yJ12_checkIndex cJ12_checkIndex 2 (some .int) 2 0 0 [.int (nI (i)), .int (nI (n))] [] (some (.int (nI (i)))) := by
  unfold CtP
  refine Ct.of (by decide) (Nat.le_of_ble_eq_true rfl) "java/util/Objects" "checkIndex" rfl rfl (fun K F eL R => ?_)
  subst eL
  show G K X 2 0 0 [] [(0, .int (nI (i))), (1, .int (nI (n)))] 0 []
  refine g_iload_n 0 1 F dJ12_checkIndex_0 rfl rfl 0 rfl ?_
  refine g_iload_n 1 2 F dJ12_checkIndex_1 rfl rfl 1 rfl ?_
  refine g_null 2 3 F dJ12_checkIndex_2 rfl ?_
  refine g_callP 3 6 F (CallOk.S (As := [.int (nI (i)), .int (nI (n)), .null]) (rest := []) F 3 q880 q881 q78 q882 cd_J17_checkIndex rfl rfl (Nat.le_of_ble_eq_true rfl) (Nat.le_of_ble_eq_true rfl) dJ12_checkIndex_3) (m_J17_checkIndex (kL K) X i n (by omega) (by omega)) rfl (Mr := []) [] [] rfl 0 rfl (by decide +kernel) rfl rfl (rc_T) (Nat.le_of_ble_eq_true rfl) (c2 := 0) (s2 := 0) (Nat.zero_le _) (Nat.zero_le _) rfl rfl (st1 := [.int (nI (i))]) rfl ?_
  exact g_iret 6 F R dJ12_checkIndex_6 (Nat.zero_le _) (Nat.zero_le _) (⟨rfl, rfl⟩)

set_option maxHeartbeats 4000000 in
theorem m_J2_get (l : Launch) (X : gk_X) (ls ar n i w : Nat) (m : Int32) (f : Nat → Option Nat) (hi : i < n) (hn : n ≤ 10) (hf : f i = some w) : CtP l X yJ2_get cJ2_get 2 (some (.object "java/lang/Object")) 3 0 0 [.ref ls, .int (nI (i))] [[(ls, ob 10 [.int (m), .ref ar, .int (nI (n))])], [(ar, oA X 4 10 (f))]] (some (.ref w)) := by
  unfold CtP
  refine Ct.of (by decide) (Nat.le_of_ble_eq_true rfl) "java/util/ArrayList" "get" rfl rfl (fun K F eL R => ?_)
  subst eL
  show G K X 2 0 0 [[(ls, ob 10 [.int (m), .ref ar, .int (nI (n))])], [(ar, oA X 4 10 (f))]] [(0, .ref ls), (1, .int (nI (i)))] 0 []
  refine g_iload_n 0 1 F dJ2_get_0 rfl rfl 1 rfl ?_
  refine g_aload_n 1 2 F dJ2_get_1 rfl rfl 0 rfl ?_
  refine g_get 2 5 F (ci := 10) in_J2 rfl 2 (by decide) q114 (fun _ h => h) dJ2_get_2 rfl 0 rfl (v := .int (nI (n))) rfl ?_
  refine g_callP 3 8 F (CallOk.S (As := [.int (nI (i)), .int (nI (n))]) (rest := []) F 2 q877 q878 q68 q879 cd_J12_checkIndex rfl rfl (Nat.le_of_ble_eq_true rfl) (Nat.le_of_ble_eq_true rfl) dJ2_get_5) (m_J12_checkIndex (kL K) X i n (by omega) (by omega)) rfl (Mr := [[(ls, ob 10 [.int (m), .ref ar, .int (nI (n))])], [(ar, oA X 4 10 (f))]]) [] [0, 1] rfl 2 rfl (by decide +kernel) rfl rfl (rc_T) (Nat.le_of_ble_eq_true rfl) (c2 := 0) (s2 := 0) (Nat.zero_le _) (Nat.zero_le _) rfl rfl (st1 := [.int (nI (i))]) rfl ?_
  refine g_pop 8 9 F dJ2_get_8 rfl rfl ?_
  refine g_aload_n 9 10 F dJ2_get_9 rfl rfl 0 rfl ?_
  refine g_iload_n 10 11 F dJ2_get_10 rfl rfl 1 rfl ?_
  refine g_callP 3 14 F (CallOk.V (C := "java/util/ArrayList") (b := ls) (As := [.int (nI (i))]) (rest := []) F 1 q883 q884 q885 q52 q886 cdV_J2_elementData rfl rfl (Nat.le_of_ble_eq_true rfl) (Nat.le_of_ble_eq_true rfl) dJ2_get_11) (m_J2_elementData (kL K) X ls ar n i w m f (by omega) hf) rfl (Mr := []) [0, 1] [] rfl 2 rfl (by decide +kernel) rfl rfl (rc_of F 0 10 rfl rfl) (Nat.le_of_ble_eq_true rfl) (c2 := 0) (s2 := 0) (Nat.zero_le _) (Nat.zero_le _) rfl rfl (st1 := [.ref w]) rfl ?_
  exact g_aret 14 F R dJ2_get_14 (Nat.zero_le _) (Nat.zero_le _) (Or.inl ⟨_, rfl⟩) (⟨rfl, rfl⟩)

set_option maxHeartbeats 4000000 in
theorem m_J18_init (l : Launch) (X : gk_X) (it ls n : Nat) (m : Int32) (av : Value)  : Ct l X yJ18_init cJ18_init 2 none 2 0 0 [.ref it, .ref ls] [[(it, ob 11 [.int (nI (0)), .int (nI (0)), .int (nI (0)), .null])], [(ls, ob 10 [.int (m), av, .int (nI (n))])]] (fun v M' => v = none ∧ M' = [[(it, ob 11 [.int (nI (0)), .int (-1), .int (m), .ref ls])], [(ls, ob 10 [.int (m), av, .int (nI (n))])]]) := by
  refine Ct.of (by decide) (Nat.le_of_ble_eq_true rfl) "java/util/ArrayList$Itr" "<init>" rfl rfl (fun K F eL R => ?_)
  subst eL
  show G K X 2 0 0 [[(it, ob 11 [.int (nI (0)), .int (nI (0)), .int (nI (0)), .null])], [(ls, ob 10 [.int (m), av, .int (nI (n))])]] [(0, .ref it), (1, .ref ls)] 0 []
  refine g_aload_n 0 1 F dJ18_init_0 rfl rfl 0 rfl ?_
  refine g_aload_n 1 2 F dJ18_init_1 rfl rfl 1 rfl ?_
  refine g_putF 2 5 F (ci := 11) in_J18 tyJ18 tyJ18_ok nmJ18 rfl 3 (by decide) q226 (fun _ h => h) rfl rfl dJ18_init_2 rfl 0 (rfl) (rfl) (Nat.le_of_ble_eq_true rfl) rfl (M' := [[(it, ob 11 [.int (nI (0)), .int (nI (0)), .int (nI (0)), .ref ls])], [(ls, ob 10 [.int (m), av, .int (nI (n))])]]) rfl ?_
  refine g_aload_n 5 6 F dJ18_init_5 rfl rfl 0 rfl ?_
  refine g_objInit 6 9 F q222 q93 q94 dJ18_init_6 rfl (Nat.le_of_ble_eq_true rfl) (Nat.le_of_ble_eq_true rfl) ?_
  refine g_aload_n 9 10 F dJ18_init_9 rfl rfl 0 rfl ?_
  refine g_iconst 10 11 F (-1) dJ18_init_10 rfl (by decide) ?_
  refine g_put 11 14 F (ci := 11) in_J18 tyJ18 tyJ18_ok nmJ18 rfl 1 (by decide) q224 (fun _ h => h) rfl dJ18_init_11 rfl 0 (rfl) (rfl) (Nat.le_of_ble_eq_true rfl) rfl (M' := [[(it, ob 11 [.int (nI (0)), .int (-1), .int (nI (0)), .ref ls])], [(ls, ob 10 [.int (m), av, .int (nI (n))])]]) rfl ?_
  refine g_aload_n 14 15 F dJ18_init_14 rfl rfl 0 rfl ?_
  refine g_aload_n 15 16 F dJ18_init_15 rfl rfl 0 rfl ?_
  refine g_get 16 19 F (ci := 11) in_J18 rfl 3 (by decide) q226 (fun _ h => h) dJ18_init_16 rfl 0 rfl (v := .ref ls) rfl ?_
  refine g_get 19 22 F (ci := 10) in_J2 rfl 0 (by decide) q116 (u_same (F.hts _ q117)) dJ18_init_19 rfl 1 rfl (v := .int (m)) rfl ?_
  refine g_put 22 25 F (ci := 11) in_J18 tyJ18 tyJ18_ok nmJ18 rfl 2 (by decide) q225 (fun _ h => h) rfl dJ18_init_22 rfl 0 (rfl) (rfl) (Nat.le_of_ble_eq_true rfl) rfl (M' := [[(it, ob 11 [.int (nI (0)), .int (-1), .int (m), .ref ls])], [(ls, ob 10 [.int (m), av, .int (nI (n))])]]) rfl ?_
  exact g_vret 25 F R dJ18_init_25 (Nat.zero_le _) (Nat.zero_le _) (⟨rfl, rfl⟩)

set_option maxHeartbeats 4000000 in
theorem m_J2_iterator (l : Launch) (X : gk_X) (ls n : Nat) (m : Int32) (av : Value)  : Ct l X yJ2_iterator cJ2_iterator 1 (some (.object "java/util/Iterator")) 3 1 4 [.ref ls] [[(ls, ob 10 [.int (m), av, .int (nI (n))])]] (fun v M' => ∃ q, v = some (.ref q) ∧ M' = [[(q, ob 11 [.int (nI (0)), .int (-1), .int (m), .ref ls])], [(ls, ob 10 [.int (m), av, .int (nI (n))])]]) := by
  refine Ct.of (by decide) (Nat.le_of_ble_eq_true rfl) "java/util/ArrayList" "iterator" rfl rfl (fun K F eL R => ?_)
  subst eL
  show G K X 1 0 0 [[(ls, ob 10 [.int (m), av, .int (nI (n))])]] [(0, .ref ls)] 0 []
  refine g_new 0 3 F in_J18 tyJ18 tyJ18_ok q217 q218 q79 (ci := 11) rfl (fs := [.int (nI (0)), .int (nI (0)), .int (nI (0)), .null]) (fun j hj => match j, hj with | 0, _ => rfl | 1, _ => rfl | 2, _ => rfl | 3, _ => rfl | j + 4, hj => absurd hj (by omega)) dJ2_iterator_0 rfl (c2 := 1) (s2 := 4) (Nat.le_refl _) (Nat.le_refl _) rfl rfl (M' := fun q => [[(ls, ob 10 [.int (m), av, .int (nI (n))])], [(q, ob 11 [.int (nI (0)), .int (nI (0)), .int (nI (0)), .null])]]) (fun _ => rfl) (fun q => ?_)
  show G K X 1 1 4 [[(ls, ob 10 [.int (m), av, .int (nI (n))])], [(q, ob 11 [.int (nI (0)), .int (nI (0)), .int (nI (0)), .null])]] [(0, .ref ls)] 3 [.ref q]
  refine g_dup 3 4 F dJ2_iterator_3 rfl rfl ?_
  refine g_aload_n 4 5 F dJ2_iterator_4 rfl rfl 0 rfl ?_
  refine g_call 3 8 F (CallOk.I (b := q) (As := [.ref ls]) (rest := [.ref q]) F 1 q219 q220 q79 q221 rfl cd_J18_init rfl rfl (Nat.le_of_ble_eq_true rfl) (Nat.le_of_ble_eq_true rfl) dJ2_iterator_5) (m_J18_init (kL K) X q ls n m av ) rfl (Mr := []) [1, 0] [] rfl rfl rfl (rc_T) (Nat.le_of_ble_eq_true rfl) (c2 := 1) (s2 := 4) (Nat.le_refl _) (Nat.le_refl _) rfl rfl (fun v M1 hp => ?_)
  obtain ⟨rfl, rfl⟩ := hp
  show G K X 1 1 4 [[(q, ob 11 [.int (nI (0)), .int (-1), .int (m), .ref ls])], [(ls, ob 10 [.int (m), av, .int (nI (n))])]] [(0, .ref ls)] 8 [.ref q]
  exact g_aret 8 F R dJ2_iterator_8 (Nat.le_refl _) (Nat.le_refl _) (Or.inl ⟨_, rfl⟩) (⟨q, rfl, rfl⟩)

set_option maxHeartbeats 4000000 in
theorem m_J18_hasNext (l : Launch) (X : gk_X) (it ls c n : Nat) (lr m m2 : Int32) (av : Value) (hc : c ≤ n) (hn : n ≤ 10) : CtP l X yJ18_hasNext cJ18_hasNext 1 (some .boolean) 1 0 0 [.ref it] [[(it, ob 11 [.int (nI (c)), .int (lr), .int (m2), .ref ls])], [(ls, ob 10 [.int (m), av, .int (nI (n))])]] (some (.int (bI (decide (¬ c = n))))) := by
  unfold CtP
  refine Ct.of (by decide) (Nat.le_of_ble_eq_true rfl) "java/util/ArrayList$Itr" "hasNext" rfl rfl (fun K F eL R => ?_)
  subst eL
  show G K X 1 0 0 [[(it, ob 11 [.int (nI (c)), .int (lr), .int (m2), .ref ls])], [(ls, ob 10 [.int (m), av, .int (nI (n))])]] [(0, .ref it)] 0 []
  refine g_aload_n 0 1 F dJ18_hasNext_0 rfl rfl 0 rfl ?_
  refine g_get 1 4 F (ci := 11) in_J18 rfl 0 (by decide) q223 (fun _ h => h) dJ18_hasNext_1 rfl 0 rfl (v := .int (nI (c))) rfl ?_
  refine g_aload_n 4 5 F dJ18_hasNext_4 rfl rfl 0 rfl ?_
  refine g_get 5 8 F (ci := 11) in_J18 rfl 3 (by decide) q226 (fun _ h => h) dJ18_hasNext_5 rfl 0 rfl (v := .ref ls) rfl ?_
  refine g_getN 8 11 F (ci := 10) in_J2 rfl 2 (by decide) q113 (fun _ h => h) dJ18_hasNext_8 rfl 1 rfl (v := .int (nI (n))) rfl ?_
  refine g_diaN_eq 11 18 19 F dJ18_hasNext_11 (by decide) dJ18_hasNext_14 dJ18_hasNext_15 (by decide) dJ18_hasNext_18 rfl (by omega) (by omega) ?_
  exact g_bret 19 F R dJ18_hasNext_19 (Nat.zero_le _) (Nat.zero_le _) (⟨rfl, rfl⟩)

set_option maxHeartbeats 4000000 in
theorem m_J18_checkForComodification (l : Launch) (X : gk_X) (it ls c n : Nat) (lr m : Int32) (av : Value)  : CtP l X yJ18_checkForComodification cJ18_checkForComodification 1 none 1 0 0 [.ref it] [[(it, ob 11 [.int (nI (c)), .int (lr), .int (m), .ref ls])], [(ls, ob 10 [.int (m), av, .int (nI (n))])]] none := by
  unfold CtP
  refine Ct.of (by decide) (Nat.le_of_ble_eq_true rfl) "java/util/ArrayList$Itr" "checkForComodification" rfl rfl (fun K F eL R => ?_)
  subst eL
  show G K X 1 0 0 [[(it, ob 11 [.int (nI (c)), .int (lr), .int (m), .ref ls])], [(ls, ob 10 [.int (m), av, .int (nI (n))])]] [(0, .ref it)] 0 []
  refine g_aload_n 0 1 F dJ18_checkForComodification_0 rfl rfl 0 rfl ?_
  refine g_get 1 4 F (ci := 11) in_J18 rfl 3 (by decide) q226 (fun _ h => h) dJ18_checkForComodification_1 rfl 0 rfl (v := .ref ls) rfl ?_
  refine g_get 4 7 F (ci := 10) in_J2 rfl 0 (by decide) q116 (u_same (F.hts _ q117)) dJ18_checkForComodification_4 rfl 1 rfl (v := .int (m)) rfl ?_
  refine g_aload_n 7 8 F dJ18_checkForComodification_7 rfl rfl 0 rfl ?_
  refine g_get 8 11 F (ci := 11) in_J18 rfl 2 (by decide) q225 (fun _ h => h) dJ18_checkForComodification_8 rfl 0 rfl (v := .int (m)) rfl ?_
  refine g_icmp_eq 11 14 22 F dJ18_checkForComodification_11 rfl (by decide) (fun c_1 => ?_) (fun c_1 => ?_)
  · exact g_vret 22 F R dJ18_checkForComodification_22 (Nat.zero_le _) (Nat.zero_le _) (⟨rfl, rfl⟩)
  · exact absurd rfl c_1

set_option maxHeartbeats 4000000 in
theorem m_J18_next (l : Launch) (X : gk_X) (it ls ar c n w : Nat) (lr m : Int32) (f : Nat → Option Nat) (hc : c < n) (hn : n ≤ 10) (hf : f c = some w) : Ct l X yJ18_next cJ18_next 3 (some (.object "java/lang/Object")) 2 0 0 [.ref it] [[(it, ob 11 [.int (nI (c)), .int (lr), .int (m), .ref ls])], [(ls, ob 10 [.int (m), .ref ar, .int (nI (n))])], [(ar, oA X 4 10 (f))]] (fun v M' => v = some (.ref w) ∧ M' = [[(it, ob 11 [.int (nI (c + 1)), .int (nI (c)), .int (m), .ref ls])], [(ls, ob 10 [.int (m), .ref ar, .int (nI (n))])], [(ar, oA X 4 10 (f))]]) := by
  refine Ct.of (by decide) (Nat.le_of_ble_eq_true rfl) "java/util/ArrayList$Itr" "next" rfl rfl (fun K F eL R => ?_)
  subst eL
  show G K X 3 0 0 [[(it, ob 11 [.int (nI (c)), .int (lr), .int (m), .ref ls])], [(ls, ob 10 [.int (m), .ref ar, .int (nI (n))])], [(ar, oA X 4 10 (f))]] [(0, .ref it)] 0 []
  refine g_aload_n 0 1 F dJ18_next_0 rfl rfl 0 rfl ?_
  refine g_callP 3 4 F (CallOk.V (C := "java/util/ArrayList$Itr") (b := it) (As := []) (rest := []) F 0 q255 q256 q257 q79 q258 cdV_J18_checkForComodification rfl rfl (Nat.le_of_ble_eq_true rfl) (Nat.le_of_ble_eq_true rfl) dJ18_next_1) (m_J18_checkForComodification (kL K) X it ls c n lr m (.ref ar) ) rfl (Mr := [[(ar, oA X 4 10 (f))]]) [0, 1] [2] rfl 3 rfl (by decide +kernel) rfl rfl (rc_of F 0 11 rfl rfl) (Nat.le_of_ble_eq_true rfl) (c2 := 0) (s2 := 0) (Nat.zero_le _) (Nat.zero_le _) rfl rfl (st1 := []) rfl ?_
  refine g_aload_n 4 5 F dJ18_next_4 rfl rfl 0 rfl ?_
  refine g_get 5 8 F (ci := 11) in_J18 rfl 0 (by decide) q223 (fun _ h => h) dJ18_next_5 rfl 0 rfl (v := .int (nI (c))) rfl ?_
  refine g_istore_n 8 9 F [(1, .int (nI (c))), (0, .ref it)] dJ18_next_8 rfl rfl (Nat.le_of_ble_eq_true rfl) rfl ?_
  refine g_iload_n 9 10 F dJ18_next_9 rfl rfl 0 rfl ?_
  refine g_aload_n 10 11 F dJ18_next_10 rfl rfl 1 rfl ?_
  refine g_get 11 14 F (ci := 11) in_J18 rfl 3 (by decide) q226 (fun _ h => h) dJ18_next_11 rfl 0 rfl (v := .ref ls) rfl ?_
  refine g_getN 14 17 F (ci := 10) in_J2 rfl 2 (by decide) q113 (fun _ h => h) dJ18_next_14 rfl 1 rfl (v := .int (nI (n))) rfl ?_
  refine g_icmpN_lt 17 20 28 F dJ18_next_17 rfl (by decide) (by omega) (by omega) (fun c_1 => ?_) (fun c_1 => ?_)
  · refine g_aload_n 28 29 F dJ18_next_28 rfl rfl 1 rfl ?_
    refine g_get 29 32 F (ci := 11) in_J18 rfl 3 (by decide) q226 (fun _ h => h) dJ18_next_29 rfl 0 rfl (v := .ref ls) rfl ?_
    refine g_get 32 35 F (ci := 10) in_J2 rfl 1 (by decide) q112 (fun _ h => h) dJ18_next_32 rfl 1 rfl (v := .ref ar) rfl ?_
    refine g_astore_n 35 36 F [(2, .ref ar), (1, .int (nI (c))), (0, .ref it)] dJ18_next_35 rfl rfl (Nat.le_of_ble_eq_true rfl) rfl ?_
    refine g_iload_n 36 37 F dJ18_next_36 rfl rfl 1 rfl ?_
    refine g_aload_n 37 38 F dJ18_next_37 rfl rfl 0 rfl ?_
    refine g_alen 38 39 F dJ18_next_38 rfl 2 4 rfl rfl (n := 10) rfl ?_
    refine g_icmpN_lt 39 42 50 F dJ18_next_39 rfl (by decide) (by omega) (by omega) (fun c_2 => ?_) (fun c_2 => ?_)
    · refine g_aload_n 50 51 F dJ18_next_50 rfl rfl 2 rfl ?_
      refine g_iload_n 51 52 F dJ18_next_51 rfl rfl 1 rfl ?_
      refine g_iconst 52 53 F (nI (1)) dJ18_next_52 rfl (by decide) ?_
      refine g_iadd 53 54 F (v := nI (c + 1)) dJ18_next_53 rfl (nI_add _ _) ?_
      refine g_put 54 57 F (ci := 11) in_J18 tyJ18 tyJ18_ok nmJ18 rfl 0 (by decide) q223 (fun _ h => h) rfl dJ18_next_54 rfl 0 (rfl) (rfl) (Nat.le_of_ble_eq_true rfl) rfl (M' := [[(it, ob 11 [.int (nI (c + 1)), .int (lr), .int (m), .ref ls])], [(ls, ob 10 [.int (m), .ref ar, .int (nI (n))])], [(ar, oA X 4 10 (f))]]) rfl ?_
      refine g_aload_n 57 58 F dJ18_next_57 rfl rfl 0 rfl ?_
      refine g_aload_n 58 59 F dJ18_next_58 rfl rfl 2 rfl ?_
      refine g_iload_n 59 60 F dJ18_next_59 rfl rfl 1 rfl ?_
      refine g_dup_x1 60 61 F dJ18_next_60 rfl rfl rfl ?_
      refine g_put 61 64 F (ci := 11) in_J18 tyJ18 tyJ18_ok nmJ18 rfl 1 (by decide) q224 (fun _ h => h) rfl dJ18_next_61 rfl 0 (rfl) (rfl) (Nat.le_of_ble_eq_true rfl) rfl (M' := [[(it, ob 11 [.int (nI (c + 1)), .int (nI (c)), .int (m), .ref ls])], [(ls, ob 10 [.int (m), .ref ar, .int (nI (n))])], [(ar, oA X 4 10 (f))]]) rfl ?_
      refine g_oald 64 65 F dJ18_next_64 rfl 2 (i := c) rfl rfl (Nat.le_of_ble_eq_true rfl) (by omega) (w := w) (hf) ?_
      exact g_aret 65 F R dJ18_next_65 (Nat.zero_le _) (Nat.zero_le _) (Or.inl ⟨_, rfl⟩) (⟨rfl, rfl⟩)
    · exact absurd c_2 (by omega)
  · exact absurd c_1 (by omega)
