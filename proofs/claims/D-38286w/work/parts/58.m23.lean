/-! Bumpward: edges -/
theorem cd_J11_empty : yJ11_empty.cls ≠ "java/lang/invoke/MethodHandle" ∧ yJ11_empty.cls ≠ "java/lang/invoke/VarHandle" ∧ (parseMethodDescriptor yJ11_empty.desc).map (fun d => d.parameters.length) = some 0 := by decide +kernel
theorem cdV_J11_get : yJ11_get.cls = "java/util/Optional" ∧ yJ11_get.cls ≠ "java/lang/invoke/MethodHandle" ∧ yJ11_get.cls ≠ "java/lang/invoke/VarHandle" ∧ (parseMethodDescriptor yJ11_get.desc).map (fun d => d.parameters.length) = some 0 := by decide +kernel
theorem cdV_J11_isEmpty : yJ11_isEmpty.cls = "java/util/Optional" ∧ yJ11_isEmpty.cls ≠ "java/lang/invoke/MethodHandle" ∧ yJ11_isEmpty.cls ≠ "java/lang/invoke/VarHandle" ∧ (parseMethodDescriptor yJ11_isEmpty.desc).map (fun d => d.parameters.length) = some 0 := by decide +kernel
theorem cd_J11_of : yJ11_of.cls ≠ "java/lang/invoke/MethodHandle" ∧ yJ11_of.cls ≠ "java/lang/invoke/VarHandle" ∧ (parseMethodDescriptor yJ11_of.desc).map (fun d => d.parameters.length) = some 1 := by decide +kernel
theorem cdV_X1_edge : yX1_edge.cls = "Bumpward" ∧ yX1_edge.cls ≠ "java/lang/invoke/MethodHandle" ∧ yX1_edge.cls ≠ "java/lang/invoke/VarHandle" ∧ (parseMethodDescriptor yX1_edge.desc).map (fun d => d.parameters.length) = some 2 := by decide +kernel
theorem cdV_X1_hour : yX1_hour.cls = "Bumpward" ∧ yX1_hour.cls ≠ "java/lang/invoke/MethodHandle" ∧ yX1_hour.cls ≠ "java/lang/invoke/VarHandle" ∧ (parseMethodDescriptor yX1_hour.desc).map (fun d => d.parameters.length) = some 0 := by decide +kernel
theorem cdV_X1_isShut : yX1_isShut.cls = "Bumpward" ∧ yX1_isShut.cls ≠ "java/lang/invoke/MethodHandle" ∧ yX1_isShut.cls ≠ "java/lang/invoke/VarHandle" ∧ (parseMethodDescriptor yX1_isShut.desc).map (fun d => d.parameters.length) = some 2 := by decide +kernel
theorem cdV_X4_isShut : yX4_isShut.cls = "Bumpward$Edge" ∧ yX4_isShut.cls ≠ "java/lang/invoke/MethodHandle" ∧ yX4_isShut.cls ≠ "java/lang/invoke/VarHandle" ∧ (parseMethodDescriptor yX4_isShut.desc).map (fun d => d.parameters.length) = some 1 := by decide +kernel
theorem cdV_X9_of : yX9_of.cls = "Bumpward$Plan" ∧ yX9_of.cls ≠ "java/lang/invoke/MethodHandle" ∧ yX9_of.cls ≠ "java/lang/invoke/VarHandle" ∧ (parseMethodDescriptor yX9_of.desc).map (fun d => d.parameters.length) = some 1 := by decide +kernel
set_option maxHeartbeats 4000000 in
theorem m_X4_isShut (l : Launch) (X : gk_X) (ed k : Nat) (h u : Int32) (hk : k < 3) : CtP l X yX4_isShut cX4_isShut 2 (some .boolean) 2 0 0 [.ref ed, .int (u)] [[(ed, ob 3 [.ref (X.2.2 k), .int (h)])]] (some (.int (bI (esB k h u)))) := by
  unfold CtP
  refine Ct.of (by decide) (Nat.le_of_ble_eq_true rfl) "Bumpward$Edge" "isShut" rfl rfl (fun K F eL R => ?_)
  subst eL
  show G K X 2 0 0 [[(ed, ob 3 [.ref (X.2.2 k), .int (h)])]] [(0, .ref ed), (1, .int (u))] 0 []
  refine g_aload_n 0 1 F dX4_isShut_0 rfl rfl 0 rfl ?_
  refine g_get 1 4 F (ci := 3) in_X4 rfl 0 (by decide) q157 (fun _ h => h) dX4_isShut_1 rfl 0 rfl (v := .ref (X.2.2 k)) rfl ?_
  refine g_aload_n 4 5 F dX4_isShut_4 rfl rfl 0 rfl ?_
  refine g_get 5 8 F (ci := 3) in_X4 rfl 1 (by decide) q159 (fun _ h => h) dX4_isShut_5 rfl 0 rfl (v := .int (h)) rfl ?_
  refine g_iload_n 8 9 F dX4_isShut_8 rfl rfl 1 rfl ?_
  refine g_shutK 9 12 F hk dX4_isShut_9 rfl (Nat.le_of_ble_eq_true rfl) (Nat.le_of_ble_eq_true rfl) [0] rfl rfl (Nat.le_of_ble_eq_true rfl) (Nat.le_of_ble_eq_true rfl) ?_
  exact g_bret 12 F R dX4_isShut_12 (Nat.zero_le _) (Nat.zero_le _) (⟨rfl, rfl⟩)

set_option maxHeartbeats 4000000 in
theorem m_X4_tell (l : Launch) (X : gk_X) (ed k t : Nat) (h u : Int32) (hk : k < 3) (ht : t < 3) : Ct l X yX4_tell cX4_tell 4 (some .int) 2 0 0 [.ref ed, .ref (X.2.2 t), .int (u)] [[(ed, ob 3 [.ref (X.2.2 k), .int (h)])]] (fun v M' => v = some (.int (nI (k))) ∧ M' = [[(ed, ob 3 [.ref (X.2.2 t), .int (if t = 2 then u else nI (0))])]]) := by
  refine Ct.of (by decide) (Nat.le_of_ble_eq_true rfl) "Bumpward$Edge" "tell" rfl rfl (fun K F eL R => ?_)
  subst eL
  show G K X 4 0 0 [[(ed, ob 3 [.ref (X.2.2 k), .int (h)])]] [(0, .ref ed), (1, .ref (X.2.2 t)), (2, .int (u))] 0 []
  refine g_aload_n 0 1 F dX4_tell_0 rfl rfl 0 rfl ?_
  refine g_get 1 4 F (ci := 3) in_X4 rfl 0 (by decide) q157 (fun _ h => h) dX4_tell_1 rfl 0 rfl (v := .ref (X.2.2 k)) rfl ?_
  refine g_ordK 4 7 F hk q693 dX4_tell_4 rfl (Nat.le_of_ble_eq_true rfl) (Nat.le_of_ble_eq_true rfl) [0] rfl rfl (Nat.zero_le _) (Nat.zero_le _) ?_
  refine g_istore_n 7 8 F [(3, .int (nI (k))), (0, .ref ed), (1, .ref (X.2.2 t)), (2, .int (u))] dX4_tell_7 rfl rfl (Nat.le_of_ble_eq_true rfl) rfl ?_
  refine g_aload_n 8 9 F dX4_tell_8 rfl rfl 1 rfl ?_
  refine g_aload_n 9 10 F dX4_tell_9 rfl rfl 2 rfl ?_
  refine g_put 10 13 F (ci := 3) in_X4 tyX4 tyX4_ok nmX4 rfl 0 (by decide) q157 (fun _ h => h) rfl dX4_tell_10 rfl 0 (rfl) (rfl) (Nat.le_of_ble_eq_true rfl) rfl (M' := [[(ed, ob 3 [.ref (X.2.2 t), .int (h)])]]) rfl ?_
  refine g_aload_n 13 14 F dX4_tell_13 rfl rfl 1 rfl ?_
  have J_1 : G K X 4 0 0 [[(ed, ob 3 [.ref (X.2.2 t), .int (h)])]] [(3, .int (nI (k))), (0, .ref ed), (1, .ref (X.2.2 t)), (2, .int (u))] 26 [.int (if t = 2 then u else nI (0)), .ref ed] := by
    refine g_put 26 29 F (ci := 3) in_X4 tyX4 tyX4_ok nmX4 rfl 1 (by decide) q159 (fun _ h => h) rfl dX4_tell_26 rfl 0 (rfl) (rfl) (Nat.le_of_ble_eq_true rfl) rfl (M' := [[(ed, ob 3 [.ref (X.2.2 t), .int (if t = 2 then u else nI (0))])]]) rfl ?_
    refine g_iload_n 29 30 F dX4_tell_29 rfl rfl 0 rfl ?_
    exact g_iret 30 F R dX4_tell_30 (Nat.zero_le _) (Nat.zero_le _) (⟨rfl, rfl⟩)
  refine g_aload_n 14 15 F dX4_tell_14 rfl rfl 2 rfl ?_
  refine g_gets 15 18 F (F.con.1.1.2.2.1) q694 (fun _ h => h) dX4_tell_15 rfl ?_
  refine g_acmp_ne 18 21 25 F dX4_tell_18 rfl (by decide) (fun c_2 => ?_) (fun c_2 => ?_)
  · have hne : ¬ t = 2 := fun q => c_2 (by rw [q])
    refine g_iconst 25 26 F (nI (0)) dX4_tell_25 rfl (by decide) ?_
    refine g_top (v := if t = 2 then u else nI (0)) (by first | rw [if_pos heq] | rw [if_neg hne]) ?_
    exact J_1
  · have heq := (kd_eq F ht (by decide)).mp c_2
    refine g_iload_n 21 22 F dX4_tell_21 rfl rfl 3 rfl ?_
    refine g_goto 22 26 F dX4_tell_22 (by decide) ?_
    refine g_top (v := if t = 2 then u else nI (0)) (by first | rw [if_pos heq] | rw [if_neg hne]) ?_
    exact J_1

set_option maxHeartbeats 4000000 in
theorem m_X5_values (l : Launch) (X : gk_X)   : Ct l X yX5_values cX5_values 0 (some (.array (.object "Bumpward$Kind"))) 2 1 3 [] [] (fun v M' => ∃ q, v = some (.ref q) ∧ M' = [[(q, oA X 3 3 (fun j => some (X.2.2 j)))]]) := by
  refine Ct.of (by decide) (Nat.le_of_ble_eq_true rfl) "Bumpward$Kind" "values" rfl rfl (fun K F eL R => ?_)
  subst eL
  show G K X 0 0 0 [] [] 0 []
  refine g_gets 0 3 F (F.con.1.1.2.2.2) q679 (fun _ h => h) dX5_values_0 rfl ?_
  refine g_cloneK 3 6 F dX5_values_3 rfl (Nat.le_of_ble_eq_true rfl) (Nat.le_of_ble_eq_true rfl) (c2 := 1) (s2 := 3) (Nat.le_of_ble_eq_true rfl) (Nat.le_of_ble_eq_true rfl) rfl rfl (M' := fun q => [[(q, oA X 3 3 (fun j => some (X.2.2 j)))]]) (fun _ => rfl) (fun q => ?_)
  refine g_castA 6 9 F (t := 3) q688 rfl (by decide +kernel) dX5_values_6 rfl (fl_mem (bi := 0) rfl (List.mem_singleton.mpr rfl)) ?_
  exact g_aret 9 F R dX5_values_9 (Nat.le_refl _) (Nat.le_refl _) (Or.inr ⟨_, rfl⟩) (⟨q, rfl, rfl⟩)

set_option maxHeartbeats 4000000 in
theorem m_X1_edge0 (l : Launch) (X : gk_X) (bo ea cx bx wl dw pt : Nat) (mi mt dp : Int32) (dg : Int64) (c s : Nat) (hc : c < 36) (hs : s < 4) (hb : bsD c s = 36) : CtP l X yX1_edge cX1_edge 3 (some (.object "java/util/Optional")) 5 1 1 [.ref bo, .int (nI (c)), .int (nI (s))] [[(bo, ob 0 [.ref ea, .ref cx, .ref bx, .ref wl, .ref dw, .ref pt, .int (mi), .int (mt), .int (dp), .long (dg)])]] (some (.ref (X.2.2 4))) := by
  unfold CtP
  refine Ct.of (by decide) (Nat.le_of_ble_eq_true rfl) "Bumpward" "edge" rfl rfl (fun K F eL R => ?_)
  subst eL
  show G K X 3 0 0 [[(bo, ob 0 [.ref ea, .ref cx, .ref bx, .ref wl, .ref dw, .ref pt, .int (mi), .int (mt), .int (dp), .long (dg)])]] [(0, .ref bo), (1, .int (nI (c))), (2, .int (nI (s)))] 0 []
  refine g_iload_n 0 1 F dX1_edge_0 rfl rfl 1 rfl ?_
  refine g_iload_n 1 2 F dX1_edge_1 rfl rfl 2 rfl ?_
  refine g_callP 3 5 F (CallOk.S (As := [.int (nI (c)), .int (nI (s))]) (rest := []) F 2 q356 q357 q49 q358 cd_X1_edgeAt rfl rfl (Nat.le_of_ble_eq_true rfl) (Nat.le_of_ble_eq_true rfl) dX1_edge_2) (m_X1_edgeAt (kL K) X c s (by omega) (by omega)) rfl (Mr := [[(bo, ob 0 [.ref ea, .ref cx, .ref bx, .ref wl, .ref dw, .ref pt, .int (mi), .int (mt), .int (dp), .long (dg)])]]) [] [0] rfl 1 rfl (by decide +kernel) rfl rfl (rc_T) (Nat.le_of_ble_eq_true rfl) (c2 := 0) (s2 := 0) (Nat.zero_le _) (Nat.zero_le _) rfl rfl (st1 := [.int (edI c s)]) rfl ?_
  refine g_iconst 5 6 F (-1) dX1_edge_5 rfl (by decide) ?_
  refine g_icmp_ne 6 9 15 F dX1_edge_6 rfl (by decide) (fun c_1 => ?_) (fun c_1 => ?_)
  · exact absurd ((edI_eq hc hs).mpr hb) c_1
  · refine g_callP 3 12 F (CallOk.S (As := []) (rest := []) F 0 q365 q366 q67 q367 cd_J11_empty rfl rfl (Nat.le_of_ble_eq_true rfl) (Nat.le_of_ble_eq_true rfl) dX1_edge_9) (m_J11_empty (kL K) X  ) rfl (Mr := [[(bo, ob 0 [.ref ea, .ref cx, .ref bx, .ref wl, .ref dw, .ref pt, .int (mi), .int (mt), .int (dp), .long (dg)])]]) [] [0] rfl 1 rfl (by decide +kernel) rfl rfl (rc_T) (Nat.le_of_ble_eq_true rfl) (c2 := 0) (s2 := 0) (Nat.zero_le _) (Nat.zero_le _) rfl rfl (st1 := [.ref (X.2.2 4)]) rfl ?_
    refine g_goto 12 28 F dX1_edge_12 (by decide) ?_
    exact g_aret 28 F R dX1_edge_28 (Nat.zero_le _) (Nat.zero_le _) (Or.inl ⟨_, rfl⟩) (⟨rfl, rfl⟩)

set_option maxHeartbeats 4000000 in
theorem m_X1_edge1 (l : Launch) (X : gk_X) (bo ea cx bx wl dw pt : Nat) (mi mt dp : Int32) (dg : Int64) (er : Nat → Nat) (c s : Nat) (hc : c < 36) (hs : s < 4) (hb : ¬ bsD c s = 36) : Ct l X yX1_edge cX1_edge 3 (some (.object "java/util/Optional")) 5 1 1 [.ref bo, .int (nI (c)), .int (nI (s))] [[(bo, ob 0 [.ref ea, .ref cx, .ref bx, .ref wl, .ref dw, .ref pt, .int (mi), .int (mt), .int (dp), .long (dg)])], [(ea, oA X 2 60 (fun j => some (er j)))]] (fun v M' => ∃ q, v = some (.ref q) ∧ M' = [[(bo, ob 0 [.ref ea, .ref cx, .ref bx, .ref wl, .ref dw, .ref pt, .int (mi), .int (mt), .int (dp), .long (dg)])], [(ea, oA X 2 60 (fun j => some (er j)))], [(q, ob 12 [.ref (er (edD c s))])]]) := by
  refine Ct.of (by decide) (Nat.le_of_ble_eq_true rfl) "Bumpward" "edge" rfl rfl (fun K F eL R => ?_)
  subst eL
  show G K X 3 0 0 [[(bo, ob 0 [.ref ea, .ref cx, .ref bx, .ref wl, .ref dw, .ref pt, .int (mi), .int (mt), .int (dp), .long (dg)])], [(ea, oA X 2 60 (fun j => some (er j)))]] [(0, .ref bo), (1, .int (nI (c))), (2, .int (nI (s)))] 0 []
  refine g_iload_n 0 1 F dX1_edge_0 rfl rfl 1 rfl ?_
  refine g_iload_n 1 2 F dX1_edge_1 rfl rfl 2 rfl ?_
  refine g_callP 3 5 F (CallOk.S (As := [.int (nI (c)), .int (nI (s))]) (rest := []) F 2 q356 q357 q49 q358 cd_X1_edgeAt rfl rfl (Nat.le_of_ble_eq_true rfl) (Nat.le_of_ble_eq_true rfl) dX1_edge_2) (m_X1_edgeAt (kL K) X c s (by omega) (by omega)) rfl (Mr := [[(bo, ob 0 [.ref ea, .ref cx, .ref bx, .ref wl, .ref dw, .ref pt, .int (mi), .int (mt), .int (dp), .long (dg)])], [(ea, oA X 2 60 (fun j => some (er j)))]]) [] [0, 1] rfl 2 rfl (by decide +kernel) rfl rfl (rc_T) (Nat.le_of_ble_eq_true rfl) (c2 := 0) (s2 := 0) (Nat.zero_le _) (Nat.zero_le _) rfl rfl (st1 := [.int (edI c s)]) rfl ?_
  refine g_iconst 5 6 F (-1) dX1_edge_5 rfl (by decide) ?_
  refine g_icmp_ne 6 9 15 F dX1_edge_6 rfl (by decide) (fun c_1 => ?_) (fun c_1 => ?_)
  · have hne := c_1
    refine g_aload_n 15 16 F dX1_edge_15 rfl rfl 0 rfl ?_
    refine g_get 16 19 F (ci := 0) in_X1 rfl 0 (by decide) q166 (fun _ h => h) dX1_edge_16 rfl 0 rfl (v := .ref ea) rfl ?_
    refine g_iload_n 19 20 F dX1_edge_19 rfl rfl 1 rfl ?_
    refine g_iload_n 20 21 F dX1_edge_20 rfl rfl 2 rfl ?_
    refine g_callP 3 24 F (CallOk.S (As := [.int (nI (c)), .int (nI (s))]) (rest := [.ref ea]) F 2 q356 q357 q49 q358 cd_X1_edgeAt rfl rfl (Nat.le_of_ble_eq_true rfl) (Nat.le_of_ble_eq_true rfl) dX1_edge_21) (m_X1_edgeAt (kL K) X c s (by omega) (by omega)) rfl (Mr := [[(bo, ob 0 [.ref ea, .ref cx, .ref bx, .ref wl, .ref dw, .ref pt, .int (mi), .int (mt), .int (dp), .long (dg)])], [(ea, oA X 2 60 (fun j => some (er j)))]]) [] [0, 1] rfl 2 rfl (by decide +kernel) rfl rfl (rc_T) (Nat.le_of_ble_eq_true rfl) (c2 := 0) (s2 := 0) (Nat.zero_le _) (Nat.zero_le _) rfl rfl (st1 := [.int (edI c s), .ref ea]) rfl ?_
    refine g_top (v := nI (edD c s)) (edI_nI hc hs hne) ?_
    refine g_oald 24 25 F dX1_edge_24 rfl 1 (i := edD c s) rfl rfl (Nat.le_of_ble_eq_true rfl) (edD_lt hc hs hb) (w := er (edD c s)) (rfl) ?_
    refine g_call 3 28 F (CallOk.S (As := [.ref (er (edD c s))]) (rest := []) F 1 q370 q371 q67 q372 cd_J11_of rfl rfl (Nat.le_of_ble_eq_true rfl) (Nat.le_of_ble_eq_true rfl) dX1_edge_25) (m_J11_of (kL K) X (er (edD c s)) ) rfl (Mr := [[(bo, ob 0 [.ref ea, .ref cx, .ref bx, .ref wl, .ref dw, .ref pt, .int (mi), .int (mt), .int (dp), .long (dg)])], [(ea, oA X 2 60 (fun j => some (er j)))]]) [] [0, 1] rfl rfl rfl (rc_T) (Nat.le_of_ble_eq_true rfl) (c2 := 1) (s2 := 1) (Nat.le_refl _) (Nat.le_refl _) rfl rfl (fun v M1 hp => ?_)
    obtain ⟨q_2, rfl, rfl⟩ := hp
    show G K X 3 1 1 [[(bo, ob 0 [.ref ea, .ref cx, .ref bx, .ref wl, .ref dw, .ref pt, .int (mi), .int (mt), .int (dp), .long (dg)])], [(ea, oA X 2 60 (fun j => some (er j)))], [(q_2, ob 12 [.ref (er (edD c s))])]] [(0, .ref bo), (1, .int (nI (c))), (2, .int (nI (s)))] 28 [.ref q_2]
    exact g_aret 28 F R dX1_edge_28 (Nat.le_refl _) (Nat.le_refl _) (Or.inl ⟨_, rfl⟩) (⟨q_2, rfl, rfl⟩)
  · exact absurd ((edI_eq hc hs).mp c_1) hb

set_option maxHeartbeats 4000000 in
theorem m_X1_isShut (l : Launch) (X : gk_X) (bo ea cx bx wl dw pt : Nat) (mi mt dp : Int32) (dg : Int64) (er : Nat → Nat) (kd : Nat → Nat) (hr : Nat → Int32) (c s : Nat) (hkd : ∀ k, k < 60 → kd k < 3) (hc : c < 36) (hs : s < 4) : CtP l X yX1_isShut cX1_isShut 4 (some .boolean) 6 1 1 [.ref bo, .int (nI (c)), .int (nI (s))] [[(bo, ob 0 [.ref ea, .ref cx, .ref bx, .ref wl, .ref dw, .ref pt, .int (mi), .int (mt), .int (dp), .long (dg)])], [(ea, oA X 2 60 (fun j => some (er j)))], poolW 60 (fun j => edC X (er j) (kd j) (hr j))] (some (.int (bI (swB kd hr mi c s)))) := by
  unfold CtP
  refine Ct.of (by decide) (Nat.le_of_ble_eq_true rfl) "Bumpward" "isShut" rfl rfl (fun K F eL R => ?_)
  subst eL
  show G K X 4 0 0 [[(bo, ob 0 [.ref ea, .ref cx, .ref bx, .ref wl, .ref dw, .ref pt, .int (mi), .int (mt), .int (dp), .long (dg)])], [(ea, oA X 2 60 (fun j => some (er j)))], poolW 60 (fun j => edC X (er j) (kd j) (hr j))] [(0, .ref bo), (1, .int (nI (c))), (2, .int (nI (s)))] 0 []
  refine g_aload_n 0 1 F dX1_isShut_0 rfl rfl 0 rfl ?_
  refine g_iload_n 1 2 F dX1_isShut_1 rfl rfl 1 rfl ?_
  refine g_iload_n 2 3 F dX1_isShut_2 rfl rfl 2 rfl ?_
  by_cases hb : bsD c s = 36
  · refine g_callP 3 6 F (CallOk.V (C := "Bumpward") (b := bo) (As := [.int (nI (c)), .int (nI (s))]) (rest := []) F 2 q352 q354 qs9 q49 q355 cdV_X1_edge rfl rfl (Nat.le_of_ble_eq_true rfl) (Nat.le_of_ble_eq_true rfl) dX1_isShut_3) (m_X1_edge0 (kL K) X bo ea cx bx wl dw pt mi mt dp dg c s (by omega) (by omega) hb) rfl (Mr := [[(ea, oA X 2 60 (fun j => some (er j)))], poolW 60 (fun j => edC X (er j) (kd j) (hr j))]) [0] [1, 2] rfl 3 rfl (by decide +kernel) rfl rfl (rc_of F 0 0 rfl rfl) (Nat.le_of_ble_eq_true rfl) (c2 := 1) (s2 := 1) (Nat.le_refl _) (Nat.le_refl _) rfl rfl (st1 := [.ref (X.2.2 4)]) rfl ?_
    refine g_astore_n 6 7 F [(3, .ref (X.2.2 4)), (0, .ref bo), (1, .int (nI (c))), (2, .int (nI (s)))] dX1_isShut_6 rfl rfl (Nat.le_of_ble_eq_true rfl) rfl ?_
    refine g_aload_n 7 8 F dX1_isShut_7 rfl rfl 0 rfl ?_
    refine g_callC 3 11 F (F.con.2.1.1.2.1) (CallOk.V (C := "java/util/Optional") (b := X.2.2 4) (As := []) (rest := []) F 0 q390 q391 q392 q67 q393 cdV_J11_isEmpty rfl rfl (Nat.le_of_ble_eq_true rfl) (Nat.le_of_ble_eq_true rfl) dX1_isShut_8) (m_J11_isEmpty0 (kL K) X  ) rfl [0, 1, 2] rfl rfl (Nat.le_of_ble_eq_true rfl) (c2 := 1) (s2 := 1) (Nat.le_refl _) (Nat.le_refl _) rfl rfl (st1 := [.int (bI (true))]) rfl ?_
    refine g_ifB_ne 11 14 31 F dX1_isShut_11 rfl (by decide) (fun c_1 => ?_) (fun c_1 => ?_)
    · refine g_iconst 31 32 F (nI (1)) dX1_isShut_31 rfl (by decide) ?_
      refine g_goto 32 36 F dX1_isShut_32 (by decide) ?_
      exact g_zret 36 F R dX1_isShut_36 (Nat.le_refl _) (Nat.le_refl _) (by decide) (⟨congrArg (fun z => some (Value.int z)) (by first | (rw [swB, decide_eq_true hb]; rfl) | (rw [swB, decide_eq_false hb, es_sh]; rfl)), rfl⟩)
    · exact absurd c_1 (by decide)
  · refine g_call 3 6 F (CallOk.V (C := "Bumpward") (b := bo) (As := [.int (nI (c)), .int (nI (s))]) (rest := []) F 2 q352 q354 qs9 q49 q355 cdV_X1_edge rfl rfl (Nat.le_of_ble_eq_true rfl) (Nat.le_of_ble_eq_true rfl) dX1_isShut_3) (m_X1_edge1 (kL K) X bo ea cx bx wl dw pt mi mt dp dg er c s (by omega) (by omega) hb) rfl (Mr := [poolW 60 (fun j => edC X (er j) (kd j) (hr j))]) [0, 1] [2] rfl rfl rfl (rc_of F 0 0 rfl rfl) (Nat.le_of_ble_eq_true rfl) (c2 := 1) (s2 := 1) (Nat.le_refl _) (Nat.le_refl _) rfl rfl (fun v M1 hp => ?_)
    obtain ⟨q_2, rfl, rfl⟩ := hp
    show G K X 4 1 1 [poolW 60 (fun j => edC X (er j) (kd j) (hr j)), [(bo, ob 0 [.ref ea, .ref cx, .ref bx, .ref wl, .ref dw, .ref pt, .int (mi), .int (mt), .int (dp), .long (dg)])], [(ea, oA X 2 60 (fun j => some (er j)))], [(q_2, ob 12 [.ref (er (edD c s))])]] [(0, .ref bo), (1, .int (nI (c))), (2, .int (nI (s)))] 6 [.ref q_2]
    refine g_astore_n 6 7 F [(3, .ref q_2), (0, .ref bo), (1, .int (nI (c))), (2, .int (nI (s)))] dX1_isShut_6 rfl rfl (Nat.le_of_ble_eq_true rfl) rfl ?_
    refine g_aload_n 7 8 F dX1_isShut_7 rfl rfl 0 rfl ?_
    refine g_callP 3 11 F (CallOk.V (C := "java/util/Optional") (b := q_2) (As := []) (rest := []) F 0 q390 q391 q392 q67 q393 cdV_J11_isEmpty rfl rfl (Nat.le_of_ble_eq_true rfl) (Nat.le_of_ble_eq_true rfl) dX1_isShut_8) (m_J11_isEmpty (kL K) X q_2 (er (edD c s)) ) rfl (Mr := [poolW 60 (fun j => edC X (er j) (kd j) (hr j)), [(bo, ob 0 [.ref ea, .ref cx, .ref bx, .ref wl, .ref dw, .ref pt, .int (mi), .int (mt), .int (dp), .long (dg)])], [(ea, oA X 2 60 (fun j => some (er j)))]]) [3] [0, 1, 2] rfl 4 rfl (by decide +kernel) rfl rfl (rc_of F 3 12 rfl rfl) (Nat.le_of_ble_eq_true rfl) (c2 := 1) (s2 := 1) (Nat.le_refl _) (Nat.le_refl _) rfl rfl (st1 := [.int (bI (false))]) rfl ?_
    refine g_ifB_ne 11 14 31 F dX1_isShut_11 rfl (by decide) (fun c_3 => ?_) (fun c_3 => ?_)
    · exact absurd c_3 (by decide)
    · refine g_aload_n 14 15 F dX1_isShut_14 rfl rfl 0 rfl ?_
      refine g_callP 3 18 F (CallOk.V (C := "java/util/Optional") (b := q_2) (As := []) (rest := []) F 0 q394 q395 q396 q67 q397 cdV_J11_get rfl rfl (Nat.le_of_ble_eq_true rfl) (Nat.le_of_ble_eq_true rfl) dX1_isShut_15) (m_J11_get (kL K) X q_2 (er (edD c s)) ) rfl (Mr := [poolW 60 (fun j => edC X (er j) (kd j) (hr j)), [(bo, ob 0 [.ref ea, .ref cx, .ref bx, .ref wl, .ref dw, .ref pt, .int (mi), .int (mt), .int (dp), .long (dg)])], [(ea, oA X 2 60 (fun j => some (er j)))]]) [3] [0, 1, 2] rfl 4 rfl (by decide +kernel) rfl rfl (rc_of F 3 12 rfl rfl) (Nat.le_of_ble_eq_true rfl) (c2 := 1) (s2 := 1) (Nat.le_refl _) (Nat.le_refl _) rfl rfl (st1 := [.ref (er (edD c s))]) rfl ?_
      refine g_cast 18 21 F (ci := 3) rfl q95 dX1_isShut_18 rfl (fl_mem (bi := 0) rfl (mem_ed (edD_lt hc hs hb))) ?_
      refine g_aload_n 21 22 F dX1_isShut_21 rfl rfl 1 rfl ?_
      refine g_callP 3 25 F (CallOk.V (C := "Bumpward") (b := bo) (As := []) (rest := [.ref (er (edD c s))]) F 0 q272 q274 qs3 q49 q275 cdV_X1_hour rfl rfl (Nat.le_of_ble_eq_true rfl) (Nat.le_of_ble_eq_true rfl) dX1_isShut_22) (m_X1_hour (kL K) X bo ea cx bx wl dw pt mi mt dp dg ) rfl (Mr := [poolW 60 (fun j => edC X (er j) (kd j) (hr j)), [(ea, oA X 2 60 (fun j => some (er j)))], [(q_2, ob 12 [.ref (er (edD c s))])]]) [1] [0, 2, 3] rfl 4 rfl (by decide +kernel) rfl rfl (rc_of F 1 0 rfl rfl) (Nat.le_of_ble_eq_true rfl) (c2 := 1) (s2 := 1) (Nat.le_refl _) (Nat.le_refl _) rfl rfl (st1 := [.int (hrI mi), .ref (er (edD c s))]) rfl ?_
      refine g_sel [poolW 60 (fun j => edC X (er j) (kd j) (hr j)), [(bo, ob 0 [.ref ea, .ref cx, .ref bx, .ref wl, .ref dw, .ref pt, .int (mi), .int (mt), .int (dp), .long (dg)])], [(ea, oA X 2 60 (fun j => some (er j)))], [(q_2, ob 12 [.ref (er (edD c s))])]] [0, 1, 2, 3] rfl rfl ?_
      refine g_popen (edD c s) (edD_lt hc hs hb) [[(er (edD c s), ob 3 [.ref (X.2.2 (kd (edD c s))), .int (hr (edD c s))])]] [[(bo, ob 0 [.ref ea, .ref cx, .ref bx, .ref wl, .ref dw, .ref pt, .int (mi), .int (mt), .int (dp), .long (dg)])], [(ea, oA X 2 60 (fun j => some (er j)))], [(q_2, ob 12 [.ref (er (edD c s))])]] rfl ?_
      show G K X 4 1 1 [[(er (edD c s), ob 3 [.ref (X.2.2 (kd (edD c s))), .int (hr (edD c s))])], poolX 60 (fun j => edC X (er j) (kd j) (hr j)) (edD c s), [(bo, ob 0 [.ref ea, .ref cx, .ref bx, .ref wl, .ref dw, .ref pt, .int (mi), .int (mt), .int (dp), .long (dg)])], [(ea, oA X 2 60 (fun j => some (er j)))], [(q_2, ob 12 [.ref (er (edD c s))])]] [(3, .ref q_2), (0, .ref bo), (1, .int (nI (c))), (2, .int (nI (s)))] 25 [.int (hrI mi), .ref (er (edD c s))]
      refine g_callP 3 28 F (CallOk.V (C := "Bumpward$Edge") (b := er (edD c s)) (As := [.int (hrI mi)]) (rest := []) F 1 q276 q277 q278 q55 q279 cdV_X4_isShut rfl rfl (Nat.le_of_ble_eq_true rfl) (Nat.le_of_ble_eq_true rfl) dX1_isShut_25) (m_X4_isShut (kL K) X (er (edD c s)) (kd (edD c s)) (hr (edD c s)) (hrI mi) (hkd (edD c s) (edD_lt hc hs hb))) rfl (Mr := [poolX 60 (fun j => edC X (er j) (kd j) (hr j)) (edD c s), [(bo, ob 0 [.ref ea, .ref cx, .ref bx, .ref wl, .ref dw, .ref pt, .int (mi), .int (mt), .int (dp), .long (dg)])], [(ea, oA X 2 60 (fun j => some (er j)))], [(q_2, ob 12 [.ref (er (edD c s))])]]) [0] [1, 2, 3, 4] rfl 5 rfl (by decide +kernel) rfl rfl (rc_of F 0 3 rfl rfl) (Nat.le_of_ble_eq_true rfl) (c2 := 1) (s2 := 1) (Nat.le_refl _) (Nat.le_refl _) rfl rfl (st1 := [.int (bI (esB (kd (edD c s)) (hr (edD c s)) (hrI mi)))]) rfl ?_
      refine g_sel [[(er (edD c s), ob 3 [.ref (X.2.2 (kd (edD c s))), .int (hr (edD c s))])], poolX 60 (fun j => edC X (er j) (kd j) (hr j)) (edD c s), [(bo, ob 0 [.ref ea, .ref cx, .ref bx, .ref wl, .ref dw, .ref pt, .int (mi), .int (mt), .int (dp), .long (dg)])], [(ea, oA X 2 60 (fun j => some (er j)))], [(q_2, ob 12 [.ref (er (edD c s))])]] [0, 1, 2, 3, 4] rfl rfl ?_
      refine g_pclose (edD c s) (edD_lt hc hs hb) [[(er (edD c s), ob 3 [.ref (X.2.2 (kd (edD c s))), .int (hr (edD c s))])]] [[(bo, ob 0 [.ref ea, .ref cx, .ref bx, .ref wl, .ref dw, .ref pt, .int (mi), .int (mt), .int (dp), .long (dg)])], [(ea, oA X 2 60 (fun j => some (er j)))], [(q_2, ob 12 [.ref (er (edD c s))])]] rfl (fun j => edC X (er j) (kd j) (hr j)) (rfl) (fun j hj hn => rfl) ?_
      show G K X 4 1 1 [poolW 60 (fun j => edC X (er j) (kd j) (hr j)), [(bo, ob 0 [.ref ea, .ref cx, .ref bx, .ref wl, .ref dw, .ref pt, .int (mi), .int (mt), .int (dp), .long (dg)])], [(ea, oA X 2 60 (fun j => some (er j)))], [(q_2, ob 12 [.ref (er (edD c s))])]] [(3, .ref q_2), (0, .ref bo), (1, .int (nI (c))), (2, .int (nI (s)))] 28 [.int (bI (esB (kd (edD c s)) (hr (edD c s)) (hrI mi)))]
      refine g_diaB_eq 28 35 36 F dX1_isShut_28 (by decide) dX1_isShut_31 dX1_isShut_32 (by decide) dX1_isShut_35 rfl ?_
      refine g_sel [[(bo, ob 0 [.ref ea, .ref cx, .ref bx, .ref wl, .ref dw, .ref pt, .int (mi), .int (mt), .int (dp), .long (dg)])], [(ea, oA X 2 60 (fun j => some (er j)))], poolW 60 (fun j => edC X (er j) (kd j) (hr j))] [1, 2, 0] rfl rfl ?_
      exact g_bret 36 F R dX1_isShut_36 (Nat.le_refl _) (Nat.le_refl _) (⟨congrArg (fun z => some (Value.int z)) (by first | (rw [swB, decide_eq_true hb]; rfl) | (rw [swB, decide_eq_false hb, es_sh]; rfl)), rfl⟩)

set_option maxHeartbeats 4000000 in
theorem m_X1_count (l : Launch) (X : gk_X) (bo ea cx bx wl dw pt : Nat) (mi mt dp : Int32) (dg : Int64) (er : Nat → Nat) (kd : Nat → Nat) (hr : Nat → Int32) (t : Nat) (hkd : ∀ k, k < 60 → kd k < 3) (ht : t < 3) : CtP l X yX1_count cX1_count 7 (some .int) 3 0 0 [.ref bo, .ref (X.2.2 t)] [[(bo, ob 0 [.ref ea, .ref cx, .ref bx, .ref wl, .ref dw, .ref pt, .int (mi), .int (mt), .int (dp), .long (dg)])], [(ea, oA X 2 60 (fun j => some (er j)))], poolW 60 (fun j => edC X (er j) (kd j) (hr j))] (some (.int (nI (cnt (fun k => decide (kd k = t)) 60)))) := by
  unfold CtP
  refine Ct.of (by decide) (Nat.le_of_ble_eq_true rfl) "Bumpward" "count" rfl rfl (fun K F eL R => ?_)
  subst eL
  show G K X 7 0 0 [[(bo, ob 0 [.ref ea, .ref cx, .ref bx, .ref wl, .ref dw, .ref pt, .int (mi), .int (mt), .int (dp), .long (dg)])], [(ea, oA X 2 60 (fun j => some (er j)))], poolW 60 (fun j => edC X (er j) (kd j) (hr j))] [(0, .ref bo), (1, .ref (X.2.2 t))] 0 []
  refine g_iconst 0 1 F (nI (0)) dX1_count_0 rfl (by decide) ?_
  refine g_istore_n 1 2 F [(2, .int (nI (0))), (0, .ref bo), (1, .ref (X.2.2 t))] dX1_count_1 rfl rfl (Nat.le_of_ble_eq_true rfl) rfl ?_
  refine g_aload_n 2 3 F dX1_count_2 rfl rfl 1 rfl ?_
  refine g_get 3 6 F (ci := 0) in_X1 rfl 0 (by decide) q166 (fun _ h => h) dX1_count_3 rfl 0 rfl (v := .ref ea) rfl ?_
  refine g_astore_n 6 7 F [(3, .ref ea), (2, .int (nI (0))), (0, .ref bo), (1, .ref (X.2.2 t))] dX1_count_6 rfl rfl (Nat.le_of_ble_eq_true rfl) rfl ?_
  refine g_aload_n 7 8 F dX1_count_7 rfl rfl 0 rfl ?_
  refine g_alen 8 9 F dX1_count_8 rfl 1 2 rfl rfl (n := 60) rfl ?_
  refine g_istore 9 11 F [(4, .int (nI (60))), (3, .ref ea), (2, .int (nI (0))), (0, .ref bo), (1, .ref (X.2.2 t))] dX1_count_9 rfl (Nat.le_of_ble_eq_true rfl) rfl ?_
  refine g_iconst 11 12 F (nI (0)) dX1_count_11 rfl (by decide) ?_
  refine g_istore 12 14 F [(5, .int (nI (0))), (4, .int (nI (60))), (3, .ref ea), (2, .int (nI (0))), (0, .ref bo), (1, .ref (X.2.2 t))] dX1_count_12 rfl (Nat.le_of_ble_eq_true rfl) rfl ?_
  refine g_ls [(0, .ref bo), (1, .ref (X.2.2 t)), (2, .int (nI (cnt (fun k => decide (kd k = t)) 0))), (3, .ref ea), (4, .int (nI (60))), (5, .int (nI (0)))] [4, 5, 3, 2, 1, 0] (rfl) ?_
  refine g_down (P := fun i => G K X 7 0 0 [[(bo, ob 0 [.ref ea, .ref cx, .ref bx, .ref wl, .ref dw, .ref pt, .int (mi), .int (mt), .int (dp), .long (dg)])], [(ea, oA X 2 60 (fun j => some (er j)))], poolW 60 (fun j => edC X (er j) (kd j) (hr j))] [(0, .ref bo), (1, .ref (X.2.2 t)), (2, .int (nI (cnt (fun k => decide (kd k = t)) i))), (3, .ref ea), (4, .int (nI (60))), (5, .int (nI (i)))] 14 []) 60 0 (by omega) ?_ (fun i hl_i hi_i ih_i => ?_)
  · show G K X 7 0 0 [[(bo, ob 0 [.ref ea, .ref cx, .ref bx, .ref wl, .ref dw, .ref pt, .int (mi), .int (mt), .int (dp), .long (dg)])], [(ea, oA X 2 60 (fun j => some (er j)))], poolW 60 (fun j => edC X (er j) (kd j) (hr j))] [(0, .ref bo), (1, .ref (X.2.2 t)), (2, .int (nI (cnt (fun k => decide (kd k = t)) 60))), (3, .ref ea), (4, .int (nI (60))), (5, .int (nI (60)))] 14 []
    refine g_iload 14 16 F dX1_count_14 rfl 5 rfl ?_
    refine g_iload 16 18 F dX1_count_16 rfl 4 rfl ?_
    refine g_icmpN_ge 18 21 53 F dX1_count_18 rfl (by decide) (by omega) (by omega) (fun c_1 => ?_) (fun c_1 => ?_)
    · refine g_iload_n 53 54 F dX1_count_53 rfl rfl 2 rfl ?_
      exact g_iret 54 F R dX1_count_54 (Nat.zero_le _) (Nat.zero_le _) (⟨rfl, rfl⟩)
    · exact absurd c_1 (by omega)
  · show G K X 7 0 0 [[(bo, ob 0 [.ref ea, .ref cx, .ref bx, .ref wl, .ref dw, .ref pt, .int (mi), .int (mt), .int (dp), .long (dg)])], [(ea, oA X 2 60 (fun j => some (er j)))], poolW 60 (fun j => edC X (er j) (kd j) (hr j))] [(0, .ref bo), (1, .ref (X.2.2 t)), (2, .int (nI (cnt (fun k => decide (kd k = t)) i))), (3, .ref ea), (4, .int (nI (60))), (5, .int (nI (i)))] 14 []
    refine g_iload 14 16 F dX1_count_14 rfl 5 rfl ?_
    refine g_iload 16 18 F dX1_count_16 rfl 4 rfl ?_
    refine g_icmpN_ge 18 21 53 F dX1_count_18 rfl (by decide) (by omega) (by omega) (fun c_2 => ?_) (fun c_2 => ?_)
    · exact absurd c_2 (by omega)
    · refine g_aload_n 21 22 F dX1_count_21 rfl rfl 3 rfl ?_
      refine g_iload 22 24 F dX1_count_22 rfl 5 rfl ?_
      refine g_oald 24 25 F dX1_count_24 rfl 1 (i := i) rfl rfl (Nat.le_of_ble_eq_true rfl) (by omega) (w := er i) (rfl) ?_
      refine g_astore 25 27 F [(6, .ref (er i)), (0, .ref bo), (1, .ref (X.2.2 t)), (2, .int (nI (cnt (fun k => decide (kd k = t)) i))), (3, .ref ea), (4, .int (nI (60))), (5, .int (nI (i)))] dX1_count_25 rfl (Nat.le_of_ble_eq_true rfl) rfl ?_
      refine g_iload_n 27 28 F dX1_count_27 rfl rfl 3 rfl ?_
      have J_3 : G K X 7 0 0 [[(bo, ob 0 [.ref ea, .ref cx, .ref bx, .ref wl, .ref dw, .ref pt, .int (mi), .int (mt), .int (dp), .long (dg)])], [(ea, oA X 2 60 (fun j => some (er j)))], poolW 60 (fun j => edC X (er j) (kd j) (hr j))] [(6, .ref (er i)), (0, .ref bo), (1, .ref (X.2.2 t)), (2, .int (nI (cnt (fun k => decide (kd k = t)) i))), (3, .ref ea), (4, .int (nI (60))), (5, .int (nI (i)))] 42 [.int (bI (decide (kd i = t))), .int (nI (cnt (fun k => decide (kd k = t)) i))] := by
        refine g_callP 3 45 F (CallOk.S (As := [.int (bI (decide (kd i = t)))]) (rest := [.int (nI (cnt (fun k => decide (kd k = t)) i))]) F 1 q291 q292 q49 q293 cd_X1_one rfl rfl (Nat.le_of_ble_eq_true rfl) (Nat.le_of_ble_eq_true rfl) dX1_count_42) (m_X1_one (kL K) X (decide (kd i = t)) ) rfl (Mr := [[(bo, ob 0 [.ref ea, .ref cx, .ref bx, .ref wl, .ref dw, .ref pt, .int (mi), .int (mt), .int (dp), .long (dg)])], [(ea, oA X 2 60 (fun j => some (er j)))], poolW 60 (fun j => edC X (er j) (kd j) (hr j))]) [] [0, 1, 2] rfl 3 rfl (by decide +kernel) rfl rfl (rc_T) (Nat.le_of_ble_eq_true rfl) (c2 := 0) (s2 := 0) (Nat.zero_le _) (Nat.zero_le _) rfl rfl (st1 := [.int (bI (decide (kd i = t))), .int (nI (cnt (fun k => decide (kd k = t)) i))]) rfl ?_
        refine g_iadd 45 46 F (v := nI (cnt (fun k => decide (kd k = t)) i + (bN (decide (kd i = t))))) dX1_count_45 rfl (nI_addB _ _) ?_
        refine g_istore_n 46 47 F [(2, .int (nI (cnt (fun k => decide (kd k = t)) i + (bN (decide (kd i = t)))))), (6, .ref (er i)), (0, .ref bo), (1, .ref (X.2.2 t)), (3, .ref ea), (4, .int (nI (60))), (5, .int (nI (i)))] dX1_count_46 rfl rfl (Nat.le_of_ble_eq_true rfl) rfl ?_
        refine g_iinc 47 50 F (v := nI (i + 1)) [(5, .int (nI (i + 1))), (2, .int (nI (cnt (fun k => decide (kd k = t)) i + (bN (decide (kd i = t)))))), (6, .ref (er i)), (0, .ref bo), (1, .ref (X.2.2 t)), (3, .ref ea), (4, .int (nI (60)))] dX1_count_47 rfl 6 rfl (nI_add _ _) (Nat.le_of_ble_eq_true rfl) rfl ?_
        refine g_goto 50 14 F dX1_count_50 (by decide) ?_
        refine g_ls [(0, .ref bo), (1, .ref (X.2.2 t)), (2, .int (nI (cnt (fun k => decide (kd k = t)) (i + 1)))), (3, .ref ea), (4, .int (nI (60))), (5, .int (nI (i + 1)))] [3, 4, 1, 5, 6, 0] (rfl) ?_
        exact ih_i
      refine g_aload 28 30 F dX1_count_28 rfl 0 rfl ?_
      refine g_getM 30 33 F (ci := 3) in_X4 rfl 0 (by decide) q158 (fun _ h => h) dX1_count_30 rfl (fl_mem (bi := 2) rfl (mem_ed hi_i)) (v := .ref (X.2.2 (kd i))) rfl ?_
      refine g_aload_n 33 34 F dX1_count_33 rfl rfl 2 rfl ?_
      refine g_acmp_ne 34 37 41 F dX1_count_34 rfl (by decide) (fun c_4 => ?_) (fun c_4 => ?_)
      · have hne : ¬ kd i = t := fun q => c_4 (by rw [q])
        refine g_iconst 41 42 F (nI (0)) dX1_count_41 rfl (by decide) ?_
        refine g_top (v := bI (decide (kd i = t))) (by first | exact ct_1 heq | exact ct_2 hne) ?_
        exact J_3
      · have heq := (kd_eq F (hkd i hi_i) ht).mp c_4
        refine g_iconst 37 38 F (nI (1)) dX1_count_37 rfl (by decide) ?_
        refine g_goto 38 42 F dX1_count_38 (by decide) ?_
        refine g_top (v := bI (decide (kd i = t))) (by first | exact ct_1 heq | exact ct_2 hne) ?_
        exact J_3

set_option maxHeartbeats 4000000 in
theorem m_X1_openDoors (l : Launch) (X : gk_X) (bo ea cx bx wl dw pt : Nat) (mi mt dp : Int32) (dg : Int64) (er : Nat → Nat) (kd : Nat → Nat) (hr : Nat → Int32) (hkd : ∀ k, k < 60 → kd k < 3) : CtP l X yX1_openDoors cX1_openDoors 6 (some .int) 4 0 0 [.ref bo] [[(bo, ob 0 [.ref ea, .ref cx, .ref bx, .ref wl, .ref dw, .ref pt, .int (mi), .int (mt), .int (dp), .long (dg)])], [(ea, oA X 2 60 (fun j => some (er j)))], poolW 60 (fun j => edC X (er j) (kd j) (hr j))] (some (.int (nI (cnt (odP kd hr mi) 60)))) := by
  unfold CtP
  refine Ct.of (by decide) (Nat.le_of_ble_eq_true rfl) "Bumpward" "openDoors" rfl rfl (fun K F eL R => ?_)
  subst eL
  show G K X 6 0 0 [[(bo, ob 0 [.ref ea, .ref cx, .ref bx, .ref wl, .ref dw, .ref pt, .int (mi), .int (mt), .int (dp), .long (dg)])], [(ea, oA X 2 60 (fun j => some (er j)))], poolW 60 (fun j => edC X (er j) (kd j) (hr j))] [(0, .ref bo)] 0 []
  refine g_iconst 0 1 F (nI (0)) dX1_openDoors_0 rfl (by decide) ?_
  refine g_istore_n 1 2 F [(1, .int (nI (0))), (0, .ref bo)] dX1_openDoors_1 rfl rfl (Nat.le_of_ble_eq_true rfl) rfl ?_
  refine g_aload_n 2 3 F dX1_openDoors_2 rfl rfl 1 rfl ?_
  refine g_get 3 6 F (ci := 0) in_X1 rfl 0 (by decide) q166 (fun _ h => h) dX1_openDoors_3 rfl 0 rfl (v := .ref ea) rfl ?_
  refine g_astore_n 6 7 F [(2, .ref ea), (1, .int (nI (0))), (0, .ref bo)] dX1_openDoors_6 rfl rfl (Nat.le_of_ble_eq_true rfl) rfl ?_
  refine g_aload_n 7 8 F dX1_openDoors_7 rfl rfl 0 rfl ?_
  refine g_alen 8 9 F dX1_openDoors_8 rfl 1 2 rfl rfl (n := 60) rfl ?_
  refine g_istore_n 9 10 F [(3, .int (nI (60))), (2, .ref ea), (1, .int (nI (0))), (0, .ref bo)] dX1_openDoors_9 rfl rfl (Nat.le_of_ble_eq_true rfl) rfl ?_
  refine g_iconst 10 11 F (nI (0)) dX1_openDoors_10 rfl (by decide) ?_
  refine g_istore 11 13 F [(4, .int (nI (0))), (3, .int (nI (60))), (2, .ref ea), (1, .int (nI (0))), (0, .ref bo)] dX1_openDoors_11 rfl (Nat.le_of_ble_eq_true rfl) rfl ?_
  refine g_ls [(0, .ref bo), (1, .int (nI (cnt (odP kd hr mi) 0))), (2, .ref ea), (3, .int (nI (60))), (4, .int (nI (0)))] [4, 3, 2, 1, 0] (rfl) ?_
  refine g_down (P := fun i => G K X 6 0 0 [[(bo, ob 0 [.ref ea, .ref cx, .ref bx, .ref wl, .ref dw, .ref pt, .int (mi), .int (mt), .int (dp), .long (dg)])], [(ea, oA X 2 60 (fun j => some (er j)))], poolW 60 (fun j => edC X (er j) (kd j) (hr j))] [(0, .ref bo), (1, .int (nI (cnt (odP kd hr mi) i))), (2, .ref ea), (3, .int (nI (60))), (4, .int (nI (i)))] 13 []) 60 0 (by omega) ?_ (fun i hl_i hi_i ih_i => ?_)
  · show G K X 6 0 0 [[(bo, ob 0 [.ref ea, .ref cx, .ref bx, .ref wl, .ref dw, .ref pt, .int (mi), .int (mt), .int (dp), .long (dg)])], [(ea, oA X 2 60 (fun j => some (er j)))], poolW 60 (fun j => edC X (er j) (kd j) (hr j))] [(0, .ref bo), (1, .int (nI (cnt (odP kd hr mi) 60))), (2, .ref ea), (3, .int (nI (60))), (4, .int (nI (60)))] 13 []
    refine g_iload 13 15 F dX1_openDoors_13 rfl 4 rfl ?_
    refine g_iload_n 15 16 F dX1_openDoors_15 rfl rfl 3 rfl ?_
    refine g_icmpN_ge 16 19 65 F dX1_openDoors_16 rfl (by decide) (by omega) (by omega) (fun c_1 => ?_) (fun c_1 => ?_)
    · refine g_iload_n 65 66 F dX1_openDoors_65 rfl rfl 1 rfl ?_
      exact g_iret 66 F R dX1_openDoors_66 (Nat.zero_le _) (Nat.zero_le _) (⟨rfl, rfl⟩)
    · exact absurd c_1 (by omega)
  · show G K X 6 0 0 [[(bo, ob 0 [.ref ea, .ref cx, .ref bx, .ref wl, .ref dw, .ref pt, .int (mi), .int (mt), .int (dp), .long (dg)])], [(ea, oA X 2 60 (fun j => some (er j)))], poolW 60 (fun j => edC X (er j) (kd j) (hr j))] [(0, .ref bo), (1, .int (nI (cnt (odP kd hr mi) i))), (2, .ref ea), (3, .int (nI (60))), (4, .int (nI (i)))] 13 []
    refine g_iload 13 15 F dX1_openDoors_13 rfl 4 rfl ?_
    refine g_iload_n 15 16 F dX1_openDoors_15 rfl rfl 3 rfl ?_
    refine g_icmpN_ge 16 19 65 F dX1_openDoors_16 rfl (by decide) (by omega) (by omega) (fun c_2 => ?_) (fun c_2 => ?_)
    · exact absurd c_2 (by omega)
    · refine g_aload_n 19 20 F dX1_openDoors_19 rfl rfl 2 rfl ?_
      refine g_iload 20 22 F dX1_openDoors_20 rfl 4 rfl ?_
      refine g_oald 22 23 F dX1_openDoors_22 rfl 1 (i := i) rfl rfl (Nat.le_of_ble_eq_true rfl) (by omega) (w := er i) (rfl) ?_
      refine g_astore 23 25 F [(5, .ref (er i)), (0, .ref bo), (1, .int (nI (cnt (odP kd hr mi) i))), (2, .ref ea), (3, .int (nI (60))), (4, .int (nI (i)))] dX1_openDoors_23 rfl (Nat.le_of_ble_eq_true rfl) rfl ?_
      refine g_iload_n 25 26 F dX1_openDoors_25 rfl rfl 2 rfl ?_
      have J_3 : G K X 6 0 0 [[(bo, ob 0 [.ref ea, .ref cx, .ref bx, .ref wl, .ref dw, .ref pt, .int (mi), .int (mt), .int (dp), .long (dg)])], [(ea, oA X 2 60 (fun j => some (er j)))], poolW 60 (fun j => edC X (er j) (kd j) (hr j))] [(5, .ref (er i)), (0, .ref bo), (1, .int (nI (cnt (odP kd hr mi) i))), (2, .ref ea), (3, .int (nI (60))), (4, .int (nI (i)))] 54 [.int (bI (odP kd hr mi i)), .int (nI (cnt (odP kd hr mi) i))] := by
        refine g_callP 3 57 F (CallOk.S (As := [.int (bI (odP kd hr mi i))]) (rest := [.int (nI (cnt (odP kd hr mi) i))]) F 1 q291 q292 q49 q293 cd_X1_one rfl rfl (Nat.le_of_ble_eq_true rfl) (Nat.le_of_ble_eq_true rfl) dX1_openDoors_54) (m_X1_one (kL K) X (odP kd hr mi i) ) rfl (Mr := [[(bo, ob 0 [.ref ea, .ref cx, .ref bx, .ref wl, .ref dw, .ref pt, .int (mi), .int (mt), .int (dp), .long (dg)])], [(ea, oA X 2 60 (fun j => some (er j)))], poolW 60 (fun j => edC X (er j) (kd j) (hr j))]) [] [0, 1, 2] rfl 3 rfl (by decide +kernel) rfl rfl (rc_T) (Nat.le_of_ble_eq_true rfl) (c2 := 0) (s2 := 0) (Nat.zero_le _) (Nat.zero_le _) rfl rfl (st1 := [.int (bI (odP kd hr mi i)), .int (nI (cnt (odP kd hr mi) i))]) rfl ?_
        refine g_iadd 57 58 F (v := nI (cnt (odP kd hr mi) i + (bN (odP kd hr mi i)))) dX1_openDoors_57 rfl (nI_addB _ _) ?_
        refine g_istore_n 58 59 F [(1, .int (nI (cnt (odP kd hr mi) i + (bN (odP kd hr mi i))))), (5, .ref (er i)), (0, .ref bo), (2, .ref ea), (3, .int (nI (60))), (4, .int (nI (i)))] dX1_openDoors_58 rfl rfl (Nat.le_of_ble_eq_true rfl) rfl ?_
        refine g_iinc 59 62 F (v := nI (i + 1)) [(4, .int (nI (i + 1))), (1, .int (nI (cnt (odP kd hr mi) i + (bN (odP kd hr mi i))))), (5, .ref (er i)), (0, .ref bo), (2, .ref ea), (3, .int (nI (60)))] dX1_openDoors_59 rfl 5 rfl (nI_add _ _) (Nat.le_of_ble_eq_true rfl) rfl ?_
        refine g_goto 62 13 F dX1_openDoors_62 (by decide) ?_
        refine g_ls [(0, .ref bo), (1, .int (nI (cnt (odP kd hr mi) (i + 1)))), (2, .ref ea), (3, .int (nI (60))), (4, .int (nI (i + 1)))] [3, 1, 4, 5, 0] (rfl) ?_
        exact ih_i
      refine g_aload 26 28 F dX1_openDoors_26 rfl 0 rfl ?_
      refine g_getM 28 31 F (ci := 3) in_X4 rfl 0 (by decide) q158 (fun _ h => h) dX1_openDoors_28 rfl (fl_mem (bi := 2) rfl (mem_ed hi_i)) (v := .ref (X.2.2 (kd i))) rfl ?_
      refine g_gets 31 34 F (F.con.1.1.2.2.1) q322 (fun _ h => h) dX1_openDoors_31 rfl ?_
      refine g_acmp_ne 34 37 53 F dX1_openDoors_34 rfl (by decide) (fun c_4 => ?_) (fun c_4 => ?_)
      · have hne : ¬ kd i = 2 := fun q => c_4 (by rw [q])
        refine g_iconst 53 54 F (nI (0)) dX1_openDoors_53 rfl (by decide) ?_
        refine g_top (v := bI (odP kd hr mi i)) (by first | exact od_1 hne | exact od_2 heq) ?_
        exact J_3
      · have heq := (kd_eq F (hkd i hi_i) (by decide)).mp c_4
        refine g_aload 37 39 F dX1_openDoors_37 rfl 0 rfl ?_
        refine g_aload_n 39 40 F dX1_openDoors_39 rfl rfl 1 rfl ?_
        refine g_callP 3 43 F (CallOk.V (C := "Bumpward") (b := bo) (As := []) (rest := [.ref (er i), .int (nI (cnt (odP kd hr mi) i))]) F 0 q272 q274 qs3 q49 q275 cdV_X1_hour rfl rfl (Nat.le_of_ble_eq_true rfl) (Nat.le_of_ble_eq_true rfl) dX1_openDoors_40) (m_X1_hour (kL K) X bo ea cx bx wl dw pt mi mt dp dg ) rfl (Mr := [[(ea, oA X 2 60 (fun j => some (er j)))], poolW 60 (fun j => edC X (er j) (kd j) (hr j))]) [0] [1, 2] rfl 3 rfl (by decide +kernel) rfl rfl (rc_of F 0 0 rfl rfl) (Nat.le_of_ble_eq_true rfl) (c2 := 0) (s2 := 0) (Nat.zero_le _) (Nat.zero_le _) rfl rfl (st1 := [.int (hrI mi), .ref (er i), .int (nI (cnt (odP kd hr mi) i))]) rfl ?_
        refine g_sel [poolW 60 (fun j => edC X (er j) (kd j) (hr j)), [(bo, ob 0 [.ref ea, .ref cx, .ref bx, .ref wl, .ref dw, .ref pt, .int (mi), .int (mt), .int (dp), .long (dg)])], [(ea, oA X 2 60 (fun j => some (er j)))]] [2, 0, 1] rfl rfl ?_
        refine g_popen (i) hi_i [[(er i, ob 3 [.ref (X.2.2 (kd i)), .int (hr i)])]] [[(bo, ob 0 [.ref ea, .ref cx, .ref bx, .ref wl, .ref dw, .ref pt, .int (mi), .int (mt), .int (dp), .long (dg)])], [(ea, oA X 2 60 (fun j => some (er j)))]] rfl ?_
        show G K X 6 0 0 [[(er i, ob 3 [.ref (X.2.2 (kd i)), .int (hr i)])], poolX 60 (fun j => edC X (er j) (kd j) (hr j)) (i), [(bo, ob 0 [.ref ea, .ref cx, .ref bx, .ref wl, .ref dw, .ref pt, .int (mi), .int (mt), .int (dp), .long (dg)])], [(ea, oA X 2 60 (fun j => some (er j)))]] [(5, .ref (er i)), (0, .ref bo), (1, .int (nI (cnt (odP kd hr mi) i))), (2, .ref ea), (3, .int (nI (60))), (4, .int (nI (i)))] 43 [.int (hrI mi), .ref (er i), .int (nI (cnt (odP kd hr mi) i))]
        refine g_callP 3 46 F (CallOk.V (C := "Bumpward$Edge") (b := er i) (As := [.int (hrI mi)]) (rest := [.int (nI (cnt (odP kd hr mi) i))]) F 1 q276 q277 q278 q55 q279 cdV_X4_isShut rfl rfl (Nat.le_of_ble_eq_true rfl) (Nat.le_of_ble_eq_true rfl) dX1_openDoors_43) (m_X4_isShut (kL K) X (er i) (kd i) (hr i) (hrI mi) (hkd i hi_i)) rfl (Mr := [poolX 60 (fun j => edC X (er j) (kd j) (hr j)) (i), [(bo, ob 0 [.ref ea, .ref cx, .ref bx, .ref wl, .ref dw, .ref pt, .int (mi), .int (mt), .int (dp), .long (dg)])], [(ea, oA X 2 60 (fun j => some (er j)))]]) [0] [1, 2, 3] rfl 4 rfl (by decide +kernel) rfl rfl (rc_of F 0 3 rfl rfl) (Nat.le_of_ble_eq_true rfl) (c2 := 0) (s2 := 0) (Nat.zero_le _) (Nat.zero_le _) rfl rfl (st1 := [.int (bI (esB (kd i) (hr i) (hrI mi))), .int (nI (cnt (odP kd hr mi) i))]) rfl ?_
        refine g_sel [[(er i, ob 3 [.ref (X.2.2 (kd i)), .int (hr i)])], poolX 60 (fun j => edC X (er j) (kd j) (hr j)) (i), [(bo, ob 0 [.ref ea, .ref cx, .ref bx, .ref wl, .ref dw, .ref pt, .int (mi), .int (mt), .int (dp), .long (dg)])], [(ea, oA X 2 60 (fun j => some (er j)))]] [0, 1, 2, 3] rfl rfl ?_
        refine g_pclose (i) hi_i [[(er i, ob 3 [.ref (X.2.2 (kd i)), .int (hr i)])]] [[(bo, ob 0 [.ref ea, .ref cx, .ref bx, .ref wl, .ref dw, .ref pt, .int (mi), .int (mt), .int (dp), .long (dg)])], [(ea, oA X 2 60 (fun j => some (er j)))]] rfl (fun j => edC X (er j) (kd j) (hr j)) (rfl) (fun j hj hn => rfl) ?_
        show G K X 6 0 0 [poolW 60 (fun j => edC X (er j) (kd j) (hr j)), [(bo, ob 0 [.ref ea, .ref cx, .ref bx, .ref wl, .ref dw, .ref pt, .int (mi), .int (mt), .int (dp), .long (dg)])], [(ea, oA X 2 60 (fun j => some (er j)))]] [(5, .ref (er i)), (0, .ref bo), (1, .int (nI (cnt (odP kd hr mi) i))), (2, .ref ea), (3, .int (nI (60))), (4, .int (nI (i)))] 46 [.int (bI (esB (kd i) (hr i) (hrI mi))), .int (nI (cnt (odP kd hr mi) i))]
        refine g_diaB_ne 46 53 54 F dX1_openDoors_46 (by decide) dX1_openDoors_49 dX1_openDoors_50 (by decide) dX1_openDoors_53 rfl ?_
        refine g_sel [[(bo, ob 0 [.ref ea, .ref cx, .ref bx, .ref wl, .ref dw, .ref pt, .int (mi), .int (mt), .int (dp), .long (dg)])], [(ea, oA X 2 60 (fun j => some (er j)))], poolW 60 (fun j => edC X (er j) (kd j) (hr j))] [1, 2, 0] rfl rfl ?_
        refine g_top (v := bI (odP kd hr mi i)) (by first | exact od_1 hne | exact od_2 heq) ?_
        exact J_3

set_option maxHeartbeats 4000000 in
theorem m_X9_of2 (l : Launch) (X : gk_X) (h0 h1 : Nat) (e : Nat → Nat) (z : Nat) (hz : z < 60) : CtP l X yX9_of cX9_of 2 (some .int) 1 0 0 [.ref h0, .int (nI (z))] [[(h0, ob 4 [.ref h1])], [(h1, iA X 60 (fun k => nI (e k)))]] (some (.int (nI (e z)))) := by
  unfold CtP
  refine Ct.of (by decide) (Nat.le_of_ble_eq_true rfl) "Bumpward$Plan" "of" rfl rfl (fun K F eL R => ?_)
  subst eL
  show G K X 2 0 0 [[(h0, ob 4 [.ref h1])], [(h1, iA X 60 (fun k => nI (e k)))]] [(0, .ref h0), (1, .int (nI (z)))] 0 []
  refine g_aload_n 0 1 F dX9_of_0 rfl rfl 0 rfl ?_
  refine g_get 1 4 F (ci := 4) in_X9 rfl 0 (by decide) q749 (fun _ h => h) dX9_of_1 rfl 0 rfl (v := .ref h1) rfl ?_
  refine g_iload_n 4 5 F dX9_of_4 rfl rfl 1 rfl ?_
  refine g_iald 5 6 F dX9_of_5 rfl 1 (i := z) rfl (Nat.le_of_ble_eq_true rfl) (by omega) ?_
  refine g_top (v := nI (e z)) rfl ?_
  exact g_iret 6 F R dX9_of_6 (Nat.zero_le _) (Nat.zero_le _) (⟨rfl, rfl⟩)

set_option maxHeartbeats 4000000 in
theorem m_X1_known (l : Launch) (X : gk_X) (bo ea cx bx wl dw pt : Nat) (mi mt dp : Int32) (dg : Int64) (er : Nat → Nat) (kd : Nat → Nat) (hr : Nat → Int32) (h0 h1 : Nat) (e : Nat → Nat) (r : Bool) (hkd : ∀ k, k < 60 → kd k < 3) (he : ∀ k, k < 60 → e k < 3) : CtP l X yX1_known cX1_known 5 (some .int) 4 0 0 [.ref bo, .ref h0, .int (bI (r))] [[(bo, ob 0 [.ref ea, .ref cx, .ref bx, .ref wl, .ref dw, .ref pt, .int (mi), .int (mt), .int (dp), .long (dg)])], [(ea, oA X 2 60 (fun j => some (er j)))], poolW 60 (fun j => edC X (er j) (kd j) (hr j)), [(h0, ob 4 [.ref h1])], [(h1, iA X 60 (fun k => nI (e k)))]] (some (.int (nI (cnt (knB kd hr mi e r) 60)))) := by
  unfold CtP
  refine Ct.of (by decide) (Nat.le_of_ble_eq_true rfl) "Bumpward" "known" rfl rfl (fun K F eL R => ?_)
  subst eL
  show G K X 5 0 0 [[(bo, ob 0 [.ref ea, .ref cx, .ref bx, .ref wl, .ref dw, .ref pt, .int (mi), .int (mt), .int (dp), .long (dg)])], [(ea, oA X 2 60 (fun j => some (er j)))], poolW 60 (fun j => edC X (er j) (kd j) (hr j)), [(h0, ob 4 [.ref h1])], [(h1, iA X 60 (fun k => nI (e k)))]] [(0, .ref bo), (1, .ref h0), (2, .int (bI (r)))] 0 []
  refine g_iconst 0 1 F (nI (0)) dX1_known_0 rfl (by decide) ?_
  refine g_istore_n 1 2 F [(3, .int (nI (0))), (0, .ref bo), (1, .ref h0), (2, .int (bI (r)))] dX1_known_1 rfl rfl (Nat.le_of_ble_eq_true rfl) rfl ?_
  refine g_iconst 2 3 F (nI (0)) dX1_known_2 rfl (by decide) ?_
  refine g_istore 3 5 F [(4, .int (nI (0))), (3, .int (nI (0))), (0, .ref bo), (1, .ref h0), (2, .int (bI (r)))] dX1_known_3 rfl (Nat.le_of_ble_eq_true rfl) rfl ?_
  refine g_ls [(0, .ref bo), (1, .ref h0), (2, .int (bI (r))), (3, .int (nI (cnt (knB kd hr mi e r) 0))), (4, .int (nI (0)))] [2, 3, 4, 1, 0] (rfl) ?_
  refine g_down (P := fun i => G K X 5 0 0 [[(bo, ob 0 [.ref ea, .ref cx, .ref bx, .ref wl, .ref dw, .ref pt, .int (mi), .int (mt), .int (dp), .long (dg)])], [(ea, oA X 2 60 (fun j => some (er j)))], poolW 60 (fun j => edC X (er j) (kd j) (hr j)), [(h0, ob 4 [.ref h1])], [(h1, iA X 60 (fun k => nI (e k)))]] [(0, .ref bo), (1, .ref h0), (2, .int (bI (r))), (3, .int (nI (cnt (knB kd hr mi e r) i))), (4, .int (nI (i)))] 5 []) 60 0 (by omega) ?_ (fun i hl_i hi_i ih_i => ?_)
  · show G K X 5 0 0 [[(bo, ob 0 [.ref ea, .ref cx, .ref bx, .ref wl, .ref dw, .ref pt, .int (mi), .int (mt), .int (dp), .long (dg)])], [(ea, oA X 2 60 (fun j => some (er j)))], poolW 60 (fun j => edC X (er j) (kd j) (hr j)), [(h0, ob 4 [.ref h1])], [(h1, iA X 60 (fun k => nI (e k)))]] [(0, .ref bo), (1, .ref h0), (2, .int (bI (r))), (3, .int (nI (cnt (knB kd hr mi e r) 60))), (4, .int (nI (60)))] 5 []
    refine g_iload 5 7 F dX1_known_5 rfl 4 rfl ?_
    refine g_bipush 7 9 F (nI (60)) dX1_known_7 rfl (by decide) ?_
    refine g_icmpN_ge 9 12 79 F dX1_known_9 rfl (by decide) (by omega) (by omega) (fun c_1 => ?_) (fun c_1 => ?_)
    · refine g_iload_n 79 80 F dX1_known_79 rfl rfl 3 rfl ?_
      exact g_iret 80 F R dX1_known_80 (Nat.zero_le _) (Nat.zero_le _) (⟨rfl, rfl⟩)
    · exact absurd c_1 (by omega)
  · show G K X 5 0 0 [[(bo, ob 0 [.ref ea, .ref cx, .ref bx, .ref wl, .ref dw, .ref pt, .int (mi), .int (mt), .int (dp), .long (dg)])], [(ea, oA X 2 60 (fun j => some (er j)))], poolW 60 (fun j => edC X (er j) (kd j) (hr j)), [(h0, ob 4 [.ref h1])], [(h1, iA X 60 (fun k => nI (e k)))]] [(0, .ref bo), (1, .ref h0), (2, .int (bI (r))), (3, .int (nI (cnt (knB kd hr mi e r) i))), (4, .int (nI (i)))] 5 []
    have he_i := he i hi_i
    refine g_iload 5 7 F dX1_known_5 rfl 4 rfl ?_
    refine g_bipush 7 9 F (nI (60)) dX1_known_7 rfl (by decide) ?_
    refine g_icmpN_ge 9 12 79 F dX1_known_9 rfl (by decide) (by omega) (by omega) (fun c_2 => ?_) (fun c_2 => ?_)
    · exact absurd c_2 (by omega)
    · refine g_iload_n 12 13 F dX1_known_12 rfl rfl 3 rfl ?_
      have J_3 : G K X 5 0 0 [[(bo, ob 0 [.ref ea, .ref cx, .ref bx, .ref wl, .ref dw, .ref pt, .int (mi), .int (mt), .int (dp), .long (dg)])], [(ea, oA X 2 60 (fun j => some (er j)))], poolW 60 (fun j => edC X (er j) (kd j) (hr j)), [(h0, ob 4 [.ref h1])], [(h1, iA X 60 (fun k => nI (e k)))]] [(0, .ref bo), (1, .ref h0), (2, .int (bI (r))), (3, .int (nI (cnt (knB kd hr mi e r) i))), (4, .int (nI (i)))] 68 [.int (bI (knB kd hr mi e r i)), .int (nI (cnt (knB kd hr mi e r) i))] := by
        refine g_callP 3 71 F (CallOk.S (As := [.int (bI (knB kd hr mi e r i))]) (rest := [.int (nI (cnt (knB kd hr mi e r) i))]) F 1 q291 q292 q49 q293 cd_X1_one rfl rfl (Nat.le_of_ble_eq_true rfl) (Nat.le_of_ble_eq_true rfl) dX1_known_68) (m_X1_one (kL K) X (knB kd hr mi e r i) ) rfl (Mr := [[(bo, ob 0 [.ref ea, .ref cx, .ref bx, .ref wl, .ref dw, .ref pt, .int (mi), .int (mt), .int (dp), .long (dg)])], [(ea, oA X 2 60 (fun j => some (er j)))], poolW 60 (fun j => edC X (er j) (kd j) (hr j)), [(h0, ob 4 [.ref h1])], [(h1, iA X 60 (fun k => nI (e k)))]]) [] [0, 1, 2, 3, 4] rfl 5 rfl (by decide +kernel) rfl rfl (rc_T) (Nat.le_of_ble_eq_true rfl) (c2 := 0) (s2 := 0) (Nat.zero_le _) (Nat.zero_le _) rfl rfl (st1 := [.int (bI (knB kd hr mi e r i)), .int (nI (cnt (knB kd hr mi e r) i))]) rfl ?_
        refine g_iadd 71 72 F (v := nI (cnt (knB kd hr mi e r) i + (bN (knB kd hr mi e r i)))) dX1_known_71 rfl (nI_addB _ _) ?_
        refine g_istore_n 72 73 F [(3, .int (nI (cnt (knB kd hr mi e r) i + (bN (knB kd hr mi e r i))))), (0, .ref bo), (1, .ref h0), (2, .int (bI (r))), (4, .int (nI (i)))] dX1_known_72 rfl rfl (Nat.le_of_ble_eq_true rfl) rfl ?_
        refine g_iinc 73 76 F (v := nI (i + 1)) [(4, .int (nI (i + 1))), (3, .int (nI (cnt (knB kd hr mi e r) i + (bN (knB kd hr mi e r i))))), (0, .ref bo), (1, .ref h0), (2, .int (bI (r)))] dX1_known_73 rfl 4 rfl (nI_add _ _) (Nat.le_of_ble_eq_true rfl) rfl ?_
        refine g_goto 76 5 F dX1_known_76 (by decide) ?_
        refine g_ls [(0, .ref bo), (1, .ref h0), (2, .int (bI (r))), (3, .int (nI (cnt (knB kd hr mi e r) (i + 1)))), (4, .int (nI (i + 1)))] [2, 3, 4, 1, 0] (rfl) ?_
        exact ih_i
      refine g_aload_n 13 14 F dX1_known_13 rfl rfl 1 rfl ?_
      refine g_iload 14 16 F dX1_known_14 rfl 4 rfl ?_
      refine g_callP 3 19 F (CallOk.V (C := "Bumpward$Plan") (b := h0) (As := [.int (nI (i))]) (rest := [.int (nI (cnt (knB kd hr mi e r) i))]) F 1 q268 q269 q270 q72 q271 cdV_X9_of rfl rfl (Nat.le_of_ble_eq_true rfl) (Nat.le_of_ble_eq_true rfl) dX1_known_16) (m_X9_of2 (kL K) X h0 h1 e i (by omega)) rfl (Mr := [[(bo, ob 0 [.ref ea, .ref cx, .ref bx, .ref wl, .ref dw, .ref pt, .int (mi), .int (mt), .int (dp), .long (dg)])], [(ea, oA X 2 60 (fun j => some (er j)))], poolW 60 (fun j => edC X (er j) (kd j) (hr j))]) [3, 4] [0, 1, 2] rfl 5 rfl (by decide +kernel) rfl rfl (rc_of F 3 4 rfl rfl) (Nat.le_of_ble_eq_true rfl) (c2 := 0) (s2 := 0) (Nat.zero_le _) (Nat.zero_le _) rfl rfl (st1 := [.int (nI (e i)), .int (nI (cnt (knB kd hr mi e r) i))]) rfl ?_
      refine g_ifN_eq 19 22 67 F dX1_known_19 rfl (by decide) (by omega) (fun c_4 => ?_) (fun c_4 => ?_)
      · have hz := c_4
        refine g_iconst 67 68 F (nI (0)) dX1_known_67 rfl (by decide) ?_
        refine g_top (v := bI (knB kd hr mi e r i)) (by first | exact kn_1 hz | exact kn_2 hz) ?_
        exact J_3
      · have hz := c_4
        refine g_aload_n 22 23 F dX1_known_22 rfl rfl 1 rfl ?_
        refine g_iload 23 25 F dX1_known_23 rfl 4 rfl ?_
        refine g_callP 3 28 F (CallOk.V (C := "Bumpward$Plan") (b := h0) (As := [.int (nI (i))]) (rest := [.int (nI (cnt (knB kd hr mi e r) i))]) F 1 q268 q269 q270 q72 q271 cdV_X9_of rfl rfl (Nat.le_of_ble_eq_true rfl) (Nat.le_of_ble_eq_true rfl) dX1_known_25) (m_X9_of2 (kL K) X h0 h1 e i (by omega)) rfl (Mr := [[(bo, ob 0 [.ref ea, .ref cx, .ref bx, .ref wl, .ref dw, .ref pt, .int (mi), .int (mt), .int (dp), .long (dg)])], [(ea, oA X 2 60 (fun j => some (er j)))], poolW 60 (fun j => edC X (er j) (kd j) (hr j))]) [3, 4] [0, 1, 2] rfl 5 rfl (by decide +kernel) rfl rfl (rc_of F 3 4 rfl rfl) (Nat.le_of_ble_eq_true rfl) (c2 := 0) (s2 := 0) (Nat.zero_le _) (Nat.zero_le _) rfl rfl (st1 := [.int (nI (e i)), .int (nI (cnt (knB kd hr mi e r) i))]) rfl ?_
        refine g_iconst 28 29 F (nI (2)) dX1_known_28 rfl (by decide) ?_
        refine g_diaN_ne 29 36 37 F dX1_known_29 (by decide) dX1_known_32 dX1_known_33 (by decide) dX1_known_36 rfl (by omega) (by omega) ?_
        refine g_aload_n 37 38 F dX1_known_37 rfl rfl 0 rfl ?_
        refine g_get 38 41 F (ci := 0) in_X1 rfl 0 (by decide) q166 (fun _ h => h) dX1_known_38 rfl 0 rfl (v := .ref ea) rfl ?_
        refine g_iload 41 43 F dX1_known_41 rfl 4 rfl ?_
        refine g_oald 43 44 F dX1_known_43 rfl 1 (i := i) rfl rfl (Nat.le_of_ble_eq_true rfl) (by omega) (w := er i) (rfl) ?_
        refine g_aload_n 44 45 F dX1_known_44 rfl rfl 0 rfl ?_
        refine g_callP 3 48 F (CallOk.V (C := "Bumpward") (b := bo) (As := []) (rest := [.ref (er i), .int (bI (decide ((e i) = 2))), .int (nI (cnt (knB kd hr mi e r) i))]) F 0 q272 q274 qs3 q49 q275 cdV_X1_hour rfl rfl (Nat.le_of_ble_eq_true rfl) (Nat.le_of_ble_eq_true rfl) dX1_known_45) (m_X1_hour (kL K) X bo ea cx bx wl dw pt mi mt dp dg ) rfl (Mr := [[(ea, oA X 2 60 (fun j => some (er j)))], poolW 60 (fun j => edC X (er j) (kd j) (hr j)), [(h0, ob 4 [.ref h1])], [(h1, iA X 60 (fun k => nI (e k)))]]) [0] [1, 2, 3, 4] rfl 5 rfl (by decide +kernel) rfl rfl (rc_of F 0 0 rfl rfl) (Nat.le_of_ble_eq_true rfl) (c2 := 0) (s2 := 0) (Nat.zero_le _) (Nat.zero_le _) rfl rfl (st1 := [.int (hrI mi), .ref (er i), .int (bI (decide ((e i) = 2))), .int (nI (cnt (knB kd hr mi e r) i))]) rfl ?_
        refine g_sel [poolW 60 (fun j => edC X (er j) (kd j) (hr j)), [(bo, ob 0 [.ref ea, .ref cx, .ref bx, .ref wl, .ref dw, .ref pt, .int (mi), .int (mt), .int (dp), .long (dg)])], [(ea, oA X 2 60 (fun j => some (er j)))], [(h0, ob 4 [.ref h1])], [(h1, iA X 60 (fun k => nI (e k)))]] [2, 0, 1, 3, 4] rfl rfl ?_
        refine g_popen (i) hi_i [[(er i, ob 3 [.ref (X.2.2 (kd i)), .int (hr i)])]] [[(bo, ob 0 [.ref ea, .ref cx, .ref bx, .ref wl, .ref dw, .ref pt, .int (mi), .int (mt), .int (dp), .long (dg)])], [(ea, oA X 2 60 (fun j => some (er j)))], [(h0, ob 4 [.ref h1])], [(h1, iA X 60 (fun k => nI (e k)))]] rfl ?_
        show G K X 5 0 0 [[(er i, ob 3 [.ref (X.2.2 (kd i)), .int (hr i)])], poolX 60 (fun j => edC X (er j) (kd j) (hr j)) (i), [(bo, ob 0 [.ref ea, .ref cx, .ref bx, .ref wl, .ref dw, .ref pt, .int (mi), .int (mt), .int (dp), .long (dg)])], [(ea, oA X 2 60 (fun j => some (er j)))], [(h0, ob 4 [.ref h1])], [(h1, iA X 60 (fun k => nI (e k)))]] [(0, .ref bo), (1, .ref h0), (2, .int (bI (r))), (3, .int (nI (cnt (knB kd hr mi e r) i))), (4, .int (nI (i)))] 48 [.int (hrI mi), .ref (er i), .int (bI (decide ((e i) = 2))), .int (nI (cnt (knB kd hr mi e r) i))]
        refine g_callP 3 51 F (CallOk.V (C := "Bumpward$Edge") (b := er i) (As := [.int (hrI mi)]) (rest := [.int (bI (decide ((e i) = 2))), .int (nI (cnt (knB kd hr mi e r) i))]) F 1 q276 q277 q278 q55 q279 cdV_X4_isShut rfl rfl (Nat.le_of_ble_eq_true rfl) (Nat.le_of_ble_eq_true rfl) dX1_known_48) (m_X4_isShut (kL K) X (er i) (kd i) (hr i) (hrI mi) (hkd i hi_i)) rfl (Mr := [poolX 60 (fun j => edC X (er j) (kd j) (hr j)) (i), [(bo, ob 0 [.ref ea, .ref cx, .ref bx, .ref wl, .ref dw, .ref pt, .int (mi), .int (mt), .int (dp), .long (dg)])], [(ea, oA X 2 60 (fun j => some (er j)))], [(h0, ob 4 [.ref h1])], [(h1, iA X 60 (fun k => nI (e k)))]]) [0] [1, 2, 3, 4, 5] rfl 6 rfl (by decide +kernel) rfl rfl (rc_of F 0 3 rfl rfl) (Nat.le_of_ble_eq_true rfl) (c2 := 0) (s2 := 0) (Nat.zero_le _) (Nat.zero_le _) rfl rfl (st1 := [.int (bI (esB (kd i) (hr i) (hrI mi))), .int (bI (decide ((e i) = 2))), .int (nI (cnt (knB kd hr mi e r) i))]) rfl ?_
        refine g_sel [[(er i, ob 3 [.ref (X.2.2 (kd i)), .int (hr i)])], poolX 60 (fun j => edC X (er j) (kd j) (hr j)) (i), [(bo, ob 0 [.ref ea, .ref cx, .ref bx, .ref wl, .ref dw, .ref pt, .int (mi), .int (mt), .int (dp), .long (dg)])], [(ea, oA X 2 60 (fun j => some (er j)))], [(h0, ob 4 [.ref h1])], [(h1, iA X 60 (fun k => nI (e k)))]] [0, 1, 2, 3, 4, 5] rfl rfl ?_
        refine g_pclose (i) hi_i [[(er i, ob 3 [.ref (X.2.2 (kd i)), .int (hr i)])]] [[(bo, ob 0 [.ref ea, .ref cx, .ref bx, .ref wl, .ref dw, .ref pt, .int (mi), .int (mt), .int (dp), .long (dg)])], [(ea, oA X 2 60 (fun j => some (er j)))], [(h0, ob 4 [.ref h1])], [(h1, iA X 60 (fun k => nI (e k)))]] rfl (fun j => edC X (er j) (kd j) (hr j)) (rfl) (fun j hj hn => rfl) ?_
        show G K X 5 0 0 [poolW 60 (fun j => edC X (er j) (kd j) (hr j)), [(bo, ob 0 [.ref ea, .ref cx, .ref bx, .ref wl, .ref dw, .ref pt, .int (mi), .int (mt), .int (dp), .long (dg)])], [(ea, oA X 2 60 (fun j => some (er j)))], [(h0, ob 4 [.ref h1])], [(h1, iA X 60 (fun k => nI (e k)))]] [(0, .ref bo), (1, .ref h0), (2, .int (bI (r))), (3, .int (nI (cnt (knB kd hr mi e r) i))), (4, .int (nI (i)))] 51 [.int (bI (esB (kd i) (hr i) (hrI mi))), .int (bI (decide ((e i) = 2))), .int (nI (cnt (knB kd hr mi e r) i))]
        refine g_iload_n 51 52 F dX1_known_51 rfl rfl 2 rfl ?_
        refine g_dia_ne 52 59 60 F dX1_known_52 (by decide) dX1_known_55 dX1_known_56 (by decide) dX1_known_59 rfl ?_
        refine g_dia_ne 60 67 68 F dX1_known_60 (by decide) dX1_known_63 dX1_known_64 (by decide) dX1_known_67 rfl ?_
        refine g_sel [[(bo, ob 0 [.ref ea, .ref cx, .ref bx, .ref wl, .ref dw, .ref pt, .int (mi), .int (mt), .int (dp), .long (dg)])], [(ea, oA X 2 60 (fun j => some (er j)))], poolW 60 (fun j => edC X (er j) (kd j) (hr j)), [(h0, ob 4 [.ref h1])], [(h1, iA X 60 (fun k => nI (e k)))]] [1, 2, 0, 3, 4] rfl rfl ?_
        refine g_top (v := bI (knB kd hr mi e r i)) (by first | exact kn_1 hz | exact kn_2 hz) ?_
        exact J_3

set_option maxHeartbeats 4000000 in
theorem m_X1_told (l : Launch) (X : gk_X) (bo ea cx bx wl dw pt : Nat) (mi mt dp : Int32) (dg : Int64) (er : Nat → Nat) (kd : Nat → Nat) (hr : Nat → Int32) (c s x : Nat) (hkd : ∀ k, k < 60 → kd k < 3) (hc : c < 36) (hs : s < 4) (hx : x < 3) : CtP l X yX1_told cX1_told 5 (some .int) 7 2 2 [.ref bo, .int (nI (c)), .int (nI (s)), .int (nI (x))] [[(bo, ob 0 [.ref ea, .ref cx, .ref bx, .ref wl, .ref dw, .ref pt, .int (mi), .int (mt), .int (dp), .long (dg)])], [(ea, oA X 2 60 (fun j => some (er j)))], poolW 60 (fun j => edC X (er j) (kd j) (hr j))] (some (.int (oeI kd hr mi c s x))) := by
  unfold CtP
  refine Ct.of (by decide) (Nat.le_of_ble_eq_true rfl) "Bumpward" "told" rfl rfl (fun K F eL R => ?_)
  subst eL
  show G K X 5 0 0 [[(bo, ob 0 [.ref ea, .ref cx, .ref bx, .ref wl, .ref dw, .ref pt, .int (mi), .int (mt), .int (dp), .long (dg)])], [(ea, oA X 2 60 (fun j => some (er j)))], poolW 60 (fun j => edC X (er j) (kd j) (hr j))] [(0, .ref bo), (1, .int (nI (c))), (2, .int (nI (s))), (3, .int (nI (x)))] 0 []
  refine g_aload_n 0 1 F dX1_told_0 rfl rfl 0 rfl ?_
  refine g_iload_n 1 2 F dX1_told_1 rfl rfl 1 rfl ?_
  refine g_iload_n 2 3 F dX1_told_2 rfl rfl 2 rfl ?_
  by_cases hb : bsD c s = 36
  · refine g_callP 3 6 F (CallOk.V (C := "Bumpward") (b := bo) (As := [.int (nI (c)), .int (nI (s))]) (rest := []) F 2 q352 q354 qs9 q49 q355 cdV_X1_edge rfl rfl (Nat.le_of_ble_eq_true rfl) (Nat.le_of_ble_eq_true rfl) dX1_told_3) (m_X1_edge0 (kL K) X bo ea cx bx wl dw pt mi mt dp dg c s (by omega) (by omega) hb) rfl (Mr := [[(ea, oA X 2 60 (fun j => some (er j)))], poolW 60 (fun j => edC X (er j) (kd j) (hr j))]) [0] [1, 2] rfl 3 rfl (by decide +kernel) rfl rfl (rc_of F 0 0 rfl rfl) (Nat.le_of_ble_eq_true rfl) (c2 := 1) (s2 := 1) (Nat.le_of_ble_eq_true rfl) (Nat.le_of_ble_eq_true rfl) rfl rfl (st1 := [.ref (X.2.2 4)]) rfl ?_
    refine g_astore 6 8 F [(4, .ref (X.2.2 4)), (0, .ref bo), (1, .int (nI (c))), (2, .int (nI (s))), (3, .int (nI (x)))] dX1_told_6 rfl (Nat.le_of_ble_eq_true rfl) rfl ?_
    refine g_iload_n 8 9 F dX1_told_8 rfl rfl 4 rfl ?_
    refine g_iconst 9 10 F (nI (1)) dX1_told_9 rfl (by decide) ?_
    refine g_icmpN_ne 10 13 23 F dX1_told_10 rfl (by decide) (by omega) (by omega) (fun c_1 => ?_) (fun c_1 => ?_)
    · have hx1 := c_1
      refine g_aload 23 25 F dX1_told_23 rfl 0 rfl ?_
      refine g_callC 3 28 F (F.con.2.1.1.2.1) (CallOk.V (C := "java/util/Optional") (b := X.2.2 4) (As := []) (rest := []) F 0 q390 q391 q392 q67 q393 cdV_J11_isEmpty rfl rfl (Nat.le_of_ble_eq_true rfl) (Nat.le_of_ble_eq_true rfl) dX1_told_25) (m_J11_isEmpty0 (kL K) X  ) rfl [0, 1, 2] rfl rfl (Nat.le_of_ble_eq_true rfl) (c2 := 1) (s2 := 1) (Nat.le_of_ble_eq_true rfl) (Nat.le_of_ble_eq_true rfl) rfl rfl (st1 := [.int (bI (true))]) rfl ?_
      refine g_ifB_eq 28 31 46 F dX1_told_28 rfl (by decide) (fun c_2 => ?_) (fun c_2 => ?_)
      · exact absurd c_2 (by decide)
      · refine g_iload_n 31 32 F dX1_told_31 rfl rfl 4 rfl ?_
        refine g_ifN_ne 32 35 44 F dX1_told_32 rfl (by decide) (by omega) (fun c_3 => ?_) (fun c_3 => ?_)
        · have hx0 := c_3
          refine g_iconst 44 45 F (nI (0)) dX1_told_44 rfl (by decide) ?_
          exact g_iret 45 F R dX1_told_45 (Nat.le_of_ble_eq_true rfl) (Nat.le_of_ble_eq_true rfl) (⟨congrArg (fun z => some (Value.int z)) (by first | exact oe_1 hx1 | exact oe_a hb hx0 | exact oe_b hb hx1 hx0 | exact oe_c hb hx0 | exact oe_d hb hx1 hx0), rfl⟩)
        · have hx0 := c_3
          refine g_gets 35 38 F (F.con.1.1.2.1) q316 (fun _ h => h) dX1_told_35 rfl ?_
          refine g_ordK 38 41 F (by decide) q398 dX1_told_38 rfl (Nat.le_of_ble_eq_true rfl) (Nat.le_of_ble_eq_true rfl) [0, 1, 2] rfl rfl (Nat.le_of_ble_eq_true rfl) (Nat.le_of_ble_eq_true rfl) ?_
          refine g_goto 41 45 F dX1_told_41 (by decide) ?_
          exact g_iret 45 F R dX1_told_45 (Nat.le_of_ble_eq_true rfl) (Nat.le_of_ble_eq_true rfl) (⟨congrArg (fun z => some (Value.int z)) (by first | exact oe_1 hx1 | exact oe_a hb hx0 | exact oe_b hb hx1 hx0 | exact oe_c hb hx0 | exact oe_d hb hx1 hx0), rfl⟩)
    · have hx1 := c_1
      refine g_aload_n 13 14 F dX1_told_13 rfl rfl 1 rfl ?_
      refine g_iload_n 14 15 F dX1_told_14 rfl rfl 2 rfl ?_
      refine g_iload_n 15 16 F dX1_told_15 rfl rfl 3 rfl ?_
      refine g_callP 3 19 F (CallOk.V (C := "Bumpward") (b := bo) (As := [.int (nI (c)), .int (nI (s))]) (rest := []) F 2 q386 q388 qs10 q49 q389 cdV_X1_isShut rfl rfl (Nat.le_of_ble_eq_true rfl) (Nat.le_of_ble_eq_true rfl) dX1_told_16) (m_X1_isShut (kL K) X bo ea cx bx wl dw pt mi mt dp dg er kd hr c s (by omega) (by omega) (by omega)) rfl (Mr := []) [0, 1, 2] [] rfl 3 rfl (by decide +kernel) rfl rfl (rc_of F 0 0 rfl rfl) (Nat.le_of_ble_eq_true rfl) (c2 := 2) (s2 := 2) (Nat.le_refl _) (Nat.le_refl _) rfl rfl (st1 := [.int (bI (swB kd hr mi c s))]) rfl ?_
      refine g_callP 3 22 F (CallOk.S (As := [.int (bI (swB kd hr mi c s))]) (rest := []) F 1 q291 q292 q49 q293 cd_X1_one rfl rfl (Nat.le_of_ble_eq_true rfl) (Nat.le_of_ble_eq_true rfl) dX1_told_19) (m_X1_one (kL K) X (swB kd hr mi c s) ) rfl (Mr := [[(bo, ob 0 [.ref ea, .ref cx, .ref bx, .ref wl, .ref dw, .ref pt, .int (mi), .int (mt), .int (dp), .long (dg)])], [(ea, oA X 2 60 (fun j => some (er j)))], poolW 60 (fun j => edC X (er j) (kd j) (hr j))]) [] [0, 1, 2] rfl 3 rfl (by decide +kernel) rfl rfl (rc_T) (Nat.le_of_ble_eq_true rfl) (c2 := 2) (s2 := 2) (Nat.le_refl _) (Nat.le_refl _) rfl rfl (st1 := [.int (bI (swB kd hr mi c s))]) rfl ?_
      exact g_iret 22 F R dX1_told_22 (Nat.le_refl _) (Nat.le_refl _) (⟨congrArg (fun z => some (Value.int z)) (by first | exact oe_1 hx1 | exact oe_a hb hx0 | exact oe_b hb hx1 hx0 | exact oe_c hb hx0 | exact oe_d hb hx1 hx0), rfl⟩)
  · refine g_call 3 6 F (CallOk.V (C := "Bumpward") (b := bo) (As := [.int (nI (c)), .int (nI (s))]) (rest := []) F 2 q352 q354 qs9 q49 q355 cdV_X1_edge rfl rfl (Nat.le_of_ble_eq_true rfl) (Nat.le_of_ble_eq_true rfl) dX1_told_3) (m_X1_edge1 (kL K) X bo ea cx bx wl dw pt mi mt dp dg er c s (by omega) (by omega) hb) rfl (Mr := [poolW 60 (fun j => edC X (er j) (kd j) (hr j))]) [0, 1] [2] rfl rfl rfl (rc_of F 0 0 rfl rfl) (Nat.le_of_ble_eq_true rfl) (c2 := 1) (s2 := 1) (Nat.le_of_ble_eq_true rfl) (Nat.le_of_ble_eq_true rfl) rfl rfl (fun v M1 hp => ?_)
    obtain ⟨q_4, rfl, rfl⟩ := hp
    show G K X 5 1 1 [poolW 60 (fun j => edC X (er j) (kd j) (hr j)), [(bo, ob 0 [.ref ea, .ref cx, .ref bx, .ref wl, .ref dw, .ref pt, .int (mi), .int (mt), .int (dp), .long (dg)])], [(ea, oA X 2 60 (fun j => some (er j)))], [(q_4, ob 12 [.ref (er (edD c s))])]] [(0, .ref bo), (1, .int (nI (c))), (2, .int (nI (s))), (3, .int (nI (x)))] 6 [.ref q_4]
    refine g_astore 6 8 F [(4, .ref q_4), (0, .ref bo), (1, .int (nI (c))), (2, .int (nI (s))), (3, .int (nI (x)))] dX1_told_6 rfl (Nat.le_of_ble_eq_true rfl) rfl ?_
    refine g_iload_n 8 9 F dX1_told_8 rfl rfl 4 rfl ?_
    refine g_iconst 9 10 F (nI (1)) dX1_told_9 rfl (by decide) ?_
    refine g_icmpN_ne 10 13 23 F dX1_told_10 rfl (by decide) (by omega) (by omega) (fun c_5 => ?_) (fun c_5 => ?_)
    · have hx1 := c_5
      refine g_aload 23 25 F dX1_told_23 rfl 0 rfl ?_
      refine g_callP 3 28 F (CallOk.V (C := "java/util/Optional") (b := q_4) (As := []) (rest := []) F 0 q390 q391 q392 q67 q393 cdV_J11_isEmpty rfl rfl (Nat.le_of_ble_eq_true rfl) (Nat.le_of_ble_eq_true rfl) dX1_told_25) (m_J11_isEmpty (kL K) X q_4 (er (edD c s)) ) rfl (Mr := [poolW 60 (fun j => edC X (er j) (kd j) (hr j)), [(bo, ob 0 [.ref ea, .ref cx, .ref bx, .ref wl, .ref dw, .ref pt, .int (mi), .int (mt), .int (dp), .long (dg)])], [(ea, oA X 2 60 (fun j => some (er j)))]]) [3] [0, 1, 2] rfl 4 rfl (by decide +kernel) rfl rfl (rc_of F 3 12 rfl rfl) (Nat.le_of_ble_eq_true rfl) (c2 := 1) (s2 := 1) (Nat.le_of_ble_eq_true rfl) (Nat.le_of_ble_eq_true rfl) rfl rfl (st1 := [.int (bI (false))]) rfl ?_
      refine g_ifB_eq 28 31 46 F dX1_told_28 rfl (by decide) (fun c_6 => ?_) (fun c_6 => ?_)
      · refine g_iload_n 46 47 F dX1_told_46 rfl rfl 4 rfl ?_
        refine g_ifN_ne 47 50 67 F dX1_told_47 rfl (by decide) (by omega) (fun c_7 => ?_) (fun c_7 => ?_)
        · have hx0 := c_7
          refine g_aload 67 69 F dX1_told_67 rfl 0 rfl ?_
          refine g_callP 3 72 F (CallOk.V (C := "java/util/Optional") (b := q_4) (As := []) (rest := []) F 0 q394 q395 q396 q67 q397 cdV_J11_get rfl rfl (Nat.le_of_ble_eq_true rfl) (Nat.le_of_ble_eq_true rfl) dX1_told_69) (m_J11_get (kL K) X q_4 (er (edD c s)) ) rfl (Mr := [poolW 60 (fun j => edC X (er j) (kd j) (hr j)), [(bo, ob 0 [.ref ea, .ref cx, .ref bx, .ref wl, .ref dw, .ref pt, .int (mi), .int (mt), .int (dp), .long (dg)])], [(ea, oA X 2 60 (fun j => some (er j)))]]) [3] [0, 1, 2] rfl 4 rfl (by decide +kernel) rfl rfl (rc_of F 3 12 rfl rfl) (Nat.le_of_ble_eq_true rfl) (c2 := 1) (s2 := 1) (Nat.le_of_ble_eq_true rfl) (Nat.le_of_ble_eq_true rfl) rfl rfl (st1 := [.ref (er (edD c s))]) rfl ?_
          refine g_cast 72 75 F (ci := 3) rfl q95 dX1_told_72 rfl (fl_mem (bi := 0) rfl (mem_ed (edD_lt hc hs hb))) ?_
          refine g_getM 75 78 F (ci := 3) in_X4 rfl 1 (by decide) q160 (fun _ h => h) dX1_told_75 rfl (fl_mem (bi := 0) rfl (mem_ed (edD_lt hc hs hb))) (v := .int (hr (edD c s))) rfl ?_
          refine g_sel [[(bo, ob 0 [.ref ea, .ref cx, .ref bx, .ref wl, .ref dw, .ref pt, .int (mi), .int (mt), .int (dp), .long (dg)])], [(ea, oA X 2 60 (fun j => some (er j)))], poolW 60 (fun j => edC X (er j) (kd j) (hr j))] [1, 2, 0] rfl rfl ?_
          exact g_iret 78 F R dX1_told_78 (Nat.le_of_ble_eq_true rfl) (Nat.le_of_ble_eq_true rfl) (⟨congrArg (fun z => some (Value.int z)) (by first | exact oe_1 hx1 | exact oe_a hb hx0 | exact oe_b hb hx1 hx0 | exact oe_c hb hx0 | exact oe_d hb hx1 hx0), rfl⟩)
        · have hx0 := c_7
          refine g_aload 50 52 F dX1_told_50 rfl 0 rfl ?_
          refine g_callP 3 55 F (CallOk.V (C := "java/util/Optional") (b := q_4) (As := []) (rest := []) F 0 q394 q395 q396 q67 q397 cdV_J11_get rfl rfl (Nat.le_of_ble_eq_true rfl) (Nat.le_of_ble_eq_true rfl) dX1_told_52) (m_J11_get (kL K) X q_4 (er (edD c s)) ) rfl (Mr := [poolW 60 (fun j => edC X (er j) (kd j) (hr j)), [(bo, ob 0 [.ref ea, .ref cx, .ref bx, .ref wl, .ref dw, .ref pt, .int (mi), .int (mt), .int (dp), .long (dg)])], [(ea, oA X 2 60 (fun j => some (er j)))]]) [3] [0, 1, 2] rfl 4 rfl (by decide +kernel) rfl rfl (rc_of F 3 12 rfl rfl) (Nat.le_of_ble_eq_true rfl) (c2 := 1) (s2 := 1) (Nat.le_of_ble_eq_true rfl) (Nat.le_of_ble_eq_true rfl) rfl rfl (st1 := [.ref (er (edD c s))]) rfl ?_
          refine g_cast 55 58 F (ci := 3) rfl q95 dX1_told_55 rfl (fl_mem (bi := 0) rfl (mem_ed (edD_lt hc hs hb))) ?_
          refine g_getM 58 61 F (ci := 3) in_X4 rfl 0 (by decide) q158 (fun _ h => h) dX1_told_58 rfl (fl_mem (bi := 0) rfl (mem_ed (edD_lt hc hs hb))) (v := .ref (X.2.2 (kd (edD c s)))) rfl ?_
          refine g_ordK 61 64 F (hkd (edD c s) (edD_lt hc hs hb)) q398 dX1_told_61 rfl (Nat.le_of_ble_eq_true rfl) (Nat.le_of_ble_eq_true rfl) [0, 1, 2, 3] rfl rfl (Nat.le_of_ble_eq_true rfl) (Nat.le_of_ble_eq_true rfl) ?_
          refine g_goto 64 78 F dX1_told_64 (by decide) ?_
          refine g_sel [[(bo, ob 0 [.ref ea, .ref cx, .ref bx, .ref wl, .ref dw, .ref pt, .int (mi), .int (mt), .int (dp), .long (dg)])], [(ea, oA X 2 60 (fun j => some (er j)))], poolW 60 (fun j => edC X (er j) (kd j) (hr j))] [1, 2, 0] rfl rfl ?_
          exact g_iret 78 F R dX1_told_78 (Nat.le_of_ble_eq_true rfl) (Nat.le_of_ble_eq_true rfl) (⟨congrArg (fun z => some (Value.int z)) (by first | exact oe_1 hx1 | exact oe_a hb hx0 | exact oe_b hb hx1 hx0 | exact oe_c hb hx0 | exact oe_d hb hx1 hx0), rfl⟩)
      · exact absurd c_6 (by decide)
    · have hx1 := c_5
      refine g_aload_n 13 14 F dX1_told_13 rfl rfl 1 rfl ?_
      refine g_iload_n 14 15 F dX1_told_14 rfl rfl 2 rfl ?_
      refine g_iload_n 15 16 F dX1_told_15 rfl rfl 3 rfl ?_
      refine g_callP 3 19 F (CallOk.V (C := "Bumpward") (b := bo) (As := [.int (nI (c)), .int (nI (s))]) (rest := []) F 2 q386 q388 qs10 q49 q389 cdV_X1_isShut rfl rfl (Nat.le_of_ble_eq_true rfl) (Nat.le_of_ble_eq_true rfl) dX1_told_16) (m_X1_isShut (kL K) X bo ea cx bx wl dw pt mi mt dp dg er kd hr c s (by omega) (by omega) (by omega)) rfl (Mr := [[(q_4, ob 12 [.ref (er (edD c s))])]]) [1, 2, 0] [3] rfl 4 rfl (by decide +kernel) rfl rfl (rc_of F 1 0 rfl rfl) (Nat.le_of_ble_eq_true rfl) (c2 := 2) (s2 := 2) (Nat.le_refl _) (Nat.le_refl _) rfl rfl (st1 := [.int (bI (swB kd hr mi c s))]) rfl ?_
      refine g_callP 3 22 F (CallOk.S (As := [.int (bI (swB kd hr mi c s))]) (rest := []) F 1 q291 q292 q49 q293 cd_X1_one rfl rfl (Nat.le_of_ble_eq_true rfl) (Nat.le_of_ble_eq_true rfl) dX1_told_19) (m_X1_one (kL K) X (swB kd hr mi c s) ) rfl (Mr := [poolW 60 (fun j => edC X (er j) (kd j) (hr j)), [(bo, ob 0 [.ref ea, .ref cx, .ref bx, .ref wl, .ref dw, .ref pt, .int (mi), .int (mt), .int (dp), .long (dg)])], [(ea, oA X 2 60 (fun j => some (er j)))], [(q_4, ob 12 [.ref (er (edD c s))])]]) [] [0, 1, 2, 3] rfl 4 rfl (by decide +kernel) rfl rfl (rc_T) (Nat.le_of_ble_eq_true rfl) (c2 := 2) (s2 := 2) (Nat.le_refl _) (Nat.le_refl _) rfl rfl (st1 := [.int (bI (swB kd hr mi c s))]) rfl ?_
      refine g_sel [[(bo, ob 0 [.ref ea, .ref cx, .ref bx, .ref wl, .ref dw, .ref pt, .int (mi), .int (mt), .int (dp), .long (dg)])], [(ea, oA X 2 60 (fun j => some (er j)))], poolW 60 (fun j => edC X (er j) (kd j) (hr j))] [1, 2, 0] rfl rfl ?_
      exact g_iret 22 F R dX1_told_22 (Nat.le_refl _) (Nat.le_refl _) (⟨congrArg (fun z => some (Value.int z)) (by first | exact oe_1 hx1 | exact oe_a hb hx0 | exact oe_b hb hx1 hx0 | exact oe_c hb hx0 | exact oe_d hb hx1 hx0), rfl⟩)
