/-! Bumpward: calls on the floor -/
theorem cd_X1_cellOf : yX1_cellOf.cls ≠ "java/lang/invoke/MethodHandle" ∧ yX1_cellOf.cls ≠ "java/lang/invoke/VarHandle" ∧ (parseMethodDescriptor yX1_cellOf.desc).map (fun d => d.parameters.length) = some 1 := by decide +kernel
theorem cd_X1_check : yX1_check.cls ≠ "java/lang/invoke/MethodHandle" ∧ yX1_check.cls ≠ "java/lang/invoke/VarHandle" ∧ (parseMethodDescriptor yX1_check.desc).map (fun d => d.parameters.length) = some 2 := by decide +kernel
theorem cd_X1_count_2 : yX1_count_2.cls ≠ "java/lang/invoke/MethodHandle" ∧ yX1_count_2.cls ≠ "java/lang/invoke/VarHandle" ∧ (parseMethodDescriptor yX1_count_2.desc).map (fun d => d.parameters.length) = some 1 := by decide +kernel
theorem cdV_X1_felt : yX1_felt.cls = "Bumpward" ∧ yX1_felt.cls ≠ "java/lang/invoke/MethodHandle" ∧ yX1_felt.cls ≠ "java/lang/invoke/VarHandle" ∧ (parseMethodDescriptor yX1_felt.desc).map (fun d => d.parameters.length) = some 2 := by decide +kernel
theorem cd_X1_sideOf : yX1_sideOf.cls ≠ "java/lang/invoke/MethodHandle" ∧ yX1_sideOf.cls ≠ "java/lang/invoke/VarHandle" ∧ (parseMethodDescriptor yX1_sideOf.desc).map (fun d => d.parameters.length) = some 1 := by decide +kernel
theorem cd_X1_state : yX1_state.cls ≠ "java/lang/invoke/MethodHandle" ∧ yX1_state.cls ≠ "java/lang/invoke/VarHandle" ∧ (parseMethodDescriptor yX1_state.desc).map (fun d => d.parameters.length) = some 2 := by decide +kernel
theorem cdV_X1_told : yX1_told.cls = "Bumpward" ∧ yX1_told.cls ≠ "java/lang/invoke/MethodHandle" ∧ yX1_told.cls ≠ "java/lang/invoke/VarHandle" ∧ (parseMethodDescriptor yX1_told.desc).map (fun d => d.parameters.length) = some 3 := by decide +kernel
theorem cdV_X3_call : yX3_call.cls = "Bumpward$Porter" ∧ yX3_call.cls ≠ "java/lang/invoke/MethodHandle" ∧ yX3_call.cls ≠ "java/lang/invoke/VarHandle" ∧ (parseMethodDescriptor yX3_call.desc).map (fun d => d.parameters.length) = some 0 := by decide +kernel
set_option maxHeartbeats 4000000 in
theorem m_X1_felt (l : Launch) (X : gk_X) (bo ea cx bx wl dw pt : Nat) (mi mt dp : Int32) (dg : Int64) (er : Nat → Nat) (kd : Nat → Nat) (hr : Nat → Int32) (c s : Nat) (hkd : ∀ k, k < 60 → kd k < 3) (hc : c < 36) (hs : s < 4) : CtP l X yX1_felt cX1_felt 5 (some .int) 7 3 3 [.ref bo, .int (nI (c)), .int (nI (s))] [[(bo, ob 0 [.ref ea, .ref cx, .ref bx, .ref wl, .ref dw, .ref pt, .int (mi), .int (mt), .int (dp), .long (dg)])], [(ea, oA X 2 60 (fun j => some (er j)))], poolW 60 (fun j => edC X (er j) (kd j) (hr j))] (some (.int (nI (feN (swB kd hr mi) c s 3)))) := by
  unfold CtP
  refine Ct.of (by decide) (Nat.le_of_ble_eq_true rfl) "Bumpward" "felt" rfl rfl (fun K F eL R => ?_)
  subst eL
  show G K X 5 0 0 [[(bo, ob 0 [.ref ea, .ref cx, .ref bx, .ref wl, .ref dw, .ref pt, .int (mi), .int (mt), .int (dp), .long (dg)])], [(ea, oA X 2 60 (fun j => some (er j)))], poolW 60 (fun j => edC X (er j) (kd j) (hr j))] [(0, .ref bo), (1, .int (nI (c))), (2, .int (nI (s)))] 0 []
  refine g_iconst 0 1 F (nI (0)) dX1_felt_0 rfl (by decide) ?_
  refine g_istore_n 1 2 F [(3, .int (nI (0))), (0, .ref bo), (1, .int (nI (c))), (2, .int (nI (s)))] dX1_felt_1 rfl rfl (Nat.le_of_ble_eq_true rfl) rfl ?_
  refine g_iconst 2 3 F (nI (0)) dX1_felt_2 rfl (by decide) ?_
  refine g_istore 3 5 F [(4, .int (nI (0))), (3, .int (nI (0))), (0, .ref bo), (1, .int (nI (c))), (2, .int (nI (s)))] dX1_felt_3 rfl (Nat.le_of_ble_eq_true rfl) rfl ?_
  refine g_ls [(0, .ref bo), (1, .int (nI (c))), (2, .int (nI (s))), (3, .int (nI (feN (swB kd hr mi) c s 0))), (4, .int (nI (0)))] [2, 3, 4, 1, 0] (rfl) ?_
  refine g_wid (c2 := 0) (s2 := 0) (by omega) (by omega) ?_
  refine g_down (P := fun k => G K X 5 k k [[(bo, ob 0 [.ref ea, .ref cx, .ref bx, .ref wl, .ref dw, .ref pt, .int (mi), .int (mt), .int (dp), .long (dg)])], [(ea, oA X 2 60 (fun j => some (er j)))], poolW 60 (fun j => edC X (er j) (kd j) (hr j))] [(0, .ref bo), (1, .int (nI (c))), (2, .int (nI (s))), (3, .int (nI (feN (swB kd hr mi) c s k))), (4, .int (nI (k)))] 5 []) 3 0 (by omega) ?_ (fun k hl_k hi_k ih_k => ?_)
  · show G K X 5 3 3 [[(bo, ob 0 [.ref ea, .ref cx, .ref bx, .ref wl, .ref dw, .ref pt, .int (mi), .int (mt), .int (dp), .long (dg)])], [(ea, oA X 2 60 (fun j => some (er j)))], poolW 60 (fun j => edC X (er j) (kd j) (hr j))] [(0, .ref bo), (1, .int (nI (c))), (2, .int (nI (s))), (3, .int (nI (feN (swB kd hr mi) c s 3))), (4, .int (nI (3)))] 5 []
    refine g_iload 5 7 F dX1_felt_5 rfl 4 rfl ?_
    refine g_iconst 7 8 F (nI (3)) dX1_felt_7 rfl (by decide) ?_
    refine g_icmpN_ge 8 11 40 F dX1_felt_8 rfl (by decide) (by omega) (by omega) (fun c_1 => ?_) (fun c_1 => ?_)
    · refine g_iload_n 40 41 F dX1_felt_40 rfl rfl 3 rfl ?_
      exact g_iret 41 F R dX1_felt_41 (Nat.le_refl _) (Nat.le_refl _) (⟨rfl, rfl⟩)
    · exact absurd c_1 (by omega)
  · show G K X 5 k k [[(bo, ob 0 [.ref ea, .ref cx, .ref bx, .ref wl, .ref dw, .ref pt, .int (mi), .int (mt), .int (dp), .long (dg)])], [(ea, oA X 2 60 (fun j => some (er j)))], poolW 60 (fun j => edC X (er j) (kd j) (hr j))] [(0, .ref bo), (1, .int (nI (c))), (2, .int (nI (s))), (3, .int (nI (feN (swB kd hr mi) c s k))), (4, .int (nI (k)))] 5 []
    refine g_iload 5 7 F dX1_felt_5 rfl 4 rfl ?_
    refine g_iconst 7 8 F (nI (3)) dX1_felt_7 rfl (by decide) ?_
    refine g_icmpN_ge 8 11 40 F dX1_felt_8 rfl (by decide) (by omega) (by omega) (fun c_2 => ?_) (fun c_2 => ?_)
    · exact absurd c_2 (by omega)
    · refine g_aload_n 11 12 F dX1_felt_11 rfl rfl 0 rfl ?_
      refine g_iload_n 12 13 F dX1_felt_12 rfl rfl 1 rfl ?_
      refine g_iload_n 13 14 F dX1_felt_13 rfl rfl 2 rfl ?_
      refine g_iload 14 16 F dX1_felt_14 rfl 4 rfl ?_
      refine g_iadd 16 17 F (v := nI (s + k)) dX1_felt_16 rfl (nI_add _ _) ?_
      refine g_iconst 17 18 F (nI (3)) dX1_felt_17 rfl (by decide) ?_
      refine g_iadd 18 19 F (v := nI (s + k + 3)) dX1_felt_18 rfl (nI_add _ _) ?_
      refine g_iconst 19 20 F (nI (4)) dX1_felt_19 rfl (by decide) ?_
      refine g_irem 20 21 F (v := nI ((s + k + 3) % 4)) dX1_felt_20 rfl (by decide) (pk_rem (by omega) (by omega) (by omega)) ?_
      refine g_top (v := nI ((s + 3 + k) % 4)) (by rw [Nat.add_right_comm]) ?_
      refine g_callP 3 24 F (CallOk.V (C := "Bumpward") (b := bo) (As := [.int (nI (c)), .int (nI ((s + 3 + k) % 4))]) (rest := []) F 2 q386 q388 qs10 q49 q389 cdV_X1_isShut rfl rfl (Nat.le_of_ble_eq_true rfl) (Nat.le_of_ble_eq_true rfl) dX1_felt_21) (m_X1_isShut (kL K) X bo ea cx bx wl dw pt mi mt dp dg er kd hr c ((s + 3 + k) % 4) (by omega) (by omega) (by omega)) rfl (Mr := []) [0, 1, 2] [] rfl 3 rfl (by decide +kernel) rfl rfl (rc_of F 0 0 rfl rfl) (Nat.le_of_ble_eq_true rfl) (c2 := k + 1) (s2 := k + 1) (by omega) (by omega) rfl rfl (st1 := [.int (bI (swB kd hr mi c ((s + 3 + k) % 4)))]) rfl ?_
      refine g_ifB_eq 24 27 34 F dX1_felt_24 rfl (by decide) (fun c_3 => ?_) (fun c_3 => ?_)
      · have hsw := c_3
        refine g_iinc 34 37 F (v := nI (k + 1)) [(4, .int (nI (k + 1))), (0, .ref bo), (1, .int (nI (c))), (2, .int (nI (s))), (3, .int (nI (feN (swB kd hr mi) c s k)))] dX1_felt_34 rfl 4 rfl (nI_add _ _) (Nat.le_of_ble_eq_true rfl) rfl ?_
        refine g_goto 37 5 F dX1_felt_37 (by decide) ?_
        refine g_ls [(0, .ref bo), (1, .int (nI (c))), (2, .int (nI (s))), (3, .int (nI (feN (swB kd hr mi) c s (k + 1)))), (4, .int (nI (k + 1)))] [1, 2, 3, 4, 0] (by first | rfl | (rw [fe_F hsw]; rfl)) ?_
        refine g_wid (c2 := (k + 1)) (s2 := (k + 1)) (by omega) (by omega) ?_
        exact ih_k
      · have hsw := c_3
        refine g_iload_n 27 28 F dX1_felt_27 rfl rfl 3 rfl ?_
        refine g_iconst 28 29 F (nI (1)) dX1_felt_28 rfl (by decide) ?_
        refine g_iload 29 31 F dX1_felt_29 rfl 4 rfl ?_
        refine g_ishl 31 32 F (v := (nI (1)) <<< ((nI (k)) &&& 31)) dX1_felt_31 rfl (rfl) ?_
        refine g_ior 32 33 F (v := nI (feN (swB kd hr mi) c s (k + 1))) dX1_felt_32 rfl (fe_T hi_k hsw) ?_
        refine g_istore_n 33 34 F [(3, .int (nI (feN (swB kd hr mi) c s (k + 1)))), (0, .ref bo), (1, .int (nI (c))), (2, .int (nI (s))), (4, .int (nI (k)))] dX1_felt_33 rfl rfl (Nat.le_of_ble_eq_true rfl) rfl ?_
        refine g_iinc 34 37 F (v := nI (k + 1)) [(4, .int (nI (k + 1))), (3, .int (nI (feN (swB kd hr mi) c s (k + 1)))), (0, .ref bo), (1, .int (nI (c))), (2, .int (nI (s)))] dX1_felt_34 rfl 4 rfl (nI_add _ _) (Nat.le_of_ble_eq_true rfl) rfl ?_
        refine g_goto 37 5 F dX1_felt_37 (by decide) ?_
        refine g_ls [(0, .ref bo), (1, .int (nI (c))), (2, .int (nI (s))), (3, .int (nI (feN (swB kd hr mi) c s (k + 1)))), (4, .int (nI (k + 1)))] [2, 3, 4, 1, 0] (by first | rfl | (rw [fe_F hsw]; rfl)) ?_
        refine g_wid (c2 := (k + 1)) (s2 := (k + 1)) (by omega) (by omega) ?_
        exact ih_k

set_option maxHeartbeats 4000000 in
theorem m_X1_cell (l : Launch) (X : gk_X) (bo ea cx bx wl dw pt : Nat) (mi mt dp : Int32) (dg : Int64) (cf bf : Nat → Bool) (x : Int32) (b1 b2 : Bool)  : CtX l X yX1_cell cX1_cell 4 (some .int) 10 1 6 [.ref bo, .int (x), .int (bI (b1)), .int (bI (b2))] [[(bo, ob 0 [.ref ea, .ref cx, .ref bx, .ref wl, .ref dw, .ref pt, .int (mi), .int (mt), .int (dp), .long (dg)])], [(cx, zA X 36 (cf))], [(bx, zA X 36 (bf))]] (fun v M' => (∃ c, c < 36 ∧ x = nI (c) ∧ v = some (.int (nI (cnt (updB bf c b2) 36))) ∧ M' = [[(bo, ob 0 [.ref ea, .ref cx, .ref bx, .ref wl, .ref dw, .ref pt, .int (mi), .int (mt), .int (dp), .long (dg)])], [(cx, zA X 36 (updB cf c b1))], [(bx, zA X 36 (updB bf c b2))]])) (fun E M' => (E = "java/lang/IndexOutOfBoundsException" ∧ noC x = true ∧ M' = [[(bo, ob 0 [.ref ea, .ref cx, .ref bx, .ref wl, .ref dw, .ref pt, .int (mi), .int (mt), .int (dp), .long (dg)])], [(cx, zA X 36 (cf))], [(bx, zA X 36 (bf))]])) := by
  refine CtX.of (by decide) (Nat.le_of_ble_eq_true rfl) "Bumpward" "cell" rfl rfl (fun K F eL R RX => ?_)
  subst eL
  show G K X 4 0 0 [[(bo, ob 0 [.ref ea, .ref cx, .ref bx, .ref wl, .ref dw, .ref pt, .int (mi), .int (mt), .int (dp), .long (dg)])], [(cx, zA X 36 (cf))], [(bx, zA X 36 (bf))]] [(0, .ref bo), (1, .int (x)), (2, .int (bI (b1))), (3, .int (bI (b2)))] 0 []
  refine g_aload_n 0 1 F dX1_cell_0 rfl rfl 0 rfl ?_
  refine g_get 1 4 F (ci := 0) in_X1 rfl 1 (by decide) q167 (fun _ h => h) dX1_cell_1 rfl 0 rfl (v := .ref cx) rfl ?_
  refine g_iload_n 4 5 F dX1_cell_4 rfl rfl 1 rfl ?_
  refine g_callX 8 F (CallOkX.S (As := [.int (x)]) (rest := [.ref cx]) F 1 q629 q630 q49 q631 cd_X1_cellOf rfl rfl (Nat.le_of_ble_eq_true rfl) (Nat.le_of_ble_eq_true rfl) dX1_cell_5) (m_X1_cellOf (kL K) X x ) rfl (Mr := [[(bo, ob 0 [.ref ea, .ref cx, .ref bx, .ref wl, .ref dw, .ref pt, .int (mi), .int (mt), .int (dp), .long (dg)])], [(cx, zA X 36 (cf))], [(bx, zA X 36 (bf))]]) [] [0, 1, 2] rfl rfl rfl (rc_T) (Nat.le_of_ble_eq_true rfl) (c2 := 1) (s2 := 6) (Nat.le_refl _) (Nat.le_refl _) rfl rfl (fun E M1 hp => ?_) (fun v M1 hp => ?_)
  · obtain ⟨rfl, hxx, rfl⟩ := hp
    exact gx_out F RX (Nat.le_refl _) (Nat.le_refl _) (⟨rfl, hxx, rfl⟩)
  · obtain ⟨hx_1, rfl, rfl⟩ := hp
    obtain ⟨c, hc, rfl⟩ := noC_ok hx_1
    show G K X 4 1 6 [[(bo, ob 0 [.ref ea, .ref cx, .ref bx, .ref wl, .ref dw, .ref pt, .int (mi), .int (mt), .int (dp), .long (dg)])], [(cx, zA X 36 (cf))], [(bx, zA X 36 (bf))]] [(0, .ref bo), (1, .int (nI (c))), (2, .int (bI (b1))), (3, .int (bI (b2)))] 8 [.int (nI (c)), .ref cx]
    refine g_iload_n 8 9 F dX1_cell_8 rfl rfl 2 rfl ?_
    refine g_zast 9 10 F dX1_cell_9 rfl 1 (i := c) rfl (Nat.le_of_ble_eq_true rfl) (by omega) (f' := updB cf c b1) (rfl) (M' := [[(bo, ob 0 [.ref ea, .ref cx, .ref bx, .ref wl, .ref dw, .ref pt, .int (mi), .int (mt), .int (dp), .long (dg)])], [(cx, zA X 36 (updB cf c b1))], [(bx, zA X 36 (bf))]]) rfl ?_
    refine g_aload_n 10 11 F dX1_cell_10 rfl rfl 0 rfl ?_
    refine g_get 11 14 F (ci := 0) in_X1 rfl 2 (by decide) q168 (fun _ h => h) dX1_cell_11 rfl 0 rfl (v := .ref bx) rfl ?_
    refine g_iload_n 14 15 F dX1_cell_14 rfl rfl 1 rfl ?_
    refine g_iload_n 15 16 F dX1_cell_15 rfl rfl 3 rfl ?_
    refine g_zast 16 17 F dX1_cell_16 rfl 2 (i := c) rfl (Nat.le_of_ble_eq_true rfl) (by omega) (f' := updB bf c b2) (rfl) (M' := [[(bo, ob 0 [.ref ea, .ref cx, .ref bx, .ref wl, .ref dw, .ref pt, .int (mi), .int (mt), .int (dp), .long (dg)])], [(cx, zA X 36 (updB cf c b1))], [(bx, zA X 36 (updB bf c b2))]]) rfl ?_
    refine g_aload_n 17 18 F dX1_cell_17 rfl rfl 0 rfl ?_
    refine g_get 18 21 F (ci := 0) in_X1 rfl 2 (by decide) q168 (fun _ h => h) dX1_cell_18 rfl 0 rfl (v := .ref bx) rfl ?_
    refine g_callP 3 24 F (CallOk.S (As := [.ref bx]) (rest := []) F 1 q328 q329 q49 q330 cd_X1_count_2 rfl rfl (Nat.le_of_ble_eq_true rfl) (Nat.le_of_ble_eq_true rfl) dX1_cell_21) (m_X1_count_2 (kL K) X bx 36 (updB bf c b2) (by omega)) rfl (Mr := [[(bo, ob 0 [.ref ea, .ref cx, .ref bx, .ref wl, .ref dw, .ref pt, .int (mi), .int (mt), .int (dp), .long (dg)])], [(cx, zA X 36 (updB cf c b1))]]) [2] [0, 1] rfl 3 rfl (by decide +kernel) rfl rfl (rc_T) (Nat.le_of_ble_eq_true rfl) (c2 := 1) (s2 := 6) (Nat.le_refl _) (Nat.le_refl _) rfl rfl (st1 := [.int (nI (cnt (updB bf c b2) 36))]) rfl ?_
    exact g_iret 24 F R dX1_cell_24 (Nat.le_refl _) (Nat.le_refl _) (⟨c, hc, rfl, rfl, rfl⟩)

set_option maxHeartbeats 4000000 in
theorem m_X1_wouldBe (l : Launch) (X : gk_X) (bo ea cx bx wl dw pt : Nat) (mi mt dp : Int32) (dg : Int64) (er : Nat → Nat) (kd : Nat → Nat) (hr : Nat → Int32) (x y : Int32) (hkd : ∀ k, k < 60 → kd k < 3) : CtX l X yX1_wouldBe cX1_wouldBe 3 (some .int) 10 5 15 [.ref bo, .int (x), .int (y)] [[(bo, ob 0 [.ref ea, .ref cx, .ref bx, .ref wl, .ref dw, .ref pt, .int (mi), .int (mt), .int (dp), .long (dg)])], [(ea, oA X 2 60 (fun j => some (er j)))], poolW 60 (fun j => edC X (er j) (kd j) (hr j))] (fun v M' => (∃ c s, c < 36 ∧ s < 4 ∧ x = nI (c) ∧ y = nI (s) ∧ v = some (.int (nI (feN (swB kd hr mi) c s 3))) ∧ M' = [[(bo, ob 0 [.ref ea, .ref cx, .ref bx, .ref wl, .ref dw, .ref pt, .int (mi), .int (mt), .int (dp), .long (dg)])], [(ea, oA X 2 60 (fun j => some (er j)))], poolW 60 (fun j => edC X (er j) (kd j) (hr j))])) (fun E M' => (E = "java/lang/IndexOutOfBoundsException" ∧ noC x = true ∧ M' = [[(bo, ob 0 [.ref ea, .ref cx, .ref bx, .ref wl, .ref dw, .ref pt, .int (mi), .int (mt), .int (dp), .long (dg)])], [(ea, oA X 2 60 (fun j => some (er j)))], poolW 60 (fun j => edC X (er j) (kd j) (hr j))]) ∨ (E = "java/lang/IllegalArgumentException" ∧ (noC x = false ∧ noS y = true) ∧ M' = [[(bo, ob 0 [.ref ea, .ref cx, .ref bx, .ref wl, .ref dw, .ref pt, .int (mi), .int (mt), .int (dp), .long (dg)])], [(ea, oA X 2 60 (fun j => some (er j)))], poolW 60 (fun j => edC X (er j) (kd j) (hr j))])) := by
  refine CtX.of (by decide) (Nat.le_of_ble_eq_true rfl) "Bumpward" "wouldBe" rfl rfl (fun K F eL R RX => ?_)
  subst eL
  show G K X 3 0 0 [[(bo, ob 0 [.ref ea, .ref cx, .ref bx, .ref wl, .ref dw, .ref pt, .int (mi), .int (mt), .int (dp), .long (dg)])], [(ea, oA X 2 60 (fun j => some (er j)))], poolW 60 (fun j => edC X (er j) (kd j) (hr j))] [(0, .ref bo), (1, .int (x)), (2, .int (y))] 0 []
  refine g_iload_n 0 1 F dX1_wouldBe_0 rfl rfl 1 rfl ?_
  refine g_callX 4 F (CallOkX.S (As := [.int (x)]) (rest := []) F 1 q629 q630 q49 q631 cd_X1_cellOf rfl rfl (Nat.le_of_ble_eq_true rfl) (Nat.le_of_ble_eq_true rfl) dX1_wouldBe_1) (m_X1_cellOf (kL K) X x ) rfl (Mr := [[(bo, ob 0 [.ref ea, .ref cx, .ref bx, .ref wl, .ref dw, .ref pt, .int (mi), .int (mt), .int (dp), .long (dg)])], [(ea, oA X 2 60 (fun j => some (er j)))], poolW 60 (fun j => edC X (er j) (kd j) (hr j))]) [] [0, 1, 2] rfl rfl rfl (rc_T) (Nat.le_of_ble_eq_true rfl) (c2 := 1) (s2 := 6) (Nat.le_of_ble_eq_true rfl) (Nat.le_of_ble_eq_true rfl) rfl rfl (fun E M1 hp => ?_) (fun v M1 hp => ?_)
  · obtain ⟨rfl, hxx, rfl⟩ := hp
    exact gx_out F RX (Nat.le_of_ble_eq_true rfl) (Nat.le_of_ble_eq_true rfl) (Or.inl ⟨rfl, hxx, rfl⟩)
  · obtain ⟨hx_1, rfl, rfl⟩ := hp
    show G K X 3 1 6 [[(bo, ob 0 [.ref ea, .ref cx, .ref bx, .ref wl, .ref dw, .ref pt, .int (mi), .int (mt), .int (dp), .long (dg)])], [(ea, oA X 2 60 (fun j => some (er j)))], poolW 60 (fun j => edC X (er j) (kd j) (hr j))] [(0, .ref bo), (1, .int (x)), (2, .int (y))] 4 [.int (x)]
    refine g_pop 4 5 F dX1_wouldBe_4 rfl rfl ?_
    refine g_iload_n 5 6 F dX1_wouldBe_5 rfl rfl 2 rfl ?_
    refine g_iconst 6 7 F (nI (0)) dX1_wouldBe_6 rfl (by decide) ?_
    refine g_iconst 7 8 F (nI (3)) dX1_wouldBe_7 rfl (by decide) ?_
    refine g_callP 3 11 F (CallOk.S (As := [.int (y), .int (nI (0)), .int (nI (3))]) (rest := []) F 3 q304 q305 q49 q306 cd_X1_isIn rfl rfl (Nat.le_of_ble_eq_true rfl) (Nat.le_of_ble_eq_true rfl) dX1_wouldBe_8) (m_X1_isIn (kL K) X y (nI (0)) (nI (3)) ) rfl (Mr := [[(bo, ob 0 [.ref ea, .ref cx, .ref bx, .ref wl, .ref dw, .ref pt, .int (mi), .int (mt), .int (dp), .long (dg)])], [(ea, oA X 2 60 (fun j => some (er j)))], poolW 60 (fun j => edC X (er j) (kd j) (hr j))]) [] [0, 1, 2] rfl 3 rfl (by decide +kernel) rfl rfl (rc_T) (Nat.le_of_ble_eq_true rfl) (c2 := 1) (s2 := 6) (Nat.le_of_ble_eq_true rfl) (Nat.le_of_ble_eq_true rfl) rfl rfl (st1 := [.int (bI (decide ((nI (0)) ≤ y) && decide (y ≤ (nI (3)))))]) rfl ?_
    refine g_ldcwS 11 14 F (tx := "facing") (c := 27) (by simp [gl_tx]) dX1_wouldBe_11 rfl ?_
    refine g_callX 17 F (CallOkX.S (As := [.int (bI (decide ((nI (0)) ≤ y) && decide (y ≤ (nI (3))))), .ref (X.2.2 27)]) (rest := []) F 2 q658 q659 q49 q660 cd_X1_check rfl rfl (Nat.le_of_ble_eq_true rfl) (Nat.le_of_ble_eq_true rfl) dX1_wouldBe_14) (m_X1_check (kL K) X (decide ((nI (0)) ≤ y) && decide (y ≤ (nI (3)))) (X.2.2 27) ) rfl (Mr := [[(bo, ob 0 [.ref ea, .ref cx, .ref bx, .ref wl, .ref dw, .ref pt, .int (mi), .int (mt), .int (dp), .long (dg)])], [(ea, oA X 2 60 (fun j => some (er j)))], poolW 60 (fun j => edC X (er j) (kd j) (hr j))]) [] [0, 1, 2] rfl rfl rfl (rc_T) (Nat.le_of_ble_eq_true rfl) (c2 := 2) (s2 := 12) (Nat.le_of_ble_eq_true rfl) (Nat.le_of_ble_eq_true rfl) rfl rfl (fun E M1 hp => ?_) (fun v M1 hp => ?_)
    · obtain ⟨rfl, hxx, rfl⟩ := hp
      exact gx_out F RX (Nat.le_of_ble_eq_true rfl) (Nat.le_of_ble_eq_true rfl) (Or.inr (⟨rfl, ⟨hx_1, hxx⟩, rfl⟩))
    · obtain ⟨hx_2, rfl, rfl⟩ := hp
      obtain ⟨c, hc, rfl⟩ := noC_ok hx_1
      obtain ⟨s, hs, rfl⟩ := noS_ok (v := y) hx_2
      show G K X 3 2 12 [[(bo, ob 0 [.ref ea, .ref cx, .ref bx, .ref wl, .ref dw, .ref pt, .int (mi), .int (mt), .int (dp), .long (dg)])], [(ea, oA X 2 60 (fun j => some (er j)))], poolW 60 (fun j => edC X (er j) (kd j) (hr j))] [(0, .ref bo), (1, .int (nI (c))), (2, .int (nI (s)))] 17 []
      refine g_aload_n 17 18 F dX1_wouldBe_17 rfl rfl 0 rfl ?_
      refine g_iload_n 18 19 F dX1_wouldBe_18 rfl rfl 1 rfl ?_
      refine g_iload_n 19 20 F dX1_wouldBe_19 rfl rfl 2 rfl ?_
      refine g_callP 3 23 F (CallOk.V (C := "Bumpward") (b := bo) (As := [.int (nI (c)), .int (nI (s))]) (rest := []) F 2 q946 q948 qs22 q49 q949 cdV_X1_felt rfl rfl (Nat.le_of_ble_eq_true rfl) (Nat.le_of_ble_eq_true rfl) dX1_wouldBe_20) (m_X1_felt (kL K) X bo ea cx bx wl dw pt mi mt dp dg er kd hr c s (by omega) (by omega) (by omega)) rfl (Mr := []) [0, 1, 2] [] rfl 3 rfl (by decide +kernel) rfl rfl (rc_of F 0 0 rfl rfl) (Nat.le_of_ble_eq_true rfl) (c2 := 5) (s2 := 15) (Nat.le_refl _) (Nat.le_refl _) rfl rfl (st1 := [.int (nI (feN (swB kd hr mi) c s 3))]) rfl ?_
      exact g_iret 23 F R dX1_wouldBe_23 (Nat.le_refl _) (Nat.le_refl _) (⟨c, s, hc, hs, rfl, rfl, rfl, rfl⟩)

set_option maxHeartbeats 4000000 in
theorem m_X1_pass (l : Launch) (X : gk_X) (bo ea cx bx wl dw pt : Nat) (mi mt dp : Int32) (dg : Int64) (x : Int32)  : CtX l X yX1_pass cX1_pass 2 (some .int) 10 2 12 [.ref bo, .int (x)] [[(bo, ob 0 [.ref ea, .ref cx, .ref bx, .ref wl, .ref dw, .ref pt, .int (mi), .int (mt), .int (dp), .long (dg)])]] (fun v M' => inI x (nI 1) (nI 600) = true ∧ decide (nI 3000 < mi + x) = false ∧ v = some (.int (mi + x)) ∧ M' = [[(bo, ob 0 [.ref ea, .ref cx, .ref bx, .ref wl, .ref dw, .ref pt, .int (mi + x), .int (mt), .int (dp), .long (dg)])]]) (fun E M' => (E = "java/lang/IllegalArgumentException" ∧ inI x (nI 1) (nI 600) = false ∧ M' = [[(bo, ob 0 [.ref ea, .ref cx, .ref bx, .ref wl, .ref dw, .ref pt, .int (mi), .int (mt), .int (dp), .long (dg)])]]) ∨ (E = "java/lang/IllegalStateException" ∧ (inI x (nI 1) (nI 600) = true ∧ decide (nI 3000 < mi + x) = true) ∧ M' = [[(bo, ob 0 [.ref ea, .ref cx, .ref bx, .ref wl, .ref dw, .ref pt, .int (mi), .int (mt), .int (dp), .long (dg)])]])) := by
  refine CtX.of (by decide) (Nat.le_of_ble_eq_true rfl) "Bumpward" "pass" rfl rfl (fun K F eL R RX => ?_)
  subst eL
  show G K X 2 0 0 [[(bo, ob 0 [.ref ea, .ref cx, .ref bx, .ref wl, .ref dw, .ref pt, .int (mi), .int (mt), .int (dp), .long (dg)])]] [(0, .ref bo), (1, .int (x))] 0 []
  refine g_iload_n 0 1 F dX1_pass_0 rfl rfl 1 rfl ?_
  refine g_iconst 1 2 F (nI (1)) dX1_pass_1 rfl (by decide) ?_
  refine g_sipush 2 5 F (nI (600)) dX1_pass_2 rfl (by decide) ?_
  refine g_callP 3 8 F (CallOk.S (As := [.int (x), .int (nI (1)), .int (nI (600))]) (rest := []) F 3 q304 q305 q49 q306 cd_X1_isIn rfl rfl (Nat.le_of_ble_eq_true rfl) (Nat.le_of_ble_eq_true rfl) dX1_pass_5) (m_X1_isIn (kL K) X x (nI (1)) (nI (600)) ) rfl (Mr := [[(bo, ob 0 [.ref ea, .ref cx, .ref bx, .ref wl, .ref dw, .ref pt, .int (mi), .int (mt), .int (dp), .long (dg)])]]) [] [0] rfl 1 rfl (by decide +kernel) rfl rfl (rc_T) (Nat.le_of_ble_eq_true rfl) (c2 := 0) (s2 := 0) (Nat.zero_le _) (Nat.zero_le _) rfl rfl (st1 := [.int (bI (decide ((nI (1)) ≤ x) && decide (x ≤ (nI (600)))))]) rfl ?_
  refine g_ldcwS 8 11 F (tx := "minutes") (c := 22) (by simp [gl_tx]) dX1_pass_8 rfl ?_
  refine g_callX 14 F (CallOkX.S (As := [.int (bI (decide ((nI (1)) ≤ x) && decide (x ≤ (nI (600))))), .ref (X.2.2 22)]) (rest := []) F 2 q658 q659 q49 q660 cd_X1_check rfl rfl (Nat.le_of_ble_eq_true rfl) (Nat.le_of_ble_eq_true rfl) dX1_pass_11) (m_X1_check (kL K) X (decide ((nI (1)) ≤ x) && decide (x ≤ (nI (600)))) (X.2.2 22) ) rfl (Mr := [[(bo, ob 0 [.ref ea, .ref cx, .ref bx, .ref wl, .ref dw, .ref pt, .int (mi), .int (mt), .int (dp), .long (dg)])]]) [] [0] rfl rfl rfl (rc_T) (Nat.le_of_ble_eq_true rfl) (c2 := 1) (s2 := 6) (Nat.le_of_ble_eq_true rfl) (Nat.le_of_ble_eq_true rfl) rfl rfl (fun E M1 hp => ?_) (fun v M1 hp => ?_)
  · obtain ⟨rfl, hxx, rfl⟩ := hp
    exact gx_out F RX (Nat.le_of_ble_eq_true rfl) (Nat.le_of_ble_eq_true rfl) (Or.inl ⟨rfl, nt_t hxx, rfl⟩)
  · obtain ⟨hx_1, rfl, rfl⟩ := hp
    show G K X 2 1 6 [[(bo, ob 0 [.ref ea, .ref cx, .ref bx, .ref wl, .ref dw, .ref pt, .int (mi), .int (mt), .int (dp), .long (dg)])]] [(0, .ref bo), (1, .int (x))] 14 []
    refine g_aload_n 14 15 F dX1_pass_14 rfl rfl 0 rfl ?_
    refine g_get 15 18 F (ci := 0) in_X1 rfl 6 (by decide) q172 (fun _ h => h) dX1_pass_15 rfl 0 rfl (v := .int (mi)) rfl ?_
    refine g_iload_n 18 19 F dX1_pass_18 rfl rfl 1 rfl ?_
    refine g_iadd 19 20 F (v := mi + x) dX1_pass_19 rfl (rfl) ?_
    refine g_sipush 20 23 F (nI (3000)) dX1_pass_20 rfl (by decide) ?_
    refine g_dia_gt 23 30 31 F dX1_pass_23 (by decide) dX1_pass_26 dX1_pass_27 (by decide) dX1_pass_30 rfl ?_
    refine g_ldcwS 31 34 F (tx := "over") (c := 23) (by simp [gl_tx]) dX1_pass_31 rfl ?_
    refine g_callX 37 F (CallOkX.S (As := [.int (bI (decide ((mi + x) ≤ (nI (3000))))), .ref (X.2.2 23)]) (rest := []) F 2 q721 q722 q49 q723 cd_X1_state rfl rfl (Nat.le_of_ble_eq_true rfl) (Nat.le_of_ble_eq_true rfl) dX1_pass_34) (m_X1_state (kL K) X (decide ((mi + x) ≤ (nI (3000)))) (X.2.2 23) ) rfl (Mr := [[(bo, ob 0 [.ref ea, .ref cx, .ref bx, .ref wl, .ref dw, .ref pt, .int (mi), .int (mt), .int (dp), .long (dg)])]]) [] [0] rfl rfl rfl (rc_T) (Nat.le_of_ble_eq_true rfl) (c2 := 2) (s2 := 12) (Nat.le_refl _) (Nat.le_refl _) rfl rfl (fun E M1 hp => ?_) (fun v M1 hp => ?_)
    · obtain ⟨rfl, hxx, rfl⟩ := hp
      exact gx_out F RX (Nat.le_refl _) (Nat.le_refl _) (Or.inr (⟨rfl, ⟨nt_f hx_1, le_b.symm.trans hxx⟩, rfl⟩))
    · obtain ⟨hx_2, rfl, rfl⟩ := hp
      show G K X 2 2 12 [[(bo, ob 0 [.ref ea, .ref cx, .ref bx, .ref wl, .ref dw, .ref pt, .int (mi), .int (mt), .int (dp), .long (dg)])]] [(0, .ref bo), (1, .int (x))] 37 []
      refine g_aload_n 37 38 F dX1_pass_37 rfl rfl 0 rfl ?_
      refine g_dup 38 39 F dX1_pass_38 rfl rfl ?_
      refine g_get 39 42 F (ci := 0) in_X1 rfl 6 (by decide) q172 (fun _ h => h) dX1_pass_39 rfl 0 rfl (v := .int (mi)) rfl ?_
      refine g_iload_n 42 43 F dX1_pass_42 rfl rfl 1 rfl ?_
      refine g_iadd 43 44 F (v := mi + x) dX1_pass_43 rfl (rfl) ?_
      refine g_put 44 47 F (ci := 0) in_X1 tyX1 tyX1_ok nmX1 rfl 6 (by decide) q172 (fun _ h => h) rfl dX1_pass_44 rfl 0 (rfl) (rfl) (Nat.le_of_ble_eq_true rfl) rfl (M' := [[(bo, ob 0 [.ref ea, .ref cx, .ref bx, .ref wl, .ref dw, .ref pt, .int (mi + x), .int (mt), .int (dp), .long (dg)])]]) rfl ?_
      refine g_aload_n 47 48 F dX1_pass_47 rfl rfl 0 rfl ?_
      refine g_get 48 51 F (ci := 0) in_X1 rfl 6 (by decide) q172 (fun _ h => h) dX1_pass_48 rfl 0 rfl (v := .int (mi + x)) rfl ?_
      exact g_iret 51 F R dX1_pass_51 (Nat.le_refl _) (Nat.le_refl _) (⟨nt_f hx_1, le_b.symm.trans hx_2, rfl, rfl⟩)

set_option maxHeartbeats 4000000 in
theorem m_X1_call (l : Launch) (X : gk_X) (bo ea cx bx wl dw pt : Nat) (mi mt dp : Int32) (dg : Int64) (rf : Int32)  : Ct l X yX1_call cX1_call 1 (some .int) 2 0 0 [.ref bo] [[(bo, ob 0 [.ref ea, .ref cx, .ref bx, .ref wl, .ref dw, .ref pt, .int (mi), .int (mt), .int (dp), .long (dg)])], [(pt, ob 2 [.int (rf)])]] (fun v M' => v = some (.int (rf + nI 1)) ∧ M' = [[(bo, ob 0 [.ref ea, .ref cx, .ref bx, .ref wl, .ref dw, .ref pt, .int (mi), .int (mt), .int (dp), .long (dg)])], [(pt, ob 2 [.int (rf + nI 1)])]]) := by
  refine Ct.of (by decide) (Nat.le_of_ble_eq_true rfl) "Bumpward" "call" rfl rfl (fun K F eL R => ?_)
  subst eL
  show G K X 1 0 0 [[(bo, ob 0 [.ref ea, .ref cx, .ref bx, .ref wl, .ref dw, .ref pt, .int (mi), .int (mt), .int (dp), .long (dg)])], [(pt, ob 2 [.int (rf)])]] [(0, .ref bo)] 0 []
  refine g_aload_n 0 1 F dX1_call_0 rfl rfl 0 rfl ?_
  refine g_get 1 4 F (ci := 0) in_X1 rfl 5 (by decide) q171 (fun _ h => h) dX1_call_1 rfl 0 rfl (v := .ref pt) rfl ?_
  refine g_call 3 7 F (CallOk.V (C := "Bumpward$Porter") (b := pt) (As := []) (rest := []) F 0 q201 q202 q203 q54 q204 cdV_X3_call rfl rfl (Nat.le_of_ble_eq_true rfl) (Nat.le_of_ble_eq_true rfl) dX1_call_4) (m_X3_call (kL K) X pt rf ) rfl (Mr := [[(bo, ob 0 [.ref ea, .ref cx, .ref bx, .ref wl, .ref dw, .ref pt, .int (mi), .int (mt), .int (dp), .long (dg)])]]) [1] [0] rfl rfl rfl (rc_of F 1 2 rfl rfl) (Nat.le_of_ble_eq_true rfl) (c2 := 0) (s2 := 0) (Nat.zero_le _) (Nat.zero_le _) rfl rfl (fun v M1 hp => ?_)
  obtain ⟨rfl, rfl⟩ := hp
  show G K X 1 0 0 [[(bo, ob 0 [.ref ea, .ref cx, .ref bx, .ref wl, .ref dw, .ref pt, .int (mi), .int (mt), .int (dp), .long (dg)])], [(pt, ob 2 [.int (rf + nI 1)])]] [(0, .ref bo)] 7 [.int (rf + nI 1)]
  exact g_iret 7 F R dX1_call_7 (Nat.zero_le _) (Nat.zero_le _) (⟨rfl, rfl⟩)

set_option maxHeartbeats 4000000 in
theorem m_X1_ofEdge (l : Launch) (X : gk_X) (bo ea cx bx wl dw pt : Nat) (mi mt dp : Int32) (dg : Int64) (er : Nat → Nat) (kd : Nat → Nat) (hr : Nat → Int32) (x y t : Int32) (hkd : ∀ k, k < 60 → kd k < 3) : CtX l X yX1_ofEdge cX1_ofEdge 4 (some .int) 10 5 20 [.ref bo, .int (x), .int (y), .int (t)] [[(bo, ob 0 [.ref ea, .ref cx, .ref bx, .ref wl, .ref dw, .ref pt, .int (mi), .int (mt), .int (dp), .long (dg)])], [(ea, oA X 2 60 (fun j => some (er j)))], poolW 60 (fun j => edC X (er j) (kd j) (hr j))] (fun v M' => (∃ c s k, c < 36 ∧ s < 4 ∧ x = nI (c) ∧ y = nI (s) ∧ k < 3 ∧ t = nI (k) ∧ v = some (.int (oeI kd hr mi c s k)) ∧ M' = [[(bo, ob 0 [.ref ea, .ref cx, .ref bx, .ref wl, .ref dw, .ref pt, .int (mi), .int (mt), .int (dp), .long (dg)])], [(ea, oA X 2 60 (fun j => some (er j)))], poolW 60 (fun j => edC X (er j) (kd j) (hr j))])) (fun E M' => (E = "java/lang/IndexOutOfBoundsException" ∧ noC x = true ∧ M' = [[(bo, ob 0 [.ref ea, .ref cx, .ref bx, .ref wl, .ref dw, .ref pt, .int (mi), .int (mt), .int (dp), .long (dg)])], [(ea, oA X 2 60 (fun j => some (er j)))], poolW 60 (fun j => edC X (er j) (kd j) (hr j))]) ∨ (E = "java/lang/IndexOutOfBoundsException" ∧ (noC x = false ∧ noS y = true) ∧ M' = [[(bo, ob 0 [.ref ea, .ref cx, .ref bx, .ref wl, .ref dw, .ref pt, .int (mi), .int (mt), .int (dp), .long (dg)])], [(ea, oA X 2 60 (fun j => some (er j)))], poolW 60 (fun j => edC X (er j) (kd j) (hr j))]) ∨ (E = "java/lang/IllegalArgumentException" ∧ (noC x = false ∧ noS y = false ∧ inI t (nI 0) (nI 2) = false) ∧ M' = [[(bo, ob 0 [.ref ea, .ref cx, .ref bx, .ref wl, .ref dw, .ref pt, .int (mi), .int (mt), .int (dp), .long (dg)])], [(ea, oA X 2 60 (fun j => some (er j)))], poolW 60 (fun j => edC X (er j) (kd j) (hr j))])) := by
  refine CtX.of (by decide) (Nat.le_of_ble_eq_true rfl) "Bumpward" "ofEdge" rfl rfl (fun K F eL R RX => ?_)
  subst eL
  show G K X 4 0 0 [[(bo, ob 0 [.ref ea, .ref cx, .ref bx, .ref wl, .ref dw, .ref pt, .int (mi), .int (mt), .int (dp), .long (dg)])], [(ea, oA X 2 60 (fun j => some (er j)))], poolW 60 (fun j => edC X (er j) (kd j) (hr j))] [(0, .ref bo), (1, .int (x)), (2, .int (y)), (3, .int (t))] 0 []
  refine g_iload_n 0 1 F dX1_ofEdge_0 rfl rfl 1 rfl ?_
  refine g_callX 4 F (CallOkX.S (As := [.int (x)]) (rest := []) F 1 q629 q630 q49 q631 cd_X1_cellOf rfl rfl (Nat.le_of_ble_eq_true rfl) (Nat.le_of_ble_eq_true rfl) dX1_ofEdge_1) (m_X1_cellOf (kL K) X x ) rfl (Mr := [[(bo, ob 0 [.ref ea, .ref cx, .ref bx, .ref wl, .ref dw, .ref pt, .int (mi), .int (mt), .int (dp), .long (dg)])], [(ea, oA X 2 60 (fun j => some (er j)))], poolW 60 (fun j => edC X (er j) (kd j) (hr j))]) [] [0, 1, 2] rfl rfl rfl (rc_T) (Nat.le_of_ble_eq_true rfl) (c2 := 1) (s2 := 6) (Nat.le_of_ble_eq_true rfl) (Nat.le_of_ble_eq_true rfl) rfl rfl (fun E M1 hp => ?_) (fun v M1 hp => ?_)
  · obtain ⟨rfl, hxx, rfl⟩ := hp
    exact gx_out F RX (Nat.le_of_ble_eq_true rfl) (Nat.le_of_ble_eq_true rfl) (Or.inl ⟨rfl, hxx, rfl⟩)
  · obtain ⟨hx_1, rfl, rfl⟩ := hp
    show G K X 4 1 6 [[(bo, ob 0 [.ref ea, .ref cx, .ref bx, .ref wl, .ref dw, .ref pt, .int (mi), .int (mt), .int (dp), .long (dg)])], [(ea, oA X 2 60 (fun j => some (er j)))], poolW 60 (fun j => edC X (er j) (kd j) (hr j))] [(0, .ref bo), (1, .int (x)), (2, .int (y)), (3, .int (t))] 4 [.int (x)]
    refine g_pop 4 5 F dX1_ofEdge_4 rfl rfl ?_
    refine g_iload_n 5 6 F dX1_ofEdge_5 rfl rfl 2 rfl ?_
    refine g_callX 9 F (CallOkX.S (As := [.int (y)]) (rest := []) F 1 q648 q649 q49 q650 cd_X1_sideOf rfl rfl (Nat.le_of_ble_eq_true rfl) (Nat.le_of_ble_eq_true rfl) dX1_ofEdge_6) (m_X1_sideOf (kL K) X y ) rfl (Mr := [[(bo, ob 0 [.ref ea, .ref cx, .ref bx, .ref wl, .ref dw, .ref pt, .int (mi), .int (mt), .int (dp), .long (dg)])], [(ea, oA X 2 60 (fun j => some (er j)))], poolW 60 (fun j => edC X (er j) (kd j) (hr j))]) [] [0, 1, 2] rfl rfl rfl (rc_T) (Nat.le_of_ble_eq_true rfl) (c2 := 2) (s2 := 12) (Nat.le_of_ble_eq_true rfl) (Nat.le_of_ble_eq_true rfl) rfl rfl (fun E M1 hp => ?_) (fun v M1 hp => ?_)
    · obtain ⟨rfl, hxx, rfl⟩ := hp
      exact gx_out F RX (Nat.le_of_ble_eq_true rfl) (Nat.le_of_ble_eq_true rfl) (Or.inr (Or.inl ⟨rfl, ⟨hx_1, hxx⟩, rfl⟩))
    · obtain ⟨hx_2, rfl, rfl⟩ := hp
      show G K X 4 2 12 [[(bo, ob 0 [.ref ea, .ref cx, .ref bx, .ref wl, .ref dw, .ref pt, .int (mi), .int (mt), .int (dp), .long (dg)])], [(ea, oA X 2 60 (fun j => some (er j)))], poolW 60 (fun j => edC X (er j) (kd j) (hr j))] [(0, .ref bo), (1, .int (x)), (2, .int (y)), (3, .int (t))] 9 [.int (y)]
      refine g_pop 9 10 F dX1_ofEdge_9 rfl rfl ?_
      refine g_iload_n 10 11 F dX1_ofEdge_10 rfl rfl 3 rfl ?_
      refine g_iconst 11 12 F (nI (0)) dX1_ofEdge_11 rfl (by decide) ?_
      refine g_iconst 12 13 F (nI (2)) dX1_ofEdge_12 rfl (by decide) ?_
      refine g_callP 3 16 F (CallOk.S (As := [.int (t), .int (nI (0)), .int (nI (2))]) (rest := []) F 3 q304 q305 q49 q306 cd_X1_isIn rfl rfl (Nat.le_of_ble_eq_true rfl) (Nat.le_of_ble_eq_true rfl) dX1_ofEdge_13) (m_X1_isIn (kL K) X t (nI (0)) (nI (2)) ) rfl (Mr := [[(bo, ob 0 [.ref ea, .ref cx, .ref bx, .ref wl, .ref dw, .ref pt, .int (mi), .int (mt), .int (dp), .long (dg)])], [(ea, oA X 2 60 (fun j => some (er j)))], poolW 60 (fun j => edC X (er j) (kd j) (hr j))]) [] [0, 1, 2] rfl 3 rfl (by decide +kernel) rfl rfl (rc_T) (Nat.le_of_ble_eq_true rfl) (c2 := 2) (s2 := 12) (Nat.le_of_ble_eq_true rfl) (Nat.le_of_ble_eq_true rfl) rfl rfl (st1 := [.int (bI (decide ((nI (0)) ≤ t) && decide (t ≤ (nI (2)))))]) rfl ?_
      refine g_ldcwS 16 19 F (tx := "what") (c := 24) (by simp [gl_tx]) dX1_ofEdge_16 rfl ?_
      refine g_callX 22 F (CallOkX.S (As := [.int (bI (decide ((nI (0)) ≤ t) && decide (t ≤ (nI (2))))), .ref (X.2.2 24)]) (rest := []) F 2 q658 q659 q49 q660 cd_X1_check rfl rfl (Nat.le_of_ble_eq_true rfl) (Nat.le_of_ble_eq_true rfl) dX1_ofEdge_19) (m_X1_check (kL K) X (decide ((nI (0)) ≤ t) && decide (t ≤ (nI (2)))) (X.2.2 24) ) rfl (Mr := [[(bo, ob 0 [.ref ea, .ref cx, .ref bx, .ref wl, .ref dw, .ref pt, .int (mi), .int (mt), .int (dp), .long (dg)])], [(ea, oA X 2 60 (fun j => some (er j)))], poolW 60 (fun j => edC X (er j) (kd j) (hr j))]) [] [0, 1, 2] rfl rfl rfl (rc_T) (Nat.le_of_ble_eq_true rfl) (c2 := 3) (s2 := 18) (Nat.le_of_ble_eq_true rfl) (Nat.le_of_ble_eq_true rfl) rfl rfl (fun E M1 hp => ?_) (fun v M1 hp => ?_)
      · obtain ⟨rfl, hxx, rfl⟩ := hp
        exact gx_out F RX (Nat.le_of_ble_eq_true rfl) (Nat.le_of_ble_eq_true rfl) (Or.inr (Or.inr (⟨rfl, ⟨hx_1, hx_2, nt_t hxx⟩, rfl⟩)))
      · obtain ⟨hx_3, rfl, rfl⟩ := hp
        obtain ⟨c, hc, rfl⟩ := noC_ok hx_1
        obtain ⟨s, hs, rfl⟩ := noS_ok hx_2
        obtain ⟨k, hk, rfl⟩ := in_ok (v := t) (m := 2) (nt_f hx_3) (by decide)
        show G K X 4 3 18 [[(bo, ob 0 [.ref ea, .ref cx, .ref bx, .ref wl, .ref dw, .ref pt, .int (mi), .int (mt), .int (dp), .long (dg)])], [(ea, oA X 2 60 (fun j => some (er j)))], poolW 60 (fun j => edC X (er j) (kd j) (hr j))] [(0, .ref bo), (1, .int (nI (c))), (2, .int (nI (s))), (3, .int (nI (k)))] 22 []
        refine g_aload_n 22 23 F dX1_ofEdge_22 rfl rfl 0 rfl ?_
        refine g_iload_n 23 24 F dX1_ofEdge_23 rfl rfl 1 rfl ?_
        refine g_iload_n 24 25 F dX1_ofEdge_24 rfl rfl 2 rfl ?_
        refine g_iload_n 25 26 F dX1_ofEdge_25 rfl rfl 3 rfl ?_
        refine g_callP 3 29 F (CallOk.V (C := "Bumpward") (b := bo) (As := [.int (nI (c)), .int (nI (s)), .int (nI (k))]) (rest := []) F 3 q348 q350 qs8 q49 q351 cdV_X1_told rfl rfl (Nat.le_of_ble_eq_true rfl) (Nat.le_of_ble_eq_true rfl) dX1_ofEdge_26) (m_X1_told (kL K) X bo ea cx bx wl dw pt mi mt dp dg er kd hr c s k (by omega) (by omega) (by omega) (by omega)) rfl (Mr := []) [0, 1, 2] [] rfl 3 rfl (by decide +kernel) rfl rfl (rc_of F 0 0 rfl rfl) (Nat.le_of_ble_eq_true rfl) (c2 := 5) (s2 := 20) (Nat.le_refl _) (Nat.le_refl _) rfl rfl (st1 := [.int (oeI kd hr mi c s k)]) rfl ?_
        exact g_iret 29 F R dX1_ofEdge_29 (Nat.le_refl _) (Nat.le_refl _) (⟨c, s, k, hc, hs, rfl, rfl, by omega, rfl, rfl, rfl⟩)
