/-! Plan -/
theorem cd_X1_edgeAt : yX1_edgeAt.cls ≠ "java/lang/invoke/MethodHandle" ∧ yX1_edgeAt.cls ≠ "java/lang/invoke/VarHandle" ∧ (parseMethodDescriptor yX1_edgeAt.desc).map (fun d => d.parameters.length) = some 2 := by decide +kernel
theorem cdV_X9_at : yX9_at.cls = "Bumpward$Plan" ∧ yX9_at.cls ≠ "java/lang/invoke/MethodHandle" ∧ yX9_at.cls ≠ "java/lang/invoke/VarHandle" ∧ (parseMethodDescriptor yX9_at.desc).map (fun d => d.parameters.length) = some 2 := by decide +kernel
set_option maxHeartbeats 4000000 in
theorem m_X9_at (l : Launch) (X : gk_X) (h0 h1 : Nat) (e : Nat → Nat) (c s : Nat) (hc : c < 36) (hs : s < 4) : CtP l X yX9_at cX9_at 4 (some .int) 4 0 0 [.ref h0, .int (nI (c)), .int (nI (s))] [[(h0, ob 4 [.ref h1])], [(h1, iA X 60 (fun k => nI (e k)))]] (some (.int (nI (atN e c s)))) := by
  unfold CtP
  refine Ct.of (by decide) (Nat.le_of_ble_eq_true rfl) "Bumpward$Plan" "at" rfl rfl (fun K F eL R => ?_)
  subst eL
  show G K X 4 0 0 [[(h0, ob 4 [.ref h1])], [(h1, iA X 60 (fun k => nI (e k)))]] [(0, .ref h0), (1, .int (nI (c))), (2, .int (nI (s)))] 0 []
  refine g_iload_n 0 1 F dX9_at_0 rfl rfl 1 rfl ?_
  refine g_iload_n 1 2 F dX9_at_1 rfl rfl 2 rfl ?_
  refine g_callP 3 5 F (CallOk.SN (As := [.int (nI (c)), .int (nI (s))]) (rest := []) F 2 q457 q357 q49 q358 cd_X1_edgeAt rfl rfl (Nat.le_of_ble_eq_true rfl) (Nat.le_of_ble_eq_true rfl) dX9_at_2) (m_X1_edgeAt (kL K) X c s (by omega) (by omega)) rfl (Mr := [[(h0, ob 4 [.ref h1])], [(h1, iA X 60 (fun k => nI (e k)))]]) [] [0, 1] rfl 2 rfl (by decide +kernel) rfl rfl (rc_T) (Nat.le_of_ble_eq_true rfl) (c2 := 0) (s2 := 0) (Nat.zero_le _) (Nat.zero_le _) rfl rfl (st1 := [.int (edI c s)]) rfl ?_
  refine g_istore_n 5 6 F [(3, .int (edI c s)), (0, .ref h0), (1, .int (nI (c))), (2, .int (nI (s)))] dX9_at_5 rfl rfl (Nat.le_of_ble_eq_true rfl) rfl ?_
  refine g_iload_n 6 7 F dX9_at_6 rfl rfl 0 rfl ?_
  refine g_iconst 7 8 F (-1) dX9_at_7 rfl (by decide) ?_
  refine g_icmp_ne 8 11 15 F dX9_at_8 rfl (by decide) (fun c_1 => ?_) (fun c_1 => ?_)
  · refine g_aload_n 15 16 F dX9_at_15 rfl rfl 1 rfl ?_
    refine g_get 16 19 F (ci := 4) in_X9 rfl 0 (by decide) q749 (fun _ h => h) dX9_at_16 rfl 0 rfl (v := .ref h1) rfl ?_
    refine g_iload_n 19 20 F dX9_at_19 rfl rfl 0 rfl ?_
    refine g_top (v := nI (edD c s)) (edI_nI hc hs c_1) ?_
    refine g_iald 20 21 F dX9_at_20 rfl 1 (i := edD c s) rfl (Nat.le_of_ble_eq_true rfl) (edD_lt hc hs (edI_no hc hs c_1)) ?_
    refine g_top (v := nI (e (edD c s))) rfl ?_
    exact g_iret 21 F R dX9_at_21 (Nat.zero_le _) (Nat.zero_le _) (⟨congrArg (fun z => some (Value.int z)) (by first | rw [atN, if_pos ((edI_eq hc hs).mp c_1)] | rw [atN, if_neg (edI_no hc hs c_1)]), rfl⟩)
  · refine g_iconst 11 12 F (nI (2)) dX9_at_11 rfl (by decide) ?_
    refine g_goto 12 21 F dX9_at_12 (by decide) ?_
    exact g_iret 21 F R dX9_at_21 (Nat.zero_le _) (Nat.zero_le _) (⟨congrArg (fun z => some (Value.int z)) (by first | rw [atN, if_pos ((edI_eq hc hs).mp c_1)] | rw [atN, if_neg (edI_no hc hs c_1)]), rfl⟩)

set_option maxHeartbeats 4000000 in
theorem m_X9_of (l : Launch) (X : gk_X) (h0 h1 : Nat) (e : Nat → Nat) (k : Nat) (hk : k < 60) : CtP l X yX9_of cX9_of 2 (some .int) 1 0 0 [.ref h0, .int (nI (k))] [[(h0, ob 4 [.ref h1])], [(h1, iA X 60 (fun k => nI (e k)))]] (some (.int (nI (e k)))) := by
  unfold CtP
  refine Ct.of (by decide) (Nat.le_of_ble_eq_true rfl) "Bumpward$Plan" "of" rfl rfl (fun K F eL R => ?_)
  subst eL
  show G K X 2 0 0 [[(h0, ob 4 [.ref h1])], [(h1, iA X 60 (fun k => nI (e k)))]] [(0, .ref h0), (1, .int (nI (k)))] 0 []
  refine g_aload_n 0 1 F dX9_of_0 rfl rfl 0 rfl ?_
  refine g_get 1 4 F (ci := 4) in_X9 rfl 0 (by decide) q749 (fun _ h => h) dX9_of_1 rfl 0 rfl (v := .ref h1) rfl ?_
  refine g_iload_n 4 5 F dX9_of_4 rfl rfl 1 rfl ?_
  refine g_iald 5 6 F dX9_of_5 rfl 1 (i := k) rfl (Nat.le_of_ble_eq_true rfl) (by omega) ?_
  refine g_top (v := nI (e k)) rfl ?_
  exact g_iret 6 F R dX9_of_6 (Nat.zero_le _) (Nat.zero_le _) (⟨rfl, rfl⟩)

set_option maxHeartbeats 4000000 in
theorem m_X9_tell (l : Launch) (X : gk_X) (h0 h1 : Nat) (e : Nat → Nat) (c s : Nat) (b : Bool) (hc : c < 36) (hs : s < 4) : Ct l X yX9_tell cX9_tell 5 none 4 0 0 [.ref h0, .int (nI (c)), .int (nI (s)), .int (bI (b))] [[(h0, ob 4 [.ref h1])], [(h1, iA X 60 (fun k => nI (e k)))]] (fun v M' => v = none ∧ M' = [[(h0, ob 4 [.ref h1])], [(h1, iA X 60 (fun k => nI ((tlN e c s b) k)))]]) := by
  refine Ct.of (by decide) (Nat.le_of_ble_eq_true rfl) "Bumpward$Plan" "tell" rfl rfl (fun K F eL R => ?_)
  subst eL
  show G K X 5 0 0 [[(h0, ob 4 [.ref h1])], [(h1, iA X 60 (fun k => nI (e k)))]] [(0, .ref h0), (1, .int (nI (c))), (2, .int (nI (s))), (3, .int (bI (b)))] 0 []
  refine g_iload_n 0 1 F dX9_tell_0 rfl rfl 1 rfl ?_
  refine g_iload_n 1 2 F dX9_tell_1 rfl rfl 2 rfl ?_
  refine g_callP 3 5 F (CallOk.SN (As := [.int (nI (c)), .int (nI (s))]) (rest := []) F 2 q457 q357 q49 q358 cd_X1_edgeAt rfl rfl (Nat.le_of_ble_eq_true rfl) (Nat.le_of_ble_eq_true rfl) dX9_tell_2) (m_X1_edgeAt (kL K) X c s (by omega) (by omega)) rfl (Mr := [[(h0, ob 4 [.ref h1])], [(h1, iA X 60 (fun k => nI (e k)))]]) [] [0, 1] rfl 2 rfl (by decide +kernel) rfl rfl (rc_T) (Nat.le_of_ble_eq_true rfl) (c2 := 0) (s2 := 0) (Nat.zero_le _) (Nat.zero_le _) rfl rfl (st1 := [.int (edI c s)]) rfl ?_
  refine g_istore 5 7 F [(4, .int (edI c s)), (0, .ref h0), (1, .int (nI (c))), (2, .int (nI (s))), (3, .int (bI (b)))] dX9_tell_5 rfl (Nat.le_of_ble_eq_true rfl) rfl ?_
  refine g_iload 7 9 F dX9_tell_7 rfl 0 rfl ?_
  refine g_iconst 9 10 F (-1) dX9_tell_9 rfl (by decide) ?_
  refine g_icmp_eq 10 13 29 F dX9_tell_10 rfl (by decide) (fun c_1 => ?_) (fun c_1 => ?_)
  · exact g_vret 29 F R dX9_tell_29 (Nat.zero_le _) (Nat.zero_le _) (by first | exact ⟨rfl, rfl⟩ | exact ⟨rfl, by rw [tlN_out ((edI_eq hc hs).mp c_1)]⟩)
  · refine g_aload_n 13 14 F dX9_tell_13 rfl rfl 1 rfl ?_
    refine g_get 14 17 F (ci := 4) in_X9 rfl 0 (by decide) q749 (fun _ h => h) dX9_tell_14 rfl 0 rfl (v := .ref h1) rfl ?_
    refine g_iload 17 19 F dX9_tell_17 rfl 0 rfl ?_
    refine g_top (v := nI (edD c s)) (edI_nI hc hs c_1) ?_
    refine g_iload_n 19 20 F dX9_tell_19 rfl rfl 4 rfl ?_
    refine g_ifB_eq 20 23 27 F dX9_tell_20 rfl (by decide) (fun c_2 => ?_) (fun c_2 => ?_)
    · refine g_iconst 27 28 F (nI (1)) dX9_tell_27 rfl (by decide) ?_
      refine g_top (v := nI (if b = true then 2 else 1)) (by rw [c_2]; rfl) ?_
      refine g_iast 28 29 F dX9_tell_28 rfl 1 (i := edD c s) rfl (Nat.le_of_ble_eq_true rfl) (edD_lt hc hs (edI_no hc hs c_1)) (f' := fun k => nI ((tlN e c s b) k)) (tlN_upd b (edI_no hc hs c_1)) (M' := [[(h0, ob 4 [.ref h1])], [(h1, iA X 60 (fun k => nI ((tlN e c s b) k)))]]) rfl ?_
      exact g_vret 29 F R dX9_tell_29 (Nat.zero_le _) (Nat.zero_le _) (by first | exact ⟨rfl, rfl⟩ | exact ⟨rfl, by rw [tlN_out ((edI_eq hc hs).mp c_1)]⟩)
    · refine g_iconst 23 24 F (nI (2)) dX9_tell_23 rfl (by decide) ?_
      refine g_goto 24 28 F dX9_tell_24 (by decide) ?_
      refine g_top (v := nI (if b = true then 2 else 1)) (by rw [c_2]; rfl) ?_
      refine g_iast 28 29 F dX9_tell_28 rfl 1 (i := edD c s) rfl (Nat.le_of_ble_eq_true rfl) (edD_lt hc hs (edI_no hc hs c_1)) (f' := fun k => nI ((tlN e c s b) k)) (tlN_upd b (edI_no hc hs c_1)) (M' := [[(h0, ob 4 [.ref h1])], [(h1, iA X 60 (fun k => nI ((tlN e c s b) k)))]]) rfl ?_
      exact g_vret 29 F R dX9_tell_29 (Nat.zero_le _) (Nat.zero_le _) (by first | exact ⟨rfl, rfl⟩ | exact ⟨rfl, by rw [tlN_out ((edI_eq hc hs).mp c_1)]⟩)

set_option maxHeartbeats 4000000 in
theorem m_X9_count (l : Launch) (X : gk_X) (h0 h1 : Nat) (e : Nat → Nat) (w : Nat) (he : ∀ k, k < 60 → e k < 3) (hw : w < 3) : CtP l X yX9_count cX9_count 7 (some .int) 2 0 0 [.ref h0, .int (nI (w))] [[(h0, ob 4 [.ref h1])], [(h1, iA X 60 (fun k => nI (e k)))]] (some (.int (nI (cnt (fun j => decide (e j = w)) 60)))) := by
  unfold CtP
  refine Ct.of (by decide) (Nat.le_of_ble_eq_true rfl) "Bumpward$Plan" "count" rfl rfl (fun K F eL R => ?_)
  subst eL
  show G K X 7 0 0 [[(h0, ob 4 [.ref h1])], [(h1, iA X 60 (fun k => nI (e k)))]] [(0, .ref h0), (1, .int (nI (w)))] 0 []
  refine g_iconst 0 1 F (nI (0)) dX9_count_0 rfl (by decide) ?_
  refine g_istore_n 1 2 F [(2, .int (nI (0))), (0, .ref h0), (1, .int (nI (w)))] dX9_count_1 rfl rfl (Nat.le_of_ble_eq_true rfl) rfl ?_
  refine g_aload_n 2 3 F dX9_count_2 rfl rfl 1 rfl ?_
  refine g_get 3 6 F (ci := 4) in_X9 rfl 0 (by decide) q749 (fun _ h => h) dX9_count_3 rfl 0 rfl (v := .ref h1) rfl ?_
  refine g_astore_n 6 7 F [(3, .ref h1), (2, .int (nI (0))), (0, .ref h0), (1, .int (nI (w)))] dX9_count_6 rfl rfl (Nat.le_of_ble_eq_true rfl) rfl ?_
  refine g_aload_n 7 8 F dX9_count_7 rfl rfl 0 rfl ?_
  refine g_alen 8 9 F dX9_count_8 rfl 1 1 rfl rfl (n := 60) rfl ?_
  refine g_istore 9 11 F [(4, .int (nI (60))), (3, .ref h1), (2, .int (nI (0))), (0, .ref h0), (1, .int (nI (w)))] dX9_count_9 rfl (Nat.le_of_ble_eq_true rfl) rfl ?_
  refine g_iconst 11 12 F (nI (0)) dX9_count_11 rfl (by decide) ?_
  refine g_istore 12 14 F [(5, .int (nI (0))), (4, .int (nI (60))), (3, .ref h1), (2, .int (nI (0))), (0, .ref h0), (1, .int (nI (w)))] dX9_count_12 rfl (Nat.le_of_ble_eq_true rfl) rfl ?_
  refine g_ls [(0, .ref h0), (1, .int (nI (w))), (2, .int (nI (cnt (fun j => decide (e j = w)) 0))), (3, .ref h1), (4, .int (nI (60))), (5, .int (nI (0)))] [4, 5, 3, 2, 1, 0] (rfl) ?_
  refine g_down (P := fun i => G K X 7 0 0 [[(h0, ob 4 [.ref h1])], [(h1, iA X 60 (fun k => nI (e k)))]] [(0, .ref h0), (1, .int (nI (w))), (2, .int (nI (cnt (fun j => decide (e j = w)) i))), (3, .ref h1), (4, .int (nI (60))), (5, .int (nI (i)))] 14 []) 60 0 (by omega) ?_ (fun i hl_i hi_i ih_i => ?_)
  · show G K X 7 0 0 [[(h0, ob 4 [.ref h1])], [(h1, iA X 60 (fun k => nI (e k)))]] [(0, .ref h0), (1, .int (nI (w))), (2, .int (nI (cnt (fun j => decide (e j = w)) 60))), (3, .ref h1), (4, .int (nI (60))), (5, .int (nI (60)))] 14 []
    refine g_iload 14 16 F dX9_count_14 rfl 5 rfl ?_
    refine g_iload 16 18 F dX9_count_16 rfl 4 rfl ?_
    refine g_icmpN_ge 18 21 50 F dX9_count_18 rfl (by decide) (by omega) (by omega) (fun c_1 => ?_) (fun c_1 => ?_)
    · refine g_iload_n 50 51 F dX9_count_50 rfl rfl 2 rfl ?_
      exact g_iret 51 F R dX9_count_51 (Nat.zero_le _) (Nat.zero_le _) (⟨rfl, rfl⟩)
    · exact absurd c_1 (by omega)
  · show G K X 7 0 0 [[(h0, ob 4 [.ref h1])], [(h1, iA X 60 (fun k => nI (e k)))]] [(0, .ref h0), (1, .int (nI (w))), (2, .int (nI (cnt (fun j => decide (e j = w)) i))), (3, .ref h1), (4, .int (nI (60))), (5, .int (nI (i)))] 14 []
    have he_i := he i hi_i
    refine g_iload 14 16 F dX9_count_14 rfl 5 rfl ?_
    refine g_iload 16 18 F dX9_count_16 rfl 4 rfl ?_
    refine g_icmpN_ge 18 21 50 F dX9_count_18 rfl (by decide) (by omega) (by omega) (fun c_2 => ?_) (fun c_2 => ?_)
    · exact absurd c_2 (by omega)
    · refine g_aload_n 21 22 F dX9_count_21 rfl rfl 3 rfl ?_
      refine g_iload 22 24 F dX9_count_22 rfl 5 rfl ?_
      refine g_iald 24 25 F dX9_count_24 rfl 1 (i := i) rfl (Nat.le_of_ble_eq_true rfl) (by omega) ?_
      refine g_top (v := nI (e i)) rfl ?_
      refine g_istore 25 27 F [(6, .int (nI (e i))), (0, .ref h0), (1, .int (nI (w))), (2, .int (nI (cnt (fun j => decide (e j = w)) i))), (3, .ref h1), (4, .int (nI (60))), (5, .int (nI (i)))] dX9_count_25 rfl (Nat.le_of_ble_eq_true rfl) rfl ?_
      refine g_iload_n 27 28 F dX9_count_27 rfl rfl 3 rfl ?_
      refine g_iload 28 30 F dX9_count_28 rfl 0 rfl ?_
      refine g_iload_n 30 31 F dX9_count_30 rfl rfl 2 rfl ?_
      refine g_diaN_ne 31 38 39 F dX9_count_31 (by decide) dX9_count_34 dX9_count_35 (by decide) dX9_count_38 rfl (by omega) (by omega) ?_
      refine g_callP 3 42 F (CallOk.SN (As := [.int (bI (decide ((e i) = w)))]) (rest := [.int (nI (cnt (fun j => decide (e j = w)) i))]) F 1 q298 q292 q49 q293 cd_X1_one rfl rfl (Nat.le_of_ble_eq_true rfl) (Nat.le_of_ble_eq_true rfl) dX9_count_39) (m_X1_one (kL K) X (decide ((e i) = w)) ) rfl (Mr := [[(h0, ob 4 [.ref h1])], [(h1, iA X 60 (fun k => nI (e k)))]]) [] [0, 1] rfl 2 rfl (by decide +kernel) rfl rfl (rc_T) (Nat.le_of_ble_eq_true rfl) (c2 := 0) (s2 := 0) (Nat.zero_le _) (Nat.zero_le _) rfl rfl (st1 := [.int (bI (decide ((e i) = w))), .int (nI (cnt (fun j => decide (e j = w)) i))]) rfl ?_
      refine g_iadd 42 43 F (v := nI (cnt (fun j => decide (e j = w)) i + (bN (decide ((e i) = w))))) dX9_count_42 rfl (nI_addB _ _) ?_
      refine g_istore_n 43 44 F [(2, .int (nI (cnt (fun j => decide (e j = w)) i + (bN (decide ((e i) = w)))))), (6, .int (nI (e i))), (0, .ref h0), (1, .int (nI (w))), (3, .ref h1), (4, .int (nI (60))), (5, .int (nI (i)))] dX9_count_43 rfl rfl (Nat.le_of_ble_eq_true rfl) rfl ?_
      refine g_iinc 44 47 F (v := nI (i + 1)) [(5, .int (nI (i + 1))), (2, .int (nI (cnt (fun j => decide (e j = w)) i + (bN (decide ((e i) = w)))))), (6, .int (nI (e i))), (0, .ref h0), (1, .int (nI (w))), (3, .ref h1), (4, .int (nI (60)))] dX9_count_44 rfl 6 rfl (nI_add _ _) (Nat.le_of_ble_eq_true rfl) rfl ?_
      refine g_goto 47 14 F dX9_count_47 (by decide) ?_
      refine g_ls [(0, .ref h0), (1, .int (nI (w))), (2, .int (nI (cnt (fun j => decide (e j = w)) (i + 1)))), (3, .ref h1), (4, .int (nI (60))), (5, .int (nI (i + 1)))] [3, 4, 1, 5, 6, 0] (rfl) ?_
      exact ih_i

set_option maxHeartbeats 4000000 in
theorem m_X9_canBe (l : Launch) (X : gk_X) (h0 h1 : Nat) (e : Nat → Nat) (c s : Nat) (b : Bool) (he : ∀ k, k < 60 → e k < 3) (hc : c < 36) (hs : s < 4) : CtP l X yX9_canBe cX9_canBe 4 (some .boolean) 5 0 0 [.ref h0, .int (nI (c)), .int (nI (s)), .int (bI (b))] [[(h0, ob 4 [.ref h1])], [(h1, iA X 60 (fun k => nI (e k)))]] (some (.int (bI (cbB e c s b)))) := by
  unfold CtP
  refine Ct.of (by decide) (Nat.le_of_ble_eq_true rfl) "Bumpward$Plan" "canBe" rfl rfl (fun K F eL R => ?_)
  subst eL
  show G K X 4 0 0 [[(h0, ob 4 [.ref h1])], [(h1, iA X 60 (fun k => nI (e k)))]] [(0, .ref h0), (1, .int (nI (c))), (2, .int (nI (s))), (3, .int (bI (b)))] 0 []
  have hat := atN_lt he hc hs
  refine g_aload_n 0 1 F dX9_canBe_0 rfl rfl 0 rfl ?_
  refine g_iload_n 1 2 F dX9_canBe_1 rfl rfl 1 rfl ?_
  refine g_iload_n 2 3 F dX9_canBe_2 rfl rfl 2 rfl ?_
  refine g_callP 3 6 F (CallOk.V (C := "Bumpward$Plan") (b := h0) (As := [.int (nI (c)), .int (nI (s))]) (rest := []) F 2 q453 q454 q455 q72 q456 cdV_X9_at rfl rfl (Nat.le_of_ble_eq_true rfl) (Nat.le_of_ble_eq_true rfl) dX9_canBe_3) (m_X9_at (kL K) X h0 h1 e c s (by omega) (by omega)) rfl (Mr := []) [0, 1] [] rfl 2 rfl (by decide +kernel) rfl rfl (rc_of F 0 4 rfl rfl) (Nat.le_of_ble_eq_true rfl) (c2 := 0) (s2 := 0) (Nat.zero_le _) (Nat.zero_le _) rfl rfl (st1 := [.int (nI (atN e c s))]) rfl ?_
  refine g_iload_n 6 7 F dX9_canBe_6 rfl rfl 3 rfl ?_
  refine g_ifB_eq 7 10 14 F dX9_canBe_7 rfl (by decide) (fun c_1 => ?_) (fun c_1 => ?_)
  · refine g_iconst 14 15 F (nI (2)) dX9_canBe_14 rfl (by decide) ?_
    refine g_diaN_eq 15 22 23 F dX9_canBe_15 (by decide) dX9_canBe_18 dX9_canBe_19 (by decide) dX9_canBe_22 rfl (by omega) (by omega) ?_
    exact g_bret 23 F R dX9_canBe_23 (Nat.zero_le _) (Nat.zero_le _) (⟨congrArg (fun z => some (Value.int z)) (by rw [cbB, c_1]; rfl), rfl⟩)
  · refine g_iconst 10 11 F (nI (1)) dX9_canBe_10 rfl (by decide) ?_
    refine g_goto 11 15 F dX9_canBe_11 (by decide) ?_
    refine g_diaN_eq 15 22 23 F dX9_canBe_15 (by decide) dX9_canBe_18 dX9_canBe_19 (by decide) dX9_canBe_22 rfl (by omega) (by omega) ?_
    exact g_bret 23 F R dX9_canBe_23 (Nat.zero_le _) (Nat.zero_le _) (⟨congrArg (fun z => some (Value.int z)) (by rw [cbB, c_1]; rfl), rfl⟩)

set_option maxHeartbeats 4000000 in
theorem m_X9_isOpenEnded (l : Launch) (X : gk_X) (h0 h1 : Nat) (e : Nat → Nat) (c : Nat) (he : ∀ k, k < 60 → e k < 3) (hc : c < 36) : CtP l X yX9_isOpenEnded cX9_isOpenEnded 3 (some .boolean) 5 0 0 [.ref h0, .int (nI (c))] [[(h0, ob 4 [.ref h1])], [(h1, iA X 60 (fun k => nI (e k)))]] (some (.int (bI (oeN e c 4)))) := by
  unfold CtP
  refine Ct.of (by decide) (Nat.le_of_ble_eq_true rfl) "Bumpward$Plan" "isOpenEnded" rfl rfl (fun K F eL R => ?_)
  subst eL
  show G K X 3 0 0 [[(h0, ob 4 [.ref h1])], [(h1, iA X 60 (fun k => nI (e k)))]] [(0, .ref h0), (1, .int (nI (c)))] 0 []
  refine g_iconst 0 1 F (nI (0)) dX9_isOpenEnded_0 rfl (by decide) ?_
  refine g_istore_n 1 2 F [(2, .int (nI (0))), (0, .ref h0), (1, .int (nI (c)))] dX9_isOpenEnded_1 rfl rfl (Nat.le_of_ble_eq_true rfl) rfl ?_
  refine g_ls [(0, .ref h0), (1, .int (nI (c))), (2, .int (nI (0)))] [1, 2, 0] (rfl) ?_
  refine (g_down (P := fun i => (oeN e c i = false) → G K X 3 0 0 [[(h0, ob 4 [.ref h1])], [(h1, iA X 60 (fun k => nI (e k)))]] [(0, .ref h0), (1, .int (nI (c))), (2, .int (nI (i)))] 2 []) 4 0 (by omega) ?_ (fun i hl_i hi_i ih_i => ?_)) (rfl)
  · intro iv_i
    show G K X 3 0 0 [[(h0, ob 4 [.ref h1])], [(h1, iA X 60 (fun k => nI (e k)))]] [(0, .ref h0), (1, .int (nI (c))), (2, .int (nI (4)))] 2 []
    refine g_iload_n 2 3 F dX9_isOpenEnded_2 rfl rfl 2 rfl ?_
    refine g_iconst 3 4 F (nI (4)) dX9_isOpenEnded_3 rfl (by decide) ?_
    refine g_icmpN_ge 4 7 24 F dX9_isOpenEnded_4 rfl (by decide) (by omega) (by omega) (fun c_1 => ?_) (fun c_1 => ?_)
    · refine g_iconst 24 25 F (nI (0)) dX9_isOpenEnded_24 rfl (by decide) ?_
      exact g_zret 25 F R dX9_isOpenEnded_25 (Nat.zero_le _) (Nat.zero_le _) (by decide) (⟨congrArg (fun z => some (Value.int z)) (by first | (rw [iv_i]; rfl) | (rw [oeN_hit c_3 (by omega)]; rfl)), rfl⟩)
    · exact absurd c_1 (by omega)
  · intro iv_i
    show G K X 3 0 0 [[(h0, ob 4 [.ref h1])], [(h1, iA X 60 (fun k => nI (e k)))]] [(0, .ref h0), (1, .int (nI (c))), (2, .int (nI (i)))] 2 []
    have hat := atN_lt he hc hi_i
    refine g_iload_n 2 3 F dX9_isOpenEnded_2 rfl rfl 2 rfl ?_
    refine g_iconst 3 4 F (nI (4)) dX9_isOpenEnded_3 rfl (by decide) ?_
    refine g_icmpN_ge 4 7 24 F dX9_isOpenEnded_4 rfl (by decide) (by omega) (by omega) (fun c_2 => ?_) (fun c_2 => ?_)
    · exact absurd c_2 (by omega)
    · refine g_aload_n 7 8 F dX9_isOpenEnded_7 rfl rfl 0 rfl ?_
      refine g_iload_n 8 9 F dX9_isOpenEnded_8 rfl rfl 1 rfl ?_
      refine g_iload_n 9 10 F dX9_isOpenEnded_9 rfl rfl 2 rfl ?_
      refine g_callP 3 13 F (CallOk.V (C := "Bumpward$Plan") (b := h0) (As := [.int (nI (c)), .int (nI (i))]) (rest := []) F 2 q453 q454 q455 q72 q456 cdV_X9_at rfl rfl (Nat.le_of_ble_eq_true rfl) (Nat.le_of_ble_eq_true rfl) dX9_isOpenEnded_10) (m_X9_at (kL K) X h0 h1 e c i (by omega) (by omega)) rfl (Mr := []) [0, 1] [] rfl 2 rfl (by decide +kernel) rfl rfl (rc_of F 0 4 rfl rfl) (Nat.le_of_ble_eq_true rfl) (c2 := 0) (s2 := 0) (Nat.zero_le _) (Nat.zero_le _) rfl rfl (st1 := [.int (nI (atN e c i))]) rfl ?_
      refine g_ifN_ne 13 16 18 F dX9_isOpenEnded_13 rfl (by decide) (by omega) (fun c_3 => ?_) (fun c_3 => ?_)
      · refine g_iinc 18 21 F (v := nI (i + 1)) [(2, .int (nI (i + 1))), (0, .ref h0), (1, .int (nI (c)))] dX9_isOpenEnded_18 rfl 2 rfl (nI_add _ _) (Nat.le_of_ble_eq_true rfl) rfl ?_
        refine g_goto 21 2 F dX9_isOpenEnded_21 (by decide) ?_
        refine g_ls [(0, .ref h0), (1, .int (nI (c))), (2, .int (nI (i + 1)))] [1, 2, 0] (rfl) ?_
        exact ih_i (by simp only [oeN, iv_i, Bool.false_or]; exact decide_eq_false c_3)
      · refine g_iconst 16 17 F (nI (1)) dX9_isOpenEnded_16 rfl (by decide) ?_
        exact g_zret 17 F R dX9_isOpenEnded_17 (Nat.zero_le _) (Nat.zero_le _) (by decide) (⟨congrArg (fun z => some (Value.int z)) (by first | (rw [iv_i]; rfl) | (rw [oeN_hit c_3 (by omega)]; rfl)), rfl⟩)
