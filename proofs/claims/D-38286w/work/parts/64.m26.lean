/-! Bumpward: of a walker -/
theorem cdV_X1_known : yX1_known.cls = "Bumpward" ∧ yX1_known.cls ≠ "java/lang/invoke/MethodHandle" ∧ yX1_known.cls ≠ "java/lang/invoke/VarHandle" ∧ (parseMethodDescriptor yX1_known.desc).map (fun d => d.parameters.length) = some 2 := by decide +kernel
theorem cdV_X8_goal : yX8_goal.cls = "Bumpward$Walker" ∧ yX8_goal.cls ≠ "java/lang/invoke/MethodHandle" ∧ yX8_goal.cls ≠ "java/lang/invoke/VarHandle" ∧ (parseMethodDescriptor yX8_goal.desc).map (fun d => d.parameters.length) = some 0 := by decide +kernel
theorem cdV_X8_isSafe : yX8_isSafe.cls = "Bumpward$Walker" ∧ yX8_isSafe.cls ≠ "java/lang/invoke/MethodHandle" ∧ yX8_isSafe.cls ≠ "java/lang/invoke/VarHandle" ∧ (parseMethodDescriptor yX8_isSafe.desc).map (fun d => d.parameters.length) = some 0 := by decide +kernel
theorem cdV_X9_count : yX9_count.cls = "Bumpward$Plan" ∧ yX9_count.cls ≠ "java/lang/invoke/MethodHandle" ∧ yX9_count.cls ≠ "java/lang/invoke/VarHandle" ∧ (parseMethodDescriptor yX9_count.desc).map (fun d => d.parameters.length) = some 1 := by decide +kernel
set_option maxHeartbeats 4000000 in
theorem m_X1_walkerOf (l : Launch) (X : gk_X) (bo ea cx bx wl dw pt : Nat) (mi mt dp : Int32) (dg : Int64) (ar n : Nat) (lm : Int32) (wa : Nat → ck_A) (wd : Nat → wk_D) (x : Int32) (hn : n ≤ 10) : CtX l X yX1_walkerOf cX1_walkerOf 2 (some (.object "Bumpward$Walker")) 9 1 6 [.ref bo, .int (x)] [[(bo, ob 0 [.ref ea, .ref cx, .ref bx, .ref wl, .ref dw, .ref pt, .int (mi), .int (mt), .int (dp), .long (dg)])], [(wl, ob 10 [.int (lm), .ref ar, .int (nI (n))])], laW X n ar (fun j => (wa j).1), poolW n (fun j => cwC X (wa j) j (wd j))] (fun v M' => ∃ i, i < n ∧ x = nI i ∧ v = some (.ref ((wa i).1)) ∧ M' = [[(bo, ob 0 [.ref ea, .ref cx, .ref bx, .ref wl, .ref dw, .ref pt, .int (mi), .int (mt), .int (dp), .long (dg)])], [(wl, ob 10 [.int (lm), .ref ar, .int (nI (n))])], laW X n ar (fun j => (wa j).1), poolW n (fun j => cwC X (wa j) j (wd j))]) (fun E M' => E = "java/lang/IndexOutOfBoundsException" ∧ noW x n = true ∧ M' = [[(bo, ob 0 [.ref ea, .ref cx, .ref bx, .ref wl, .ref dw, .ref pt, .int (mi), .int (mt), .int (dp), .long (dg)])], [(wl, ob 10 [.int (lm), .ref ar, .int (nI (n))])], laW X n ar (fun j => (wa j).1), poolW n (fun j => cwC X (wa j) j (wd j))]) := by
  refine CtX.of (by decide) (Nat.le_of_ble_eq_true rfl) "Bumpward" "walkerOf" rfl rfl (fun K F eL R RX => ?_)
  subst eL
  show G K X 2 0 0 [[(bo, ob 0 [.ref ea, .ref cx, .ref bx, .ref wl, .ref dw, .ref pt, .int (mi), .int (mt), .int (dp), .long (dg)])], [(wl, ob 10 [.int (lm), .ref ar, .int (nI (n))])], laW X n ar (fun j => (wa j).1), poolW n (fun j => cwC X (wa j) j (wd j))] [(0, .ref bo), (1, .int (x))] 0 []
  refine g_aload_n 0 1 F dX1_walkerOf_0 rfl rfl 0 rfl ?_
  refine g_get 1 4 F (ci := 0) in_X1 rfl 3 (by decide) q169 (fun _ h => h) dX1_walkerOf_1 rfl 0 rfl (v := .ref wl) rfl ?_
  refine g_iload_n 4 5 F dX1_walkerOf_4 rfl rfl 1 rfl ?_
  refine g_aload_n 5 6 F dX1_walkerOf_5 rfl rfl 0 rfl ?_
  refine g_get 6 9 F (ci := 0) in_X1 rfl 3 (by decide) q169 (fun _ h => h) dX1_walkerOf_6 rfl 0 rfl (v := .ref wl) rfl ?_
  refine g_callP 3 12 F (CallOk.V (C := "java/util/ArrayList") (b := wl) (As := []) (rest := [.int (x), .ref wl]) F 0 q331 q332 q333 q52 q334 cdV_J2_size rfl rfl (Nat.le_of_ble_eq_true rfl) (Nat.le_of_ble_eq_true rfl) dX1_walkerOf_9) (m_J2_size (kL K) X wl n lm (.ref ar) ) rfl (Mr := [[(bo, ob 0 [.ref ea, .ref cx, .ref bx, .ref wl, .ref dw, .ref pt, .int (mi), .int (mt), .int (dp), .long (dg)])], laW X n ar (fun j => (wa j).1), poolW n (fun j => cwC X (wa j) j (wd j))]) [1] [0, 2, 3] rfl 4 rfl (by decide +kernel) rfl rfl (rc_of F 1 10 rfl rfl) (Nat.le_of_ble_eq_true rfl) (c2 := 0) (s2 := 0) (Nat.zero_le _) (Nat.zero_le _) rfl rfl (st1 := [.int (nI (n)), .int (x), .ref wl]) rfl ?_
  refine g_ldcS 12 14 F (tx := "walker") (c := 14) (by simp [gl_tx]) dX1_walkerOf_12 rfl ?_
  refine g_callX 17 F (CallOkX.S (As := [.int (x), .int (nI (n)), .ref (X.2.2 14)]) (rest := [.ref wl]) F 3 q633 q634 q49 q635 cd_X1_index rfl rfl (Nat.le_of_ble_eq_true rfl) (Nat.le_of_ble_eq_true rfl) dX1_walkerOf_14) (m_X1_index (kL K) X x n (X.2.2 14) ) rfl (Mr := [[(bo, ob 0 [.ref ea, .ref cx, .ref bx, .ref wl, .ref dw, .ref pt, .int (mi), .int (mt), .int (dp), .long (dg)])], [(wl, ob 10 [.int (lm), .ref ar, .int (nI (n))])], laW X n ar (fun j => (wa j).1), poolW n (fun j => cwC X (wa j) j (wd j))]) [] [0, 1, 2, 3] rfl rfl rfl (rc_T) (Nat.le_of_ble_eq_true rfl) (c2 := 1) (s2 := 6) (Nat.le_refl _) (Nat.le_refl _) rfl rfl (fun E M1 hp => ?_) (fun v M1 hp => ?_)
  · obtain ⟨rfl, hxx, rfl⟩ := hp
    exact gx_out F RX (Nat.le_refl _) (Nat.le_refl _) (⟨rfl, by rw [← nx_W hn]; exact hxx, rfl⟩)
  · obtain ⟨hx_1, rfl, rfl⟩ := hp
    obtain ⟨i, hi, rfl⟩ := noW_ok hn (by rw [← nx_W hn]; exact hx_1)
    show G K X 2 1 6 [[(bo, ob 0 [.ref ea, .ref cx, .ref bx, .ref wl, .ref dw, .ref pt, .int (mi), .int (mt), .int (dp), .long (dg)])], [(wl, ob 10 [.int (lm), .ref ar, .int (nI (n))])], laW X n ar (fun j => (wa j).1), poolW n (fun j => cwC X (wa j) j (wd j))] [(0, .ref bo), (1, .int (nI (i)))] 17 [.int (nI (i)), .ref wl]
    rw [laW_pos (X := X) (ar := ar) (wa := (fun j => (wa j).1)) hi]
    show G K X 2 1 6 [[(bo, ob 0 [.ref ea, .ref cx, .ref bx, .ref wl, .ref dw, .ref pt, .int (mi), .int (mt), .int (dp), .long (dg)])], [(wl, ob 10 [.int (lm), .ref ar, .int (nI (n))])], [(ar, oA X 4 10 (wlF n (fun j => (wa j).1)))], poolW n (fun j => cwC X (wa j) j (wd j))] [(0, .ref bo), (1, .int (nI (i)))] 17 [.int (nI (i)), .ref wl]
    refine g_callP 3 20 F (CallOk.V (C := "java/util/ArrayList") (b := wl) (As := [.int (nI (i))]) (rest := []) F 1 q873 q874 q875 q52 q876 cdV_J2_get rfl rfl (Nat.le_of_ble_eq_true rfl) (Nat.le_of_ble_eq_true rfl) dX1_walkerOf_17) (m_J2_get (kL K) X wl ar n i ((wa i).1) lm (wlF n (fun j => (wa j).1)) hi hn (wlF_at hi)) rfl (Mr := [[(bo, ob 0 [.ref ea, .ref cx, .ref bx, .ref wl, .ref dw, .ref pt, .int (mi), .int (mt), .int (dp), .long (dg)])], poolW n (fun j => cwC X (wa j) j (wd j))]) [1, 2] [0, 3] rfl 4 rfl (by decide +kernel) rfl rfl (rc_of F 1 10 rfl rfl) (Nat.le_of_ble_eq_true rfl) (c2 := 1) (s2 := 6) (Nat.le_refl _) (Nat.le_refl _) rfl rfl (st1 := [.ref ((wa i).1)]) rfl ?_
    refine g_cast 20 23 F (ci := 6) rfl q259 dX1_walkerOf_20 rfl (fl_mem (bi := 3) rfl (mem_ck hi)) ?_
    rw [← laW_pos (X := X) (ar := ar) (wa := (fun j => (wa j).1)) hi]
    exact g_aret 23 F R dX1_walkerOf_23 (Nat.le_refl _) (Nat.le_refl _) (Or.inl ⟨_, rfl⟩) (⟨i, hi, rfl, rfl, rfl⟩)

set_option maxHeartbeats 4000000 in
theorem m_X1_checkAct (l : Launch) (X : gk_X) (bo ea cx bx wl dw pt : Nat) (mi mt dp : Int32) (dg : Int64) (w h0 h1 b0 b1 nu ho po : Nat) (ch lo ac bu sl : Int32) (e : Nat → Nat) (f : Nat → Bool) (b : Bool) (he : ∀ k, k < 60 → e k < 3) (hho : ho < 36) (hpo : po < 144) : CtX l X yX1_checkAct cX1_checkAct 3 none 10 5 150 [.ref bo, .ref w, .int (bI (b))] [[(bo, ob 0 [.ref ea, .ref cx, .ref bx, .ref wl, .ref dw, .ref pt, .int (mi), .int (mt), .int (dp), .long (dg)])], [(w, ob 6 [.int (nI (nu)), .int (nI (ho)), .ref h0, .int (nI (po)), .int (ch), .ref b0, .int (lo), .int (ac), .int (bu), .int (sl)])], [(h0, ob 4 [.ref h1])], [(h1, iA X 60 (fun k => nI (e k)))], [(b0, ob 5 [.ref b1])], [(b1, zA X 144 (f))]] (fun v M' => (!caB e f ho ch b mi) = false ∧ v = none ∧ M' = [[(bo, ob 0 [.ref ea, .ref cx, .ref bx, .ref wl, .ref dw, .ref pt, .int (mi), .int (mt), .int (dp), .long (dg)])], [(w, ob 6 [.int (nI (nu)), .int (nI (ho)), .ref h0, .int (nI (po)), .int (ch), .ref b0, .int (lo), .int (ac), .int (bu), .int (sl)])], [(h0, ob 4 [.ref h1])], [(h1, iA X 60 (fun k => nI (e k)))], [(b0, ob 5 [.ref b1])], [(b1, zA X 144 (f))]]) (fun E M' => E = "java/lang/IllegalStateException" ∧ (!caB e f ho ch b mi) = true ∧ M' = [[(bo, ob 0 [.ref ea, .ref cx, .ref bx, .ref wl, .ref dw, .ref pt, .int (mi), .int (mt), .int (dp), .long (dg)])], [(w, ob 6 [.int (nI (nu)), .int (nI (ho)), .ref h0, .int (nI (po)), .int (ch), .ref b0, .int (lo), .int (ac), .int (bu), .int (sl)])], [(h0, ob 4 [.ref h1])], [(h1, iA X 60 (fun k => nI (e k)))], [(b0, ob 5 [.ref b1])], [(b1, zA X 144 (f))]]) := by
  refine CtX.of (by decide) (Nat.le_of_ble_eq_true rfl) "Bumpward" "checkAct" rfl rfl (fun K F eL R RX => ?_)
  subst eL
  show G K X 3 0 0 [[(bo, ob 0 [.ref ea, .ref cx, .ref bx, .ref wl, .ref dw, .ref pt, .int (mi), .int (mt), .int (dp), .long (dg)])], [(w, ob 6 [.int (nI (nu)), .int (nI (ho)), .ref h0, .int (nI (po)), .int (ch), .ref b0, .int (lo), .int (ac), .int (bu), .int (sl)])], [(h0, ob 4 [.ref h1])], [(h1, iA X 60 (fun k => nI (e k)))], [(b0, ob 5 [.ref b1])], [(b1, zA X 144 (f))]] [(0, .ref bo), (1, .ref w), (2, .int (bI (b)))] 0 []
  have J_1 : G K X 3 4 144 [[(bo, ob 0 [.ref ea, .ref cx, .ref bx, .ref wl, .ref dw, .ref pt, .int (mi), .int (mt), .int (dp), .long (dg)])], [(w, ob 6 [.int (nI (nu)), .int (nI (ho)), .ref h0, .int (nI (po)), .int (ch), .ref b0, .int (lo), .int (ac), .int (bu), .int (sl)])], [(h0, ob 4 [.ref h1])], [(h1, iA X 60 (fun k => nI (e k)))], [(b0, ob 5 [.ref b1])], [(b1, zA X 144 (f))]] [(0, .ref bo), (1, .ref w), (2, .int (bI (b)))] 33 [.int (bI (caB e f ho ch b mi))] := by
    refine g_ldcS 33 35 F (tx := "act") (c := 16) (by simp [gl_tx]) dX1_checkAct_33 rfl ?_
    refine g_callX 38 F (CallOkX.S (As := [.int (bI (caB e f ho ch b mi)), .ref (X.2.2 16)]) (rest := []) F 2 q721 q722 q49 q723 cd_X1_state rfl rfl (Nat.le_of_ble_eq_true rfl) (Nat.le_of_ble_eq_true rfl) dX1_checkAct_35) (m_X1_state (kL K) X (caB e f ho ch b mi) (X.2.2 16) ) rfl (Mr := [[(bo, ob 0 [.ref ea, .ref cx, .ref bx, .ref wl, .ref dw, .ref pt, .int (mi), .int (mt), .int (dp), .long (dg)])], [(w, ob 6 [.int (nI (nu)), .int (nI (ho)), .ref h0, .int (nI (po)), .int (ch), .ref b0, .int (lo), .int (ac), .int (bu), .int (sl)])], [(h0, ob 4 [.ref h1])], [(h1, iA X 60 (fun k => nI (e k)))], [(b0, ob 5 [.ref b1])], [(b1, zA X 144 (f))]]) [] [0, 1, 2, 3, 4, 5] rfl rfl rfl (rc_T) (Nat.le_of_ble_eq_true rfl) (c2 := 5) (s2 := 150) (Nat.le_refl _) (Nat.le_refl _) rfl rfl (fun E M1 hp => ?_) (fun v M1 hp => ?_)
    · obtain ⟨rfl, hxx, rfl⟩ := hp
      exact gx_out F RX (Nat.le_refl _) (Nat.le_refl _) (⟨rfl, hxx, rfl⟩)
    · obtain ⟨hx_2, rfl, rfl⟩ := hp
      show G K X 3 5 150 [[(bo, ob 0 [.ref ea, .ref cx, .ref bx, .ref wl, .ref dw, .ref pt, .int (mi), .int (mt), .int (dp), .long (dg)])], [(w, ob 6 [.int (nI (nu)), .int (nI (ho)), .ref h0, .int (nI (po)), .int (ch), .ref b0, .int (lo), .int (ac), .int (bu), .int (sl)])], [(h0, ob 4 [.ref h1])], [(h1, iA X 60 (fun k => nI (e k)))], [(b0, ob 5 [.ref b1])], [(b1, zA X 144 (f))]] [(0, .ref bo), (1, .ref w), (2, .int (bI (b)))] 38 []
      exact g_vret 38 F R dX1_checkAct_38 (Nat.le_refl _) (Nat.le_refl _) (⟨hx_2, rfl, rfl⟩)
  refine g_aload_n 0 1 F dX1_checkAct_0 rfl rfl 1 rfl ?_
  refine g_get 1 4 F (ci := 6) in_X8 rfl 4 (by decide) q768 (fun _ h => h) dX1_checkAct_1 rfl 1 rfl (v := .int (ch)) rfl ?_
  refine g_if_le 4 7 32 F dX1_checkAct_4 rfl (by decide) (fun c_3 => ?_) (fun c_3 => ?_)
  · have hc1 := c_3
    refine g_iconst 32 33 F (nI (0)) dX1_checkAct_32 rfl (by decide) ?_
    refine g_top (v := bI (caB e f ho ch b mi)) (by first | exact ca_1 hc1 | exact ca_2 hb0 hs0 | exact ca_3 hc0 hb1 | exact ca_4 hc0 hs1) ?_
    refine g_wid (c2 := 4) (s2 := 144) (by omega) (by omega) ?_
    exact J_1
  · have hc0 := c_3
    refine g_iload_n 7 8 F dX1_checkAct_7 rfl rfl 2 rfl ?_
    refine g_ifB_ne 8 11 18 F dX1_checkAct_8 rfl (by decide) (fun c_4 => ?_) (fun c_4 => ?_)
    · have hb1 := c_4
      refine g_aload_n 18 19 F dX1_checkAct_18 rfl rfl 0 rfl ?_
      refine g_get 19 22 F (ci := 0) in_X1 rfl 6 (by decide) q172 (fun _ h => h) dX1_checkAct_19 rfl 0 rfl (v := .int (mi)) rfl ?_
      refine g_sipush 22 25 F (nI (3000)) dX1_checkAct_22 rfl (by decide) ?_
      refine g_dia_ge 25 32 33 F dX1_checkAct_25 (by decide) dX1_checkAct_28 dX1_checkAct_29 (by decide) dX1_checkAct_32 rfl ?_
      refine g_top (v := bI (caB e f ho ch b mi)) (by first | exact ca_1 hc1 | exact ca_2 hb0 hs0 | exact ca_3 hc0 hb1 | exact ca_4 hc0 hs1) ?_
      refine g_wid (c2 := 4) (s2 := 144) (by omega) (by omega) ?_
      exact J_1
    · have hb0 := c_4
      refine g_aload_n 11 12 F dX1_checkAct_11 rfl rfl 1 rfl ?_
      refine g_callP 3 15 F (CallOk.V (C := "Bumpward$Walker") (b := w) (As := []) (rest := []) F 0 q463 q464 q465 q71 q466 cdV_X8_isSafe rfl rfl (Nat.le_of_ble_eq_true rfl) (Nat.le_of_ble_eq_true rfl) dX1_checkAct_12) (m_X8_isSafe (kL K) X w h0 h1 b0 b1 nu ho po ch lo ac bu sl e f (by omega) (by omega) (by omega)) rfl (Mr := [[(bo, ob 0 [.ref ea, .ref cx, .ref bx, .ref wl, .ref dw, .ref pt, .int (mi), .int (mt), .int (dp), .long (dg)])]]) [1, 2, 3, 4, 5] [0] rfl 6 rfl (by decide +kernel) rfl rfl (rc_of F 1 6 rfl rfl) (Nat.le_of_ble_eq_true rfl) (c2 := 4) (s2 := 144) (Nat.le_of_ble_eq_true rfl) (Nat.le_of_ble_eq_true rfl) rfl rfl (st1 := [.int (bI (sfB e f ho ch))]) rfl ?_
      refine g_ifB_eq 15 18 32 F dX1_checkAct_15 rfl (by decide) (fun c_5 => ?_) (fun c_5 => ?_)
      · have hs0 := c_5
        refine g_iconst 32 33 F (nI (0)) dX1_checkAct_32 rfl (by decide) ?_
        refine g_top (v := bI (caB e f ho ch b mi)) (by first | exact ca_1 hc1 | exact ca_2 hb0 hs0 | exact ca_3 hc0 hb1 | exact ca_4 hc0 hs1) ?_
        exact J_1
      · have hs1 := c_5
        refine g_aload_n 18 19 F dX1_checkAct_18 rfl rfl 0 rfl ?_
        refine g_get 19 22 F (ci := 0) in_X1 rfl 6 (by decide) q172 (fun _ h => h) dX1_checkAct_19 rfl 0 rfl (v := .int (mi)) rfl ?_
        refine g_sipush 22 25 F (nI (3000)) dX1_checkAct_22 rfl (by decide) ?_
        refine g_dia_ge 25 32 33 F dX1_checkAct_25 (by decide) dX1_checkAct_28 dX1_checkAct_29 (by decide) dX1_checkAct_32 rfl ?_
        refine g_top (v := bI (caB e f ho ch b mi)) (by first | exact ca_1 hc1 | exact ca_2 hb0 hs0 | exact ca_3 hc0 hb1 | exact ca_4 hc0 hs1) ?_
        exact J_1

set_option maxHeartbeats 4000000 in
theorem m_X1_isBarredAhead (l : Launch) (X : gk_X) (bo ea cx bx wl dw pt : Nat) (mi mt dp : Int32) (dg : Int64) (w h0 h1 b0 b1 nu ho po : Nat) (ch lo ac bu sl : Int32) (e : Nat → Nat) (f : Nat → Bool) (bf : Nat → Bool) (he : ∀ k, k < 60 → e k < 3) (hho : ho < 36) (hpo : po < 144) : CtP l X yX1_isBarredAhead cX1_isBarredAhead 3 (some .boolean) 5 0 0 [.ref bo, .ref w] [[(bo, ob 0 [.ref ea, .ref cx, .ref bx, .ref wl, .ref dw, .ref pt, .int (mi), .int (mt), .int (dp), .long (dg)])], [(bx, zA X 36 (bf))], [(w, ob 6 [.int (nI (nu)), .int (nI (ho)), .ref h0, .int (nI (po)), .int (ch), .ref b0, .int (lo), .int (ac), .int (bu), .int (sl)])], [(h0, ob 4 [.ref h1])], [(h1, iA X 60 (fun k => nI (e k)))], [(b0, ob 5 [.ref b1])], [(b1, zA X 144 (f))]] (some (.int (bI (brB f bf)))) := by
  unfold CtP
  refine Ct.of (by decide) (Nat.le_of_ble_eq_true rfl) "Bumpward" "isBarredAhead" rfl rfl (fun K F eL R => ?_)
  subst eL
  show G K X 3 0 0 [[(bo, ob 0 [.ref ea, .ref cx, .ref bx, .ref wl, .ref dw, .ref pt, .int (mi), .int (mt), .int (dp), .long (dg)])], [(bx, zA X 36 (bf))], [(w, ob 6 [.int (nI (nu)), .int (nI (ho)), .ref h0, .int (nI (po)), .int (ch), .ref b0, .int (lo), .int (ac), .int (bu), .int (sl)])], [(h0, ob 4 [.ref h1])], [(h1, iA X 60 (fun k => nI (e k)))], [(b0, ob 5 [.ref b1])], [(b1, zA X 144 (f))]] [(0, .ref bo), (1, .ref w)] 0 []
  have hfl := first_le f
  refine g_aload_n 0 1 F dX1_isBarredAhead_0 rfl rfl 1 rfl ?_
  refine g_callP 3 4 F (CallOk.V (C := "Bumpward$Walker") (b := w) (As := []) (rest := []) F 0 q414 q415 q416 q71 q417 cdV_X8_isSure rfl rfl (Nat.le_of_ble_eq_true rfl) (Nat.le_of_ble_eq_true rfl) dX1_isBarredAhead_1) (m_X8_isSure (kL K) X w h0 h1 b0 b1 nu ho po ch lo ac bu sl e f (by omega) (by omega) (by omega)) rfl (Mr := [[(bo, ob 0 [.ref ea, .ref cx, .ref bx, .ref wl, .ref dw, .ref pt, .int (mi), .int (mt), .int (dp), .long (dg)])], [(bx, zA X 36 (bf))]]) [2, 3, 4, 5, 6] [0, 1] rfl 7 rfl (by decide +kernel) rfl rfl (rc_of F 2 6 rfl rfl) (Nat.le_of_ble_eq_true rfl) (c2 := 0) (s2 := 0) (Nat.zero_le _) (Nat.zero_le _) rfl rfl (st1 := [.int (bI (decide (cnt f 144 = 1)))]) rfl ?_
  refine g_ifB_ne 4 7 9 F dX1_isBarredAhead_4 rfl (by decide) (fun c_1 => ?_) (fun c_1 => ?_)
  · have hS := of_decide_eq_true c_1
    refine g_aload_n 9 10 F dX1_isBarredAhead_9 rfl rfl 1 rfl ?_
    refine g_callP 3 13 F (CallOk.V (C := "Bumpward$Walker") (b := w) (As := []) (rest := []) F 0 q896 q436 q437 q71 q438 cdV_X8_sureCell rfl rfl (Nat.le_of_ble_eq_true rfl) (Nat.le_of_ble_eq_true rfl) dX1_isBarredAhead_10) (m_X8_sureCell (kL K) X w h0 h1 b0 b1 nu ho po ch lo ac bu sl e f (by omega) (by omega) (by omega)) rfl (Mr := [[(bo, ob 0 [.ref ea, .ref cx, .ref bx, .ref wl, .ref dw, .ref pt, .int (mi), .int (mt), .int (dp), .long (dg)])], [(bx, zA X 36 (bf))]]) [2, 3, 4, 5, 6] [0, 1] rfl 7 rfl (by decide +kernel) rfl rfl (rc_of F 2 6 rfl rfl) (Nat.le_of_ble_eq_true rfl) (c2 := 0) (s2 := 0) (Nat.zero_le _) (Nat.zero_le _) rfl rfl (st1 := [.int (nI (first f / 4))]) rfl ?_
    refine g_aload_n 13 14 F dX1_isBarredAhead_13 rfl rfl 1 rfl ?_
    refine g_get 14 17 F (ci := 6) in_X8 rfl 5 (by decide) q770 (fun _ h => h) dX1_isBarredAhead_14 rfl 2 rfl (v := .ref b0) rfl ?_
    refine g_callP 3 20 F (CallOk.V (C := "Bumpward$Belief") (b := b0) (As := []) (rest := [.int (nI (first f / 4))]) F 0 q897 q440 q441 q73 q442 cdV_X10_first rfl rfl (Nat.le_of_ble_eq_true rfl) (Nat.le_of_ble_eq_true rfl) dX1_isBarredAhead_17) (m_X10_first (kL K) X b0 b1 f ) rfl (Mr := [[(bo, ob 0 [.ref ea, .ref cx, .ref bx, .ref wl, .ref dw, .ref pt, .int (mi), .int (mt), .int (dp), .long (dg)])], [(bx, zA X 36 (bf))], [(w, ob 6 [.int (nI (nu)), .int (nI (ho)), .ref h0, .int (nI (po)), .int (ch), .ref b0, .int (lo), .int (ac), .int (bu), .int (sl)])], [(h0, ob 4 [.ref h1])], [(h1, iA X 60 (fun k => nI (e k)))]]) [5, 6] [0, 1, 2, 3, 4] rfl 7 rfl (by decide +kernel) rfl rfl (rc_of F 5 5 rfl rfl) (Nat.le_of_ble_eq_true rfl) (c2 := 0) (s2 := 0) (Nat.zero_le _) (Nat.zero_le _) rfl rfl (st1 := [.int (nI (first f)), .int (nI (first f / 4))]) rfl ?_
    refine g_iconst 20 21 F (nI (4)) dX1_isBarredAhead_20 rfl (by decide) ?_
    refine g_irem 21 22 F (v := nI ((first f) % 4)) dX1_isBarredAhead_21 rfl (by decide) (pk_rem (by omega) (by omega) (by omega)) ?_
    refine g_callP 3 25 F (CallOk.S (As := [.int (nI (first f / 4)), .int (nI ((first f) % 4))]) (rest := []) F 2 q359 q360 q49 q361 cd_X1_beside rfl rfl (Nat.le_of_ble_eq_true rfl) (Nat.le_of_ble_eq_true rfl) dX1_isBarredAhead_22) (m_X1_beside (kL K) X (first f / 4) ((first f) % 4) (by omega) (by omega)) rfl (Mr := [[(bo, ob 0 [.ref ea, .ref cx, .ref bx, .ref wl, .ref dw, .ref pt, .int (mi), .int (mt), .int (dp), .long (dg)])], [(bx, zA X 36 (bf))], [(w, ob 6 [.int (nI (nu)), .int (nI (ho)), .ref h0, .int (nI (po)), .int (ch), .ref b0, .int (lo), .int (ac), .int (bu), .int (sl)])], [(h0, ob 4 [.ref h1])], [(h1, iA X 60 (fun k => nI (e k)))], [(b0, ob 5 [.ref b1])], [(b1, zA X 144 (f))]]) [] [0, 1, 2, 3, 4, 5, 6] rfl 7 rfl (by decide +kernel) rfl rfl (rc_T) (Nat.le_of_ble_eq_true rfl) (c2 := 0) (s2 := 0) (Nat.zero_le _) (Nat.zero_le _) rfl rfl (st1 := [.int (bsI (first f / 4) ((first f) % 4))]) rfl ?_
    refine g_istore_n 25 26 F [(2, .int (bsI (first f / 4) ((first f) % 4))), (0, .ref bo), (1, .ref w)] dX1_isBarredAhead_25 rfl rfl (Nat.le_of_ble_eq_true rfl) rfl ?_
    refine g_iload_n 26 27 F dX1_isBarredAhead_26 rfl rfl 0 rfl ?_
    refine g_iconst 27 28 F (-1) dX1_isBarredAhead_27 rfl (by decide) ?_
    refine g_icmp_eq 28 31 44 F dX1_isBarredAhead_28 rfl (by decide) (fun c_2 => ?_) (fun c_2 => ?_)
    · have ho1 := c_2
      refine g_iconst 44 45 F (nI (0)) dX1_isBarredAhead_44 rfl (by decide) ?_
      exact g_zret 45 F R dX1_isBarredAhead_45 (Nat.zero_le _) (Nat.zero_le _) (by decide) (⟨congrArg (fun z => some (Value.int z)) (by first | exact br_no hN | exact br_out hS ho1 | exact br_in hS ho1), rfl⟩)
    · have ho1 := c_2
      have hb2 := bsI_no (by omega) (by omega) ho1
      have hbl := bsD_lt (c := first f / 4) (s := first f % 4) (by omega) (by omega)
      refine g_aload_n 31 32 F dX1_isBarredAhead_31 rfl rfl 1 rfl ?_
      refine g_get 32 35 F (ci := 0) in_X1 rfl 2 (by decide) q168 (fun _ h => h) dX1_isBarredAhead_32 rfl 0 rfl (v := .ref bx) rfl ?_
      refine g_iload_n 35 36 F dX1_isBarredAhead_35 rfl rfl 0 rfl ?_
      refine g_top (v := nI (bsD (first f / 4) (first f % 4))) (bsI_nI hb2) ?_
      refine g_zald 36 37 F dX1_isBarredAhead_36 rfl 1 (i := bsD (first f / 4) (first f % 4)) rfl (Nat.le_of_ble_eq_true rfl) (by omega) ?_
      refine g_diaB_eq 37 44 45 F dX1_isBarredAhead_37 (by decide) dX1_isBarredAhead_40 dX1_isBarredAhead_41 (by decide) dX1_isBarredAhead_44 rfl ?_
      exact g_bret 45 F R dX1_isBarredAhead_45 (Nat.zero_le _) (Nat.zero_le _) (⟨congrArg (fun z => some (Value.int z)) (by first | exact br_no hN | exact br_out hS ho1 | exact br_in hS ho1), rfl⟩)
  · have hN := of_decide_eq_false c_1
    refine g_iconst 7 8 F (nI (0)) dX1_isBarredAhead_7 rfl (by decide) ?_
    exact g_zret 8 F R dX1_isBarredAhead_8 (Nat.zero_le _) (Nat.zero_le _) (by decide) (⟨congrArg (fun z => some (Value.int z)) (by first | exact br_no hN | exact br_out hS ho1 | exact br_in hS ho1), rfl⟩)

set_option maxHeartbeats 4000000 in
theorem m_X1_end (l : Launch) (X : gk_X) (bo ea cx bx wl dw pt : Nat) (mi mt dp : Int32) (dg : Int64) (w h0 b0 nu ho po : Nat) (ch lo ac bu sl : Int32)  : Ct l X yX1_end cX1_end 2 none 1 0 0 [.ref bo, .ref w] [[(bo, ob 0 [.ref ea, .ref cx, .ref bx, .ref wl, .ref dw, .ref pt, .int (mi), .int (mt), .int (dp), .long (dg)])], [(w, ob 6 [.int (nI (nu)), .int (nI (ho)), .ref h0, .int (nI (po)), .int (ch), .ref b0, .int (lo), .int (ac), .int (bu), .int (sl)])]] (fun v M' => v = none ∧ M' = [[(bo, ob 0 [.ref ea, .ref cx, .ref bx, .ref wl, .ref dw, .ref pt, .int (mi + nI 1), .int (mt), .int (dp), .long (dg)])], [(w, ob 6 [.int (nI (nu)), .int (nI (ho)), .ref h0, .int (nI (po)), .int (ch - nI 1), .ref b0, .int (lo), .int (ac + nI 1), .int (bu), .int (sl)])]]) := by
  refine Ct.of (by decide) (Nat.le_of_ble_eq_true rfl) "Bumpward" "end" rfl rfl (fun K F eL R => ?_)
  subst eL
  show G K X 2 0 0 [[(bo, ob 0 [.ref ea, .ref cx, .ref bx, .ref wl, .ref dw, .ref pt, .int (mi), .int (mt), .int (dp), .long (dg)])], [(w, ob 6 [.int (nI (nu)), .int (nI (ho)), .ref h0, .int (nI (po)), .int (ch), .ref b0, .int (lo), .int (ac), .int (bu), .int (sl)])]] [(0, .ref bo), (1, .ref w)] 0 []
  refine g_aload_n 0 1 F dX1_end_0 rfl rfl 1 rfl ?_
  refine g_dup 1 2 F dX1_end_1 rfl rfl ?_
  refine g_get 2 5 F (ci := 6) in_X8 rfl 4 (by decide) q768 (fun _ h => h) dX1_end_2 rfl 1 rfl (v := .int (ch)) rfl ?_
  refine g_iconst 5 6 F (nI (1)) dX1_end_5 rfl (by decide) ?_
  refine g_isub 6 7 F (v := ch - nI 1) dX1_end_6 rfl (rfl) ?_
  refine g_put 7 10 F (ci := 6) in_X8 tyX8 tyX8_ok nmX8 rfl 4 (by decide) q768 (fun _ h => h) rfl dX1_end_7 rfl 1 (rfl) (rfl) (Nat.le_of_ble_eq_true rfl) rfl (M' := [[(bo, ob 0 [.ref ea, .ref cx, .ref bx, .ref wl, .ref dw, .ref pt, .int (mi), .int (mt), .int (dp), .long (dg)])], [(w, ob 6 [.int (nI (nu)), .int (nI (ho)), .ref h0, .int (nI (po)), .int (ch - nI 1), .ref b0, .int (lo), .int (ac), .int (bu), .int (sl)])]]) rfl ?_
  refine g_aload_n 10 11 F dX1_end_10 rfl rfl 1 rfl ?_
  refine g_dup 11 12 F dX1_end_11 rfl rfl ?_
  refine g_get 12 15 F (ci := 6) in_X8 rfl 7 (by decide) q773 (fun _ h => h) dX1_end_12 rfl 1 rfl (v := .int (ac)) rfl ?_
  refine g_iconst 15 16 F (nI (1)) dX1_end_15 rfl (by decide) ?_
  refine g_iadd 16 17 F (v := ac + nI 1) dX1_end_16 rfl (rfl) ?_
  refine g_put 17 20 F (ci := 6) in_X8 tyX8 tyX8_ok nmX8 rfl 7 (by decide) q773 (fun _ h => h) rfl dX1_end_17 rfl 1 (rfl) (rfl) (Nat.le_of_ble_eq_true rfl) rfl (M' := [[(bo, ob 0 [.ref ea, .ref cx, .ref bx, .ref wl, .ref dw, .ref pt, .int (mi), .int (mt), .int (dp), .long (dg)])], [(w, ob 6 [.int (nI (nu)), .int (nI (ho)), .ref h0, .int (nI (po)), .int (ch - nI 1), .ref b0, .int (lo), .int (ac + nI 1), .int (bu), .int (sl)])]]) rfl ?_
  refine g_aload_n 20 21 F dX1_end_20 rfl rfl 0 rfl ?_
  refine g_dup 21 22 F dX1_end_21 rfl rfl ?_
  refine g_get 22 25 F (ci := 0) in_X1 rfl 6 (by decide) q172 (fun _ h => h) dX1_end_22 rfl 0 rfl (v := .int (mi)) rfl ?_
  refine g_iconst 25 26 F (nI (1)) dX1_end_25 rfl (by decide) ?_
  refine g_iadd 26 27 F (v := mi + nI 1) dX1_end_26 rfl (rfl) ?_
  refine g_put 27 30 F (ci := 0) in_X1 tyX1 tyX1_ok nmX1 rfl 6 (by decide) q172 (fun _ h => h) rfl dX1_end_27 rfl 0 (rfl) (rfl) (Nat.le_of_ble_eq_true rfl) rfl (M' := [[(bo, ob 0 [.ref ea, .ref cx, .ref bx, .ref wl, .ref dw, .ref pt, .int (mi + nI 1), .int (mt), .int (dp), .long (dg)])], [(w, ob 6 [.int (nI (nu)), .int (nI (ho)), .ref h0, .int (nI (po)), .int (ch - nI 1), .ref b0, .int (lo), .int (ac + nI 1), .int (bu), .int (sl)])]]) rfl ?_
  exact g_vret 30 F R dX1_end_30 (Nat.zero_le _) (Nat.zero_le _) (⟨rfl, rfl⟩)

set_option maxHeartbeats 4000000 in
theorem m_X1_apart (l : Launch) (X : gk_X) (p q : Nat) (hp : p < 144) (hq : q < 144) : CtP l X yX1_apart cX1_apart 2 (some .int) 2 0 0 [.int (nI (p / 4)), .int (nI (q / 4))] [] (some (.int (apI p q))) := by
  unfold CtP
  refine Ct.of (by decide) (Nat.le_of_ble_eq_true rfl) "Bumpward" "apart" rfl rfl (fun K F eL R => ?_)
  subst eL
  show G K X 2 0 0 [] [(0, .int (nI (p / 4))), (1, .int (nI (q / 4)))] 0 []
  refine g_iload_n 0 1 F dX1_apart_0 rfl rfl 0 rfl ?_
  refine g_bipush 1 3 F (nI (6)) dX1_apart_1 rfl (by decide) ?_
  refine g_idiv 3 4 F (v := nI ((p / 4) / 6)) dX1_apart_3 rfl (by decide) (pk_div (by omega) (by omega) (by omega)) ?_
  refine g_iload_n 4 5 F dX1_apart_4 rfl rfl 1 rfl ?_
  refine g_bipush 5 7 F (nI (6)) dX1_apart_5 rfl (by decide) ?_
  refine g_idiv 7 8 F (v := nI ((q / 4) / 6)) dX1_apart_7 rfl (by decide) (pk_div (by omega) (by omega) (by omega)) ?_
  refine g_isub 8 9 F (v := (nI ((p / 4) / 6)) - (nI ((q / 4) / 6))) dX1_apart_8 rfl (rfl) ?_
  refine g_mabs 9 12 F (v := if 0 ≤ nI (p / 4 / 6) - nI (q / 4 / 6) then nI (p / 4 / 6) - nI (q / 4 / 6) else 0 - (nI (p / 4 / 6) - nI (q / 4 / 6))) q961 q962 q66 q963 dX1_apart_9 rfl (Nat.le_of_ble_eq_true rfl) (Nat.le_of_ble_eq_true rfl) (Nat.zero_le _) (Nat.zero_le _) (rfl) ?_
  refine g_iload_n 12 13 F dX1_apart_12 rfl rfl 0 rfl ?_
  refine g_bipush 13 15 F (nI (6)) dX1_apart_13 rfl (by decide) ?_
  refine g_irem 15 16 F (v := nI ((p / 4) % 6)) dX1_apart_15 rfl (by decide) (pk_rem (by omega) (by omega) (by omega)) ?_
  refine g_iload_n 16 17 F dX1_apart_16 rfl rfl 1 rfl ?_
  refine g_bipush 17 19 F (nI (6)) dX1_apart_17 rfl (by decide) ?_
  refine g_irem 19 20 F (v := nI ((q / 4) % 6)) dX1_apart_19 rfl (by decide) (pk_rem (by omega) (by omega) (by omega)) ?_
  refine g_isub 20 21 F (v := (nI ((p / 4) % 6)) - (nI ((q / 4) % 6))) dX1_apart_20 rfl (rfl) ?_
  refine g_mabs 21 24 F (v := if 0 ≤ nI (p / 4 % 6) - nI (q / 4 % 6) then nI (p / 4 % 6) - nI (q / 4 % 6) else 0 - (nI (p / 4 % 6) - nI (q / 4 % 6))) q961 q962 q66 q963 dX1_apart_21 rfl (Nat.le_of_ble_eq_true rfl) (Nat.le_of_ble_eq_true rfl) (Nat.zero_le _) (Nat.zero_le _) (rfl) ?_
  refine g_iadd 24 25 F (v := apI p q) dX1_apart_24 rfl (rfl) ?_
  exact g_iret 25 F R dX1_apart_25 (Nat.zero_le _) (Nat.zero_le _) (⟨rfl, rfl⟩)

set_option maxHeartbeats 4000000 in
theorem m_X1_told_2 (l : Launch) (X : gk_X) (bo ea cx bx wl dw pt : Nat) (mi mt dp : Int32) (dg : Int64) (er : Nat → Nat) (kd : Nat → Nat) (hr : Nat → Int32) (w h0 h1 b0 b1 nu ho po : Nat) (ch lo ac bu sl : Int32) (e : Nat → Nat) (f : Nat → Bool) (x : Nat) (hkd : ∀ k, k < 60 → kd k < 3) (he : ∀ k, k < 60 → e k < 3) (hho : ho < 36) (hpo : po < 144) (hx : x < 13) : CtP l X yX1_told_2 cX1_told_2 3 (some .int) 5 0 0 [.ref bo, .ref w, .int (nI (x))] [[(bo, ob 0 [.ref ea, .ref cx, .ref bx, .ref wl, .ref dw, .ref pt, .int (mi), .int (mt), .int (dp), .long (dg)])], [(ea, oA X 2 60 (fun j => some (er j)))], poolW 60 (fun j => edC X (er j) (kd j) (hr j)), [(w, ob 6 [.int (nI (nu)), .int (nI (ho)), .ref h0, .int (nI (po)), .int (ch), .ref b0, .int (lo), .int (ac), .int (bu), .int (sl)])], [(h0, ob 4 [.ref h1])], [(h1, iA X 60 (fun k => nI (e k)))], [(b0, ob 5 [.ref b1])], [(b1, zA X 144 (f))]] (some (.int (owI kd hr mi po ho ch lo ac bu sl f e x))) := by
  unfold CtP
  refine Ct.of (by decide) (Nat.le_of_ble_eq_true rfl) "Bumpward" "told" rfl rfl (fun K F eL R => ?_)
  subst eL
  show G K X 3 0 0 [[(bo, ob 0 [.ref ea, .ref cx, .ref bx, .ref wl, .ref dw, .ref pt, .int (mi), .int (mt), .int (dp), .long (dg)])], [(ea, oA X 2 60 (fun j => some (er j)))], poolW 60 (fun j => edC X (er j) (kd j) (hr j)), [(w, ob 6 [.int (nI (nu)), .int (nI (ho)), .ref h0, .int (nI (po)), .int (ch), .ref b0, .int (lo), .int (ac), .int (bu), .int (sl)])], [(h0, ob 4 [.ref h1])], [(h1, iA X 60 (fun k => nI (e k)))], [(b0, ob 5 [.ref b1])], [(b1, zA X 144 (f))]] [(0, .ref bo), (1, .ref w), (2, .int (nI (x)))] 0 []
  refine g_iload_n 0 1 F dX1_told_2_0 rfl rfl 2 rfl ?_
  rcases (by omega : x = 0 ∨ x = 1 ∨ x = 2 ∨ x = 3 ∨ x = 4 ∨ x = 5 ∨ x = 6 ∨ x = 7 ∨ x = 8 ∨ x = 9 ∨ x = 10 ∨ x = 11 ∨ x = 12) with hsw | hsw | hsw | hsw | hsw | hsw | hsw | hsw | hsw | hsw | hsw | hsw | hsw
  · subst hsw
    refine g_tabIn 1 64 F dX1_told_2_1 (by decide) (by decide) (off := 63) (by decide) (by decide) ?_
    refine g_aload_n 64 65 F dX1_told_2_64 rfl rfl 1 rfl ?_
    refine g_get 65 68 F (ci := 6) in_X8 rfl 3 (by decide) q766 (fun _ h => h) dX1_told_2_65 rfl 3 rfl (v := .int (nI (po))) rfl ?_
    exact g_iret 68 F R dX1_told_2_68 (Nat.zero_le _) (Nat.zero_le _) (⟨congrArg (fun z => some (Value.int z)) (rfl), rfl⟩)
  · subst hsw
    refine g_tabIn 1 69 F dX1_told_2_1 (by decide) (by decide) (off := 68) (by decide) (by decide) ?_
    refine g_aload_n 69 70 F dX1_told_2_69 rfl rfl 1 rfl ?_
    refine g_get 70 73 F (ci := 6) in_X8 rfl 1 (by decide) q762 (fun _ h => h) dX1_told_2_70 rfl 3 rfl (v := .int (nI (ho))) rfl ?_
    exact g_iret 73 F R dX1_told_2_73 (Nat.zero_le _) (Nat.zero_le _) (⟨congrArg (fun z => some (Value.int z)) (rfl), rfl⟩)
  · subst hsw
    refine g_tabIn 1 74 F dX1_told_2_1 (by decide) (by decide) (off := 73) (by decide) (by decide) ?_
    refine g_aload_n 74 75 F dX1_told_2_74 rfl rfl 1 rfl ?_
    refine g_get 75 78 F (ci := 6) in_X8 rfl 4 (by decide) q768 (fun _ h => h) dX1_told_2_75 rfl 3 rfl (v := .int (ch)) rfl ?_
    exact g_iret 78 F R dX1_told_2_78 (Nat.zero_le _) (Nat.zero_le _) (⟨congrArg (fun z => some (Value.int z)) (rfl), rfl⟩)
  · subst hsw
    refine g_tabIn 1 79 F dX1_told_2_1 (by decide) (by decide) (off := 78) (by decide) (by decide) ?_
    refine g_aload_n 79 80 F dX1_told_2_79 rfl rfl 1 rfl ?_
    refine g_get 80 83 F (ci := 6) in_X8 rfl 5 (by decide) q770 (fun _ h => h) dX1_told_2_80 rfl 3 rfl (v := .ref b0) rfl ?_
    refine g_callP 3 86 F (CallOk.V (C := "Bumpward$Belief") (b := b0) (As := []) (rest := []) F 0 q299 q300 q301 q73 q302 cdV_X10_size rfl rfl (Nat.le_of_ble_eq_true rfl) (Nat.le_of_ble_eq_true rfl) dX1_told_2_83) (m_X10_size (kL K) X b0 b1 f ) rfl (Mr := [[(bo, ob 0 [.ref ea, .ref cx, .ref bx, .ref wl, .ref dw, .ref pt, .int (mi), .int (mt), .int (dp), .long (dg)])], [(ea, oA X 2 60 (fun j => some (er j)))], poolW 60 (fun j => edC X (er j) (kd j) (hr j)), [(w, ob 6 [.int (nI (nu)), .int (nI (ho)), .ref h0, .int (nI (po)), .int (ch), .ref b0, .int (lo), .int (ac), .int (bu), .int (sl)])], [(h0, ob 4 [.ref h1])], [(h1, iA X 60 (fun k => nI (e k)))]]) [6, 7] [0, 1, 2, 3, 4, 5] (by decide +kernel) 8 rfl (by decide +kernel) rfl rfl (rc_of F 6 5 rfl rfl) (Nat.le_of_ble_eq_true rfl) (c2 := 0) (s2 := 0) (Nat.zero_le _) (Nat.zero_le _) rfl rfl (st1 := [.int (nI (cnt f 144))]) rfl ?_
    exact g_iret 86 F R dX1_told_2_86 (Nat.zero_le _) (Nat.zero_le _) (⟨congrArg (fun z => some (Value.int z)) (rfl), rfl⟩)
  · subst hsw
    refine g_tabIn 1 87 F dX1_told_2_1 (by decide) (by decide) (off := 86) (by decide) (by decide) ?_
    refine g_aload_n 87 88 F dX1_told_2_87 rfl rfl 1 rfl ?_
    refine g_callP 3 91 F (CallOk.V (C := "Bumpward$Walker") (b := w) (As := []) (rest := []) F 0 q414 q415 q416 q71 q417 cdV_X8_isSure rfl rfl (Nat.le_of_ble_eq_true rfl) (Nat.le_of_ble_eq_true rfl) dX1_told_2_88) (m_X8_isSure (kL K) X w h0 h1 b0 b1 nu ho po ch lo ac bu sl e f (by omega) (by omega) (by omega)) rfl (Mr := [[(bo, ob 0 [.ref ea, .ref cx, .ref bx, .ref wl, .ref dw, .ref pt, .int (mi), .int (mt), .int (dp), .long (dg)])], [(ea, oA X 2 60 (fun j => some (er j)))], poolW 60 (fun j => edC X (er j) (kd j) (hr j))]) [3, 4, 5, 6, 7] [0, 1, 2] (by decide +kernel) 8 rfl (by decide +kernel) rfl rfl (rc_of F 3 6 rfl rfl) (Nat.le_of_ble_eq_true rfl) (c2 := 0) (s2 := 0) (Nat.zero_le _) (Nat.zero_le _) rfl rfl (st1 := [.int (bI (decide (cnt f 144 = 1)))]) rfl ?_
    refine g_callP 3 94 F (CallOk.S (As := [.int (bI (decide (cnt f 144 = 1)))]) (rest := []) F 1 q291 q292 q49 q293 cd_X1_one rfl rfl (Nat.le_of_ble_eq_true rfl) (Nat.le_of_ble_eq_true rfl) dX1_told_2_91) (m_X1_one (kL K) X (decide (cnt f 144 = 1)) ) rfl (Mr := [[(bo, ob 0 [.ref ea, .ref cx, .ref bx, .ref wl, .ref dw, .ref pt, .int (mi), .int (mt), .int (dp), .long (dg)])], [(ea, oA X 2 60 (fun j => some (er j)))], poolW 60 (fun j => edC X (er j) (kd j) (hr j)), [(w, ob 6 [.int (nI (nu)), .int (nI (ho)), .ref h0, .int (nI (po)), .int (ch), .ref b0, .int (lo), .int (ac), .int (bu), .int (sl)])], [(h0, ob 4 [.ref h1])], [(h1, iA X 60 (fun k => nI (e k)))], [(b0, ob 5 [.ref b1])], [(b1, zA X 144 (f))]]) [] [0, 1, 2, 3, 4, 5, 6, 7] (by decide +kernel) 8 rfl (by decide +kernel) rfl rfl (rc_T) (Nat.le_of_ble_eq_true rfl) (c2 := 0) (s2 := 0) (Nat.zero_le _) (Nat.zero_le _) rfl rfl (st1 := [.int (bI (decide (cnt f 144 = 1)))]) rfl ?_
    exact g_iret 94 F R dX1_told_2_94 (Nat.zero_le _) (Nat.zero_le _) (⟨congrArg (fun z => some (Value.int z)) (rfl), rfl⟩)
  · subst hsw
    refine g_tabIn 1 95 F dX1_told_2_1 (by decide) (by decide) (off := 94) (by decide) (by decide) ?_
    refine g_aload_n 95 96 F dX1_told_2_95 rfl rfl 1 rfl ?_
    refine g_get 96 99 F (ci := 6) in_X8 rfl 2 (by decide) q764 (fun _ h => h) dX1_told_2_96 rfl 3 rfl (v := .ref h0) rfl ?_
    refine g_iconst 99 100 F (nI (1)) dX1_told_2_99 rfl (by decide) ?_
    refine g_callP 3 103 F (CallOk.V (C := "Bumpward$Plan") (b := h0) (As := [.int (nI (1))]) (rest := []) F 1 q294 q295 q296 q72 q297 cdV_X9_count rfl rfl (Nat.le_of_ble_eq_true rfl) (Nat.le_of_ble_eq_true rfl) dX1_told_2_100) (m_X9_count (kL K) X h0 h1 e 1 (by omega) (by omega)) rfl (Mr := [[(bo, ob 0 [.ref ea, .ref cx, .ref bx, .ref wl, .ref dw, .ref pt, .int (mi), .int (mt), .int (dp), .long (dg)])], [(ea, oA X 2 60 (fun j => some (er j)))], poolW 60 (fun j => edC X (er j) (kd j) (hr j)), [(w, ob 6 [.int (nI (nu)), .int (nI (ho)), .ref h0, .int (nI (po)), .int (ch), .ref b0, .int (lo), .int (ac), .int (bu), .int (sl)])], [(b0, ob 5 [.ref b1])], [(b1, zA X 144 (f))]]) [4, 5] [0, 1, 2, 3, 6, 7] (by decide +kernel) 8 rfl (by decide +kernel) rfl rfl (rc_of F 4 4 rfl rfl) (Nat.le_of_ble_eq_true rfl) (c2 := 0) (s2 := 0) (Nat.zero_le _) (Nat.zero_le _) rfl rfl (st1 := [.int (nI (cnt (fun j => decide (e j = 1)) 60))]) rfl ?_
    exact g_iret 103 F R dX1_told_2_103 (Nat.zero_le _) (Nat.zero_le _) (⟨congrArg (fun z => some (Value.int z)) (rfl), rfl⟩)
  · subst hsw
    refine g_tabIn 1 104 F dX1_told_2_1 (by decide) (by decide) (off := 103) (by decide) (by decide) ?_
    refine g_aload_n 104 105 F dX1_told_2_104 rfl rfl 1 rfl ?_
    refine g_get 105 108 F (ci := 6) in_X8 rfl 2 (by decide) q764 (fun _ h => h) dX1_told_2_105 rfl 3 rfl (v := .ref h0) rfl ?_
    refine g_iconst 108 109 F (nI (2)) dX1_told_2_108 rfl (by decide) ?_
    refine g_callP 3 112 F (CallOk.V (C := "Bumpward$Plan") (b := h0) (As := [.int (nI (2))]) (rest := []) F 1 q294 q295 q296 q72 q297 cdV_X9_count rfl rfl (Nat.le_of_ble_eq_true rfl) (Nat.le_of_ble_eq_true rfl) dX1_told_2_109) (m_X9_count (kL K) X h0 h1 e 2 (by omega) (by omega)) rfl (Mr := [[(bo, ob 0 [.ref ea, .ref cx, .ref bx, .ref wl, .ref dw, .ref pt, .int (mi), .int (mt), .int (dp), .long (dg)])], [(ea, oA X 2 60 (fun j => some (er j)))], poolW 60 (fun j => edC X (er j) (kd j) (hr j)), [(w, ob 6 [.int (nI (nu)), .int (nI (ho)), .ref h0, .int (nI (po)), .int (ch), .ref b0, .int (lo), .int (ac), .int (bu), .int (sl)])], [(b0, ob 5 [.ref b1])], [(b1, zA X 144 (f))]]) [4, 5] [0, 1, 2, 3, 6, 7] (by decide +kernel) 8 rfl (by decide +kernel) rfl rfl (rc_of F 4 4 rfl rfl) (Nat.le_of_ble_eq_true rfl) (c2 := 0) (s2 := 0) (Nat.zero_le _) (Nat.zero_le _) rfl rfl (st1 := [.int (nI (cnt (fun j => decide (e j = 2)) 60))]) rfl ?_
    exact g_iret 112 F R dX1_told_2_112 (Nat.zero_le _) (Nat.zero_le _) (⟨congrArg (fun z => some (Value.int z)) (rfl), rfl⟩)
  · subst hsw
    refine g_tabIn 1 113 F dX1_told_2_1 (by decide) (by decide) (off := 112) (by decide) (by decide) ?_
    refine g_aload_n 113 114 F dX1_told_2_113 rfl rfl 0 rfl ?_
    refine g_aload_n 114 115 F dX1_told_2_114 rfl rfl 1 rfl ?_
    refine g_get 115 118 F (ci := 6) in_X8 rfl 2 (by decide) q764 (fun _ h => h) dX1_told_2_115 rfl 3 rfl (v := .ref h0) rfl ?_
    refine g_iconst 118 119 F (nI (1)) dX1_told_2_118 rfl (by decide) ?_
    refine g_top (v := bI (true)) (rfl) ?_
    refine g_callP 3 122 F (CallOk.V (C := "Bumpward") (b := bo) (As := [.ref h0, .int (bI (true))]) (rest := []) F 2 q264 q266 qs2 q49 q267 cdV_X1_known rfl rfl (Nat.le_of_ble_eq_true rfl) (Nat.le_of_ble_eq_true rfl) dX1_told_2_119) (m_X1_known (kL K) X bo ea cx bx wl dw pt mi mt dp dg er kd hr h0 h1 e true (by omega) (by omega)) rfl (Mr := [[(w, ob 6 [.int (nI (nu)), .int (nI (ho)), .ref h0, .int (nI (po)), .int (ch), .ref b0, .int (lo), .int (ac), .int (bu), .int (sl)])], [(b0, ob 5 [.ref b1])], [(b1, zA X 144 (f))]]) [0, 1, 2, 4, 5] [3, 6, 7] (by decide +kernel) 8 rfl (by decide +kernel) rfl rfl (rc_of F 0 0 rfl rfl) (Nat.le_of_ble_eq_true rfl) (c2 := 0) (s2 := 0) (Nat.zero_le _) (Nat.zero_le _) rfl rfl (st1 := [.int (nI (cnt (knB kd hr mi e true) 60))]) rfl ?_
    exact g_iret 122 F R dX1_told_2_122 (Nat.zero_le _) (Nat.zero_le _) (⟨congrArg (fun z => some (Value.int z)) ow_7, rfl⟩)
  · subst hsw
    refine g_tabIn 1 123 F dX1_told_2_1 (by decide) (by decide) (off := 122) (by decide) (by decide) ?_
    refine g_aload_n 123 124 F dX1_told_2_123 rfl rfl 0 rfl ?_
    refine g_aload_n 124 125 F dX1_told_2_124 rfl rfl 1 rfl ?_
    refine g_get 125 128 F (ci := 6) in_X8 rfl 2 (by decide) q764 (fun _ h => h) dX1_told_2_125 rfl 3 rfl (v := .ref h0) rfl ?_
    refine g_iconst 128 129 F (nI (0)) dX1_told_2_128 rfl (by decide) ?_
    refine g_top (v := bI (false)) (rfl) ?_
    refine g_callP 3 132 F (CallOk.V (C := "Bumpward") (b := bo) (As := [.ref h0, .int (bI (false))]) (rest := []) F 2 q264 q266 qs2 q49 q267 cdV_X1_known rfl rfl (Nat.le_of_ble_eq_true rfl) (Nat.le_of_ble_eq_true rfl) dX1_told_2_129) (m_X1_known (kL K) X bo ea cx bx wl dw pt mi mt dp dg er kd hr h0 h1 e false (by omega) (by omega)) rfl (Mr := [[(w, ob 6 [.int (nI (nu)), .int (nI (ho)), .ref h0, .int (nI (po)), .int (ch), .ref b0, .int (lo), .int (ac), .int (bu), .int (sl)])], [(b0, ob 5 [.ref b1])], [(b1, zA X 144 (f))]]) [0, 1, 2, 4, 5] [3, 6, 7] (by decide +kernel) 8 rfl (by decide +kernel) rfl rfl (rc_of F 0 0 rfl rfl) (Nat.le_of_ble_eq_true rfl) (c2 := 0) (s2 := 0) (Nat.zero_le _) (Nat.zero_le _) rfl rfl (st1 := [.int (nI (cnt (knB kd hr mi e false) 60))]) rfl ?_
    exact g_iret 132 F R dX1_told_2_132 (Nat.zero_le _) (Nat.zero_le _) (⟨congrArg (fun z => some (Value.int z)) (ow_8 he), rfl⟩)
  · subst hsw
    refine g_tabIn 1 133 F dX1_told_2_1 (by decide) (by decide) (off := 132) (by decide) (by decide) ?_
    refine g_aload_n 133 134 F dX1_told_2_133 rfl rfl 1 rfl ?_
    refine g_get 134 137 F (ci := 6) in_X8 rfl 6 (by decide) q772 (fun _ h => h) dX1_told_2_134 rfl 3 rfl (v := .int (lo)) rfl ?_
    exact g_iret 137 F R dX1_told_2_137 (Nat.zero_le _) (Nat.zero_le _) (⟨congrArg (fun z => some (Value.int z)) (rfl), rfl⟩)
  · subst hsw
    refine g_tabIn 1 138 F dX1_told_2_1 (by decide) (by decide) (off := 137) (by decide) (by decide) ?_
    refine g_aload_n 138 139 F dX1_told_2_138 rfl rfl 1 rfl ?_
    refine g_get 139 142 F (ci := 6) in_X8 rfl 7 (by decide) q773 (fun _ h => h) dX1_told_2_139 rfl 3 rfl (v := .int (ac)) rfl ?_
    exact g_iret 142 F R dX1_told_2_142 (Nat.zero_le _) (Nat.zero_le _) (⟨congrArg (fun z => some (Value.int z)) (rfl), rfl⟩)
  · subst hsw
    refine g_tabIn 1 143 F dX1_told_2_1 (by decide) (by decide) (off := 142) (by decide) (by decide) ?_
    refine g_aload_n 143 144 F dX1_told_2_143 rfl rfl 1 rfl ?_
    refine g_get 144 147 F (ci := 6) in_X8 rfl 8 (by decide) q774 (fun _ h => h) dX1_told_2_144 rfl 3 rfl (v := .int (bu)) rfl ?_
    exact g_iret 147 F R dX1_told_2_147 (Nat.zero_le _) (Nat.zero_le _) (⟨congrArg (fun z => some (Value.int z)) (rfl), rfl⟩)
  · subst hsw
    refine g_tabOut 1 148 F dX1_told_2_1 (Or.inr (by decide)) (by decide) ?_
    refine g_aload_n 148 149 F dX1_told_2_148 rfl rfl 1 rfl ?_
    refine g_get 149 152 F (ci := 6) in_X8 rfl 9 (by decide) q775 (fun _ h => h) dX1_told_2_149 rfl 3 rfl (v := .int (sl)) rfl ?_
    exact g_iret 152 F R dX1_told_2_152 (Nat.zero_le _) (Nat.zero_le _) (⟨congrArg (fun z => some (Value.int z)) (rfl), rfl⟩)

set_option maxHeartbeats 4000000 in
theorem m_X1_safetyTold (l : Launch) (X : gk_X) (w h0 h1 b0 b1 nu ho po : Nat) (ch lo ac bu sl : Int32) (e : Nat → Nat) (f : Nat → Bool) (x : Nat) (he : ∀ k, k < 60 → e k < 3) (hho : ho < 36) (hpo : po < 144) (hx : x < 4) : CtP l X yX1_safetyTold cX1_safetyTold 2 (some .int) 10 4 144 [.ref w, .int (nI (x))] [[(w, ob 6 [.int (nI (nu)), .int (nI (ho)), .ref h0, .int (nI (po)), .int (ch), .ref b0, .int (lo), .int (ac), .int (bu), .int (sl)])], [(h0, ob 4 [.ref h1])], [(h1, iA X 60 (fun k => nI (e k)))], [(b0, ob 5 [.ref b1])], [(b1, zA X 144 (f))]] (some (.int (sfI e f ho ch x))) := by
  unfold CtP
  refine Ct.of (by decide) (Nat.le_of_ble_eq_true rfl) "Bumpward" "safetyTold" rfl rfl (fun K F eL R => ?_)
  subst eL
  show G K X 2 0 0 [[(w, ob 6 [.int (nI (nu)), .int (nI (ho)), .ref h0, .int (nI (po)), .int (ch), .ref b0, .int (lo), .int (ac), .int (bu), .int (sl)])], [(h0, ob 4 [.ref h1])], [(h1, iA X 60 (fun k => nI (e k)))], [(b0, ob 5 [.ref b1])], [(b1, zA X 144 (f))]] [(0, .ref w), (1, .int (nI (x)))] 0 []
  refine g_iload_n 0 1 F dX1_safetyTold_0 rfl rfl 1 rfl ?_
  refine g_ifN_ne 1 4 11 F dX1_safetyTold_1 rfl (by decide) (by omega) (fun c_1 => ?_) (fun c_1 => ?_)
  · refine g_iload_n 11 12 F dX1_safetyTold_11 rfl rfl 1 rfl ?_
    refine g_iconst 12 13 F (nI (1)) dX1_safetyTold_12 rfl (by decide) ?_
    refine g_icmpN_ne 13 16 23 F dX1_safetyTold_13 rfl (by decide) (by omega) (by omega) (fun c_2 => ?_) (fun c_2 => ?_)
    · refine g_iload_n 23 24 F dX1_safetyTold_23 rfl rfl 1 rfl ?_
      refine g_iconst 24 25 F (nI (2)) dX1_safetyTold_24 rfl (by decide) ?_
      refine g_icmpN_ne 25 28 38 F dX1_safetyTold_25 rfl (by decide) (by omega) (by omega) (fun c_3 => ?_) (fun c_3 => ?_)
      · refine g_aload_n 38 39 F dX1_safetyTold_38 rfl rfl 0 rfl ?_
        refine g_callP 3 42 F (CallOk.V (C := "Bumpward$Walker") (b := w) (As := []) (rest := []) F 0 q468 q469 q470 q71 q471 cdV_X8_goal rfl rfl (Nat.le_of_ble_eq_true rfl) (Nat.le_of_ble_eq_true rfl) dX1_safetyTold_39) (m_X8_goal (kL K) X w h0 h1 b0 b1 nu ho po ch lo ac bu sl e f (by omega) (by omega) (by omega)) rfl (Mr := []) [0, 1, 2, 3, 4] [] rfl 5 rfl (by decide +kernel) rfl rfl (rc_of F 0 6 rfl rfl) (Nat.le_of_ble_eq_true rfl) (c2 := 1) (s2 := 36) (Nat.le_of_ble_eq_true rfl) (Nat.le_of_ble_eq_true rfl) rfl rfl (st1 := [.int (goI e f)]) rfl ?_
        exact g_iret 42 F R dX1_safetyTold_42 (Nat.le_of_ble_eq_true rfl) (Nat.le_of_ble_eq_true rfl) (⟨congrArg (fun z => some (Value.int z)) (by simp [sfI, *, nI_0, bI_t, bI_f]; try rfl), rfl⟩)
      · refine g_aload_n 28 29 F dX1_safetyTold_28 rfl rfl 0 rfl ?_
        refine g_callP 3 32 F (CallOk.V (C := "Bumpward$Walker") (b := w) (As := []) (rest := []) F 0 q463 q464 q465 q71 q466 cdV_X8_isSafe rfl rfl (Nat.le_of_ble_eq_true rfl) (Nat.le_of_ble_eq_true rfl) dX1_safetyTold_29) (m_X8_isSafe (kL K) X w h0 h1 b0 b1 nu ho po ch lo ac bu sl e f (by omega) (by omega) (by omega)) rfl (Mr := []) [0, 1, 2, 3, 4] [] rfl 5 rfl (by decide +kernel) rfl rfl (rc_of F 0 6 rfl rfl) (Nat.le_of_ble_eq_true rfl) (c2 := 4) (s2 := 144) (Nat.le_refl _) (Nat.le_refl _) rfl rfl (st1 := [.int (bI (sfB e f ho ch))]) rfl ?_
        refine g_callP 3 35 F (CallOk.S (As := [.int (bI (sfB e f ho ch))]) (rest := []) F 1 q291 q292 q49 q293 cd_X1_one rfl rfl (Nat.le_of_ble_eq_true rfl) (Nat.le_of_ble_eq_true rfl) dX1_safetyTold_32) (m_X1_one (kL K) X (sfB e f ho ch) ) rfl (Mr := [[(w, ob 6 [.int (nI (nu)), .int (nI (ho)), .ref h0, .int (nI (po)), .int (ch), .ref b0, .int (lo), .int (ac), .int (bu), .int (sl)])], [(h0, ob 4 [.ref h1])], [(h1, iA X 60 (fun k => nI (e k)))], [(b0, ob 5 [.ref b1])], [(b1, zA X 144 (f))]]) [] [0, 1, 2, 3, 4] rfl 5 rfl (by decide +kernel) rfl rfl (rc_T) (Nat.le_of_ble_eq_true rfl) (c2 := 4) (s2 := 144) (Nat.le_refl _) (Nat.le_refl _) rfl rfl (st1 := [.int (bI (sfB e f ho ch))]) rfl ?_
        refine g_goto 35 42 F dX1_safetyTold_35 (by decide) ?_
        exact g_iret 42 F R dX1_safetyTold_42 (Nat.le_refl _) (Nat.le_refl _) (⟨congrArg (fun z => some (Value.int z)) (by simp [sfI, *, nI_0, bI_t, bI_f]; try rfl), rfl⟩)
    · refine g_aload_n 16 17 F dX1_safetyTold_16 rfl rfl 0 rfl ?_
      refine g_callP 3 20 F (CallOk.V (C := "Bumpward$Walker") (b := w) (As := []) (rest := []) F 0 q458 q459 q460 q71 q461 cdV_X8_cost rfl rfl (Nat.le_of_ble_eq_true rfl) (Nat.le_of_ble_eq_true rfl) dX1_safetyTold_17) (m_X8_cost (kL K) X w h0 h1 b0 b1 nu ho po ch lo ac bu sl e f (by omega) (by omega) (by omega)) rfl (Mr := []) [0, 1, 2, 3, 4] [] rfl 5 rfl (by decide +kernel) rfl rfl (rc_of F 0 6 rfl rfl) (Nat.le_of_ble_eq_true rfl) (c2 := 2) (s2 := 72) (Nat.le_of_ble_eq_true rfl) (Nat.le_of_ble_eq_true rfl) rfl rfl (st1 := [.int (coI e f ho)]) rfl ?_
      refine g_goto 20 42 F dX1_safetyTold_20 (by decide) ?_
      exact g_iret 42 F R dX1_safetyTold_42 (Nat.le_of_ble_eq_true rfl) (Nat.le_of_ble_eq_true rfl) (⟨congrArg (fun z => some (Value.int z)) (by simp [sfI, *, nI_0, bI_t, bI_f]; try rfl), rfl⟩)
  · refine g_aload_n 4 5 F dX1_safetyTold_4 rfl rfl 0 rfl ?_
    refine g_callP 3 8 F (CallOk.V (C := "Bumpward$Walker") (b := w) (As := []) (rest := []) F 0 q430 q431 q432 q71 q433 cdV_X8_comingHome rfl rfl (Nat.le_of_ble_eq_true rfl) (Nat.le_of_ble_eq_true rfl) dX1_safetyTold_5) (m_X8_comingHome (kL K) X w h0 h1 b0 b1 nu ho po ch lo ac bu sl e f (by omega) (by omega) (by omega)) rfl (Mr := []) [0, 1, 2, 3, 4] [] rfl 5 rfl (by decide +kernel) rfl rfl (rc_of F 0 6 rfl rfl) (Nat.le_of_ble_eq_true rfl) (c2 := 1) (s2 := 36) (Nat.le_of_ble_eq_true rfl) (Nat.le_of_ble_eq_true rfl) rfl rfl (st1 := [.int (chI e f ho)]) rfl ?_
    refine g_goto 8 42 F dX1_safetyTold_8 (by decide) ?_
    exact g_iret 42 F R dX1_safetyTold_42 (Nat.le_of_ble_eq_true rfl) (Nat.le_of_ble_eq_true rfl) (⟨congrArg (fun z => some (Value.int z)) (by simp [sfI, *, nI_0, bI_t, bI_f]; try rfl), rfl⟩)
