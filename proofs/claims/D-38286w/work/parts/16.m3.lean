/-! Plan, Belief -/
theorem cd_X10_canFeel : yX10_canFeel.cls ≠ "java/lang/invoke/MethodHandle" ∧ yX10_canFeel.cls ≠ "java/lang/invoke/VarHandle" ∧ (parseMethodDescriptor yX10_canFeel.desc).map (fun d => d.parameters.length) = some 3 := by decide +kernel
theorem cd_X10_init : yX10_init.cls ≠ "java/lang/invoke/MethodHandle" ∧ yX10_init.cls ≠ "java/lang/invoke/VarHandle" ∧ (parseMethodDescriptor yX10_init.desc).map (fun d => d.parameters.length) = some 0 := by decide +kernel
theorem cdV_X10_size : yX10_size.cls = "Bumpward$Belief" ∧ yX10_size.cls ≠ "java/lang/invoke/MethodHandle" ∧ yX10_size.cls ≠ "java/lang/invoke/VarHandle" ∧ (parseMethodDescriptor yX10_size.desc).map (fun d => d.parameters.length) = some 0 := by decide +kernel
theorem cd_X1_turn_2 : yX1_turn_2.cls ≠ "java/lang/invoke/MethodHandle" ∧ yX1_turn_2.cls ≠ "java/lang/invoke/VarHandle" ∧ (parseMethodDescriptor yX1_turn_2.desc).map (fun d => d.parameters.length) = some 2 := by decide +kernel
theorem cdV_X9_canBe : yX9_canBe.cls = "Bumpward$Plan" ∧ yX9_canBe.cls ≠ "java/lang/invoke/MethodHandle" ∧ yX9_canBe.cls ≠ "java/lang/invoke/VarHandle" ∧ (parseMethodDescriptor yX9_canBe.desc).map (fun d => d.parameters.length) = some 3 := by decide +kernel
theorem cdV_X9_spread : yX9_spread.cls = "Bumpward$Plan" ∧ yX9_spread.cls ≠ "java/lang/invoke/MethodHandle" ∧ yX9_spread.cls ≠ "java/lang/invoke/VarHandle" ∧ (parseMethodDescriptor yX9_spread.desc).map (fun d => d.parameters.length) = some 2 := by decide +kernel
set_option maxHeartbeats 4000000 in
theorem m_X9_spread (l : Launch) (X : gk_X) (h0 h1 : Nat) (e : Nat → Nat) (fa c : Nat) (g : Nat → Int32) (he : ∀ k, k < 60 → e k < 3) (hc : c < 36) : Ct l X yX9_spread cX9_spread 5 none 5 0 0 [.ref h0, .ref fa, .int (nI (c))] [[(h0, ob 4 [.ref h1])], [(h1, iA X 60 (fun k => nI (e k)))], [(fa, iA X 36 (g))]] (fun v M' => v = none ∧ M' = [[(h0, ob 4 [.ref h1])], [(h1, iA X 60 (fun k => nI (e k)))], [(fa, iA X 36 (spN e c g 4))]]) := by
  refine Ct.of (by decide) (Nat.le_of_ble_eq_true rfl) "Bumpward$Plan" "spread" rfl rfl (fun K F eL R => ?_)
  subst eL
  show G K X 5 0 0 [[(h0, ob 4 [.ref h1])], [(h1, iA X 60 (fun k => nI (e k)))], [(fa, iA X 36 (g))]] [(0, .ref h0), (1, .ref fa), (2, .int (nI (c)))] 0 []
  refine g_iconst 0 1 F (nI (0)) dX9_spread_0 rfl (by decide) ?_
  refine g_istore_n 1 2 F [(3, .int (nI (0))), (0, .ref h0), (1, .ref fa), (2, .int (nI (c)))] dX9_spread_1 rfl rfl (Nat.le_of_ble_eq_true rfl) rfl ?_
  refine g_ls [(0, .ref h0), (1, .ref fa), (2, .int (nI (c))), (3, .int (nI (0)))] [1, 2, 3, 0] (rfl) ?_
  refine g_down (P := fun i => G K X 5 0 0 [[(h0, ob 4 [.ref h1])], [(h1, iA X 60 (fun k => nI (e k)))], [(fa, iA X 36 (spN e c g i))]] [(0, .ref h0), (1, .ref fa), (2, .int (nI (c))), (3, .int (nI (i)))] 2 []) 4 0 (by omega) ?_ (fun i hl_i hi_i ih_i => ?_)
  · show G K X 5 0 0 [[(h0, ob 4 [.ref h1])], [(h1, iA X 60 (fun k => nI (e k)))], [(fa, iA X 36 (spN e c g 4))]] [(0, .ref h0), (1, .ref fa), (2, .int (nI (c))), (3, .int (nI (4)))] 2 []
    refine g_iload_n 2 3 F dX9_spread_2 rfl rfl 3 rfl ?_
    refine g_iconst 3 4 F (nI (4)) dX9_spread_3 rfl (by decide) ?_
    refine g_icmpN_ge 4 7 47 F dX9_spread_4 rfl (by decide) (by omega) (by omega) (fun c_1 => ?_) (fun c_1 => ?_)
    · exact g_vret 47 F R dX9_spread_47 (Nat.zero_le _) (Nat.zero_le _) (⟨rfl, rfl⟩)
    · exact absurd c_1 (by omega)
  · show G K X 5 0 0 [[(h0, ob 4 [.ref h1])], [(h1, iA X 60 (fun k => nI (e k)))], [(fa, iA X 36 (spN e c g i))]] [(0, .ref h0), (1, .ref fa), (2, .int (nI (c))), (3, .int (nI (i)))] 2 []
    have hat := atN_lt he hc hi_i
    refine g_iload_n 2 3 F dX9_spread_2 rfl rfl 3 rfl ?_
    refine g_iconst 3 4 F (nI (4)) dX9_spread_3 rfl (by decide) ?_
    refine g_icmpN_ge 4 7 47 F dX9_spread_4 rfl (by decide) (by omega) (by omega) (fun c_2 => ?_) (fun c_2 => ?_)
    · exact absurd c_2 (by omega)
    · refine g_iload_n 7 8 F dX9_spread_7 rfl rfl 2 rfl ?_
      refine g_iload_n 8 9 F dX9_spread_8 rfl rfl 3 rfl ?_
      refine g_callP 3 12 F (CallOk.SN (As := [.int (nI (c)), .int (nI (i))]) (rest := []) F 2 q452 q360 q49 q361 cd_X1_beside rfl rfl (Nat.le_of_ble_eq_true rfl) (Nat.le_of_ble_eq_true rfl) dX9_spread_9) (m_X1_beside (kL K) X c i (by omega) (by omega)) rfl (Mr := [[(h0, ob 4 [.ref h1])], [(h1, iA X 60 (fun k => nI (e k)))], [(fa, iA X 36 (spN e c g i))]]) [] [0, 1, 2] rfl 3 rfl (by decide +kernel) rfl rfl (rc_T) (Nat.le_of_ble_eq_true rfl) (c2 := 0) (s2 := 0) (Nat.zero_le _) (Nat.zero_le _) rfl rfl (st1 := [.int (bsI c i)]) rfl ?_
      refine g_istore 12 14 F [(4, .int (bsI c i)), (0, .ref h0), (1, .ref fa), (2, .int (nI (c))), (3, .int (nI (i)))] dX9_spread_12 rfl (Nat.le_of_ble_eq_true rfl) rfl ?_
      refine g_aload_n 14 15 F dX9_spread_14 rfl rfl 1 rfl ?_
      refine g_iload_n 15 16 F dX9_spread_15 rfl rfl 3 rfl ?_
      refine g_iload_n 16 17 F dX9_spread_16 rfl rfl 4 rfl ?_
      refine g_callP 3 20 F (CallOk.V (C := "Bumpward$Plan") (b := h0) (As := [.int (nI (c)), .int (nI (i))]) (rest := []) F 2 q453 q454 q455 q72 q456 cdV_X9_at rfl rfl (Nat.le_of_ble_eq_true rfl) (Nat.le_of_ble_eq_true rfl) dX9_spread_17) (m_X9_at (kL K) X h0 h1 e c i (by omega) (by omega)) rfl (Mr := [[(fa, iA X 36 (spN e c g i))]]) [0, 1] [2] rfl 3 rfl (by decide +kernel) rfl rfl (rc_of F 0 4 rfl rfl) (Nat.le_of_ble_eq_true rfl) (c2 := 0) (s2 := 0) (Nat.zero_le _) (Nat.zero_le _) rfl rfl (st1 := [.int (nI (atN e c i))]) rfl ?_
      refine g_iconst 20 21 F (nI (1)) dX9_spread_20 rfl (by decide) ?_
      refine g_icmpN_ne 21 24 41 F dX9_spread_21 rfl (by decide) (by omega) (by omega) (fun c_3 => ?_) (fun c_3 => ?_)
      · rw [← spN_keep (g := g) (fun h => c_3 h.1)]
        refine g_iinc 41 44 F (v := nI (i + 1)) [(3, .int (nI (i + 1))), (4, .int (bsI c i)), (0, .ref h0), (1, .ref fa), (2, .int (nI (c)))] dX9_spread_41 rfl 4 rfl (nI_add _ _) (Nat.le_of_ble_eq_true rfl) rfl ?_
        refine g_goto 44 2 F dX9_spread_44 (by decide) ?_
        refine g_ls [(0, .ref h0), (1, .ref fa), (2, .int (nI (c))), (3, .int (nI (i + 1)))] [2, 3, 4, 0] (rfl) ?_
        exact ih_i
      · have hA := c_3
        have hbn := atN_1 c_3
        have hbl := bsD_lt hc hi_i
        refine g_aload_n 24 25 F dX9_spread_24 rfl rfl 2 rfl ?_
        refine g_iload 25 27 F dX9_spread_25 rfl 0 rfl ?_
        refine g_top (v := nI (bsD c i)) (bsI_nI hbn) ?_
        refine g_iald 27 28 F dX9_spread_27 rfl 2 (i := bsD c i) rfl (Nat.le_of_ble_eq_true rfl) (by omega) ?_
        refine g_iconst 28 29 F (-1) dX9_spread_28 rfl (by decide) ?_
        refine g_icmp_ne 29 32 41 F dX9_spread_29 rfl (by decide) (fun c_4 => ?_) (fun c_4 => ?_)
        · rw [← spN_keep (g := g) (fun h => c_4 h.2)]
          refine g_iinc 41 44 F (v := nI (i + 1)) [(3, .int (nI (i + 1))), (4, .int (bsI c i)), (0, .ref h0), (1, .ref fa), (2, .int (nI (c)))] dX9_spread_41 rfl 4 rfl (nI_add _ _) (Nat.le_of_ble_eq_true rfl) rfl ?_
          refine g_goto 44 2 F dX9_spread_44 (by decide) ?_
          refine g_ls [(0, .ref h0), (1, .ref fa), (2, .int (nI (c))), (3, .int (nI (i + 1)))] [2, 3, 4, 0] (rfl) ?_
          exact ih_i
        · have hB := c_4
          refine g_aload_n 32 33 F dX9_spread_32 rfl rfl 2 rfl ?_
          refine g_iload 33 35 F dX9_spread_33 rfl 0 rfl ?_
          refine g_top (v := nI (bsD c i)) (bsI_nI hbn) ?_
          refine g_aload_n 35 36 F dX9_spread_35 rfl rfl 2 rfl ?_
          refine g_iload_n 36 37 F dX9_spread_36 rfl rfl 3 rfl ?_
          refine g_iald 37 38 F dX9_spread_37 rfl 2 (i := c) rfl (Nat.le_of_ble_eq_true rfl) (by omega) ?_
          refine g_iconst 38 39 F (nI (1)) dX9_spread_38 rfl (by decide) ?_
          refine g_iadd 39 40 F (v := ((spN e c g i) c) + (nI (1))) dX9_spread_39 rfl (rfl) ?_
          refine g_iast 40 41 F dX9_spread_40 rfl 2 (i := bsD c i) rfl (Nat.le_of_ble_eq_true rfl) (by omega) (f' := spN e c g (i + 1)) (spN_st hA hB) (M' := [[(h0, ob 4 [.ref h1])], [(h1, iA X 60 (fun k => nI (e k)))], [(fa, iA X 36 (spN e c g (i + 1)))]]) rfl ?_
          refine g_iinc 41 44 F (v := nI (i + 1)) [(3, .int (nI (i + 1))), (4, .int (bsI c i)), (0, .ref h0), (1, .ref fa), (2, .int (nI (c)))] dX9_spread_41 rfl 4 rfl (nI_add _ _) (Nat.le_of_ble_eq_true rfl) rfl ?_
          refine g_goto 44 2 F dX9_spread_44 (by decide) ?_
          refine g_ls [(0, .ref h0), (1, .ref fa), (2, .int (nI (c))), (3, .int (nI (i + 1)))] [2, 3, 4, 0] (rfl) ?_
          exact ih_i

set_option maxHeartbeats 4000000 in
theorem m_X9_ways (l : Launch) (X : gk_X) (h0 h1 : Nat) (e : Nat → Nat) (f : Nat) (he : ∀ k, k < 60 → e k < 3) (hf : f < 36) : Ct l X yX9_ways cX9_ways 5 (some (.array .int)) 6 1 36 [.ref h0, .int (nI (f))] [[(h0, ob 4 [.ref h1])], [(h1, iA X 60 (fun k => nI (e k)))]] (fun v M' => ∃ q, v = some (.ref q) ∧ M' = [[(h0, ob 4 [.ref h1])], [(h1, iA X 60 (fun k => nI (e k)))], [(q, iA X 36 (wyF e f))]]) := by
  refine Ct.of (by decide) (Nat.le_of_ble_eq_true rfl) "Bumpward$Plan" "ways" rfl rfl (fun K F eL R => ?_)
  subst eL
  show G K X 5 0 0 [[(h0, ob 4 [.ref h1])], [(h1, iA X 60 (fun k => nI (e k)))]] [(0, .ref h0), (1, .int (nI (f)))] 0 []
  refine g_bipush 0 2 F (nI (36)) dX9_ways_0 rfl (by decide) ?_
  refine g_newI 2 4 F dX9_ways_2 rfl (n := 36) (Nat.le_of_ble_eq_true rfl) (c2 := 1) (s2 := 36) (Nat.le_refl _) (Nat.le_refl _) rfl rfl (M' := fun q => [[(h0, ob 4 [.ref h1])], [(h1, iA X 60 (fun k => nI (e k)))], [(q, iA X 36 (fun _ => 0))]]) (fun _ => rfl) (fun q => ?_)
  show G K X 5 1 36 [[(h0, ob 4 [.ref h1])], [(h1, iA X 60 (fun k => nI (e k)))], [(q, iA X 36 (fun _ => 0))]] [(0, .ref h0), (1, .int (nI (f)))] 4 [.ref q]
  refine g_astore_n 4 5 F [(2, .ref q), (0, .ref h0), (1, .int (nI (f)))] dX9_ways_4 rfl rfl (Nat.le_of_ble_eq_true rfl) rfl ?_
  refine g_iconst 5 6 F (nI (0)) dX9_ways_5 rfl (by decide) ?_
  refine g_istore_n 6 7 F [(3, .int (nI (0))), (2, .ref q), (0, .ref h0), (1, .int (nI (f)))] dX9_ways_6 rfl rfl (Nat.le_of_ble_eq_true rfl) rfl ?_
  refine g_ls [(0, .ref h0), (1, .int (nI (f))), (2, .ref q), (3, .int (nI (0)))] [2, 3, 1, 0] (rfl) ?_
  refine g_arr 2 rfl (g := fun j => if j < 0 then w0F f j else (fun _ => 0) j) (fun j hj => by simp) rfl ?_
  refine g_down (P := fun i => G K X 5 1 36 [[(h0, ob 4 [.ref h1])], [(h1, iA X 60 (fun k => nI (e k)))], [(q, iA X 36 (fun j => if j < i then w0F f j else (fun _ => 0) j))]] [(0, .ref h0), (1, .int (nI (f))), (2, .ref q), (3, .int (nI (i)))] 7 []) 36 0 (by omega) ?_ (fun i hl_i hi_i ih_i => ?_)
  · show G K X 5 1 36 [[(h0, ob 4 [.ref h1])], [(h1, iA X 60 (fun k => nI (e k)))], [(q, iA X 36 (fun j => if j < 36 then w0F f j else (fun _ => 0) j))]] [(0, .ref h0), (1, .int (nI (f))), (2, .ref q), (3, .int (nI (36)))] 7 []
    refine g_iload_n 7 8 F dX9_ways_7 rfl rfl 3 rfl ?_
    refine g_bipush 8 10 F (nI (36)) dX9_ways_8 rfl (by decide) ?_
    refine g_icmpN_ge 10 13 32 F dX9_ways_10 rfl (by decide) (by omega) (by omega) (fun c_1 => ?_) (fun c_1 => ?_)
    · refine g_iconst 32 33 F (nI (0)) dX9_ways_32 rfl (by decide) ?_
      refine g_istore_n 33 34 F [(3, .int (nI (0))), (0, .ref h0), (1, .int (nI (f))), (2, .ref q)] dX9_ways_33 rfl rfl (Nat.le_of_ble_eq_true rfl) rfl ?_
      refine g_ls [(0, .ref h0), (1, .int (nI (f))), (2, .ref q), (3, .int (nI (0)))] [1, 2, 3, 0] (rfl) ?_
      refine g_arr 2 rfl (g := woF e (w0F f) 0) (fun j hj => by simp [woF, hj]) rfl ?_
      refine g_down (P := fun t => G K X 5 1 36 [[(h0, ob 4 [.ref h1])], [(h1, iA X 60 (fun k => nI (e k)))], [(q, iA X 36 (woF e (w0F f) t))]] [(0, .ref h0), (1, .int (nI (f))), (2, .ref q), (3, .int (nI (t)))] 34 []) 36 0 (by omega) ?_ (fun t hl_t hi_t ih_t => ?_)
      · show G K X 5 1 36 [[(h0, ob 4 [.ref h1])], [(h1, iA X 60 (fun k => nI (e k)))], [(q, iA X 36 (woF e (w0F f) 36))]] [(0, .ref h0), (1, .int (nI (f))), (2, .ref q), (3, .int (nI (36)))] 34 []
        refine g_iload_n 34 35 F dX9_ways_34 rfl rfl 3 rfl ?_
        refine g_bipush 35 37 F (nI (36)) dX9_ways_35 rfl (by decide) ?_
        refine g_icmpN_ge 37 40 77 F dX9_ways_37 rfl (by decide) (by omega) (by omega) (fun c_2 => ?_) (fun c_2 => ?_)
        · refine g_aload_n 77 78 F dX9_ways_77 rfl rfl 2 rfl ?_
          exact g_aret 78 F R dX9_ways_78 (Nat.le_refl _) (Nat.le_refl _) (Or.inr ⟨_, rfl⟩) (⟨q, rfl, rfl⟩)
        · exact absurd c_2 (by omega)
      · show G K X 5 1 36 [[(h0, ob 4 [.ref h1])], [(h1, iA X 60 (fun k => nI (e k)))], [(q, iA X 36 (woF e (w0F f) t))]] [(0, .ref h0), (1, .int (nI (f))), (2, .ref q), (3, .int (nI (t)))] 34 []
        refine g_iload_n 34 35 F dX9_ways_34 rfl rfl 3 rfl ?_
        refine g_bipush 35 37 F (nI (36)) dX9_ways_35 rfl (by decide) ?_
        refine g_icmpN_ge 37 40 77 F dX9_ways_37 rfl (by decide) (by omega) (by omega) (fun c_3 => ?_) (fun c_3 => ?_)
        · exact absurd c_3 (by omega)
        · refine g_iconst 40 41 F (nI (0)) dX9_ways_40 rfl (by decide) ?_
          refine g_istore 41 43 F [(4, .int (nI (0))), (0, .ref h0), (1, .int (nI (f))), (2, .ref q), (3, .int (nI (t)))] dX9_ways_41 rfl (Nat.le_of_ble_eq_true rfl) rfl ?_
          refine g_ls [(0, .ref h0), (1, .int (nI (f))), (2, .ref q), (3, .int (nI (t))), (4, .int (nI (0)))] [1, 2, 3, 4, 0] (rfl) ?_
          refine g_down (P := fun k => G K X 5 1 36 [[(h0, ob 4 [.ref h1])], [(h1, iA X 60 (fun k => nI (e k)))], [(q, iA X 36 (wkF e t (woF e (w0F f) t) k))]] [(0, .ref h0), (1, .int (nI (f))), (2, .ref q), (3, .int (nI (t))), (4, .int (nI (k)))] 43 []) 36 0 (by omega) ?_ (fun k hl_k hi_k ih_k => ?_)
          · show G K X 5 1 36 [[(h0, ob 4 [.ref h1])], [(h1, iA X 60 (fun k => nI (e k)))], [(q, iA X 36 (wkF e t (woF e (w0F f) t) 36))]] [(0, .ref h0), (1, .int (nI (f))), (2, .ref q), (3, .int (nI (t))), (4, .int (nI (36)))] 43 []
            refine g_iload 43 45 F dX9_ways_43 rfl 4 rfl ?_
            refine g_bipush 45 47 F (nI (36)) dX9_ways_45 rfl (by decide) ?_
            refine g_icmpN_ge 47 50 71 F dX9_ways_47 rfl (by decide) (by omega) (by omega) (fun c_4 => ?_) (fun c_4 => ?_)
            · refine g_iinc 71 74 F (v := nI (t + 1)) [(3, .int (nI (t + 1))), (0, .ref h0), (1, .int (nI (f))), (2, .ref q), (4, .int (nI (36)))] dX9_ways_71 rfl 3 rfl (nI_add _ _) (Nat.le_of_ble_eq_true rfl) rfl ?_
              refine g_goto 74 34 F dX9_ways_74 (by decide) ?_
              refine g_ls [(0, .ref h0), (1, .int (nI (f))), (2, .ref q), (3, .int (nI (t + 1)))] [1, 2, 3, 0] (rfl) ?_
              exact ih_t
            · exact absurd c_4 (by omega)
          · show G K X 5 1 36 [[(h0, ob 4 [.ref h1])], [(h1, iA X 60 (fun k => nI (e k)))], [(q, iA X 36 (wkF e t (woF e (w0F f) t) k))]] [(0, .ref h0), (1, .int (nI (f))), (2, .ref q), (3, .int (nI (t))), (4, .int (nI (k)))] 43 []
            refine g_iload 43 45 F dX9_ways_43 rfl 4 rfl ?_
            refine g_bipush 45 47 F (nI (36)) dX9_ways_45 rfl (by decide) ?_
            refine g_icmpN_ge 47 50 71 F dX9_ways_47 rfl (by decide) (by omega) (by omega) (fun c_5 => ?_) (fun c_5 => ?_)
            · exact absurd c_5 (by omega)
            · refine g_aload_n 50 51 F dX9_ways_50 rfl rfl 2 rfl ?_
              refine g_iload 51 53 F dX9_ways_51 rfl 4 rfl ?_
              refine g_iald 53 54 F dX9_ways_53 rfl 2 (i := k) rfl (Nat.le_of_ble_eq_true rfl) (by omega) ?_
              refine g_iload_n 54 55 F dX9_ways_54 rfl rfl 3 rfl ?_
              refine g_icmp_ne 55 58 65 F dX9_ways_55 rfl (by decide) (fun c_6 => ?_) (fun c_6 => ?_)
              · rw [wkF_miss c_6]
                try rw [wkF_hit hH]
                refine g_iinc 65 68 F (v := nI (k + 1)) [(4, .int (nI (k + 1))), (0, .ref h0), (1, .int (nI (f))), (2, .ref q), (3, .int (nI (t)))] dX9_ways_65 rfl 4 rfl (nI_add _ _) (Nat.le_of_ble_eq_true rfl) rfl ?_
                refine g_goto 68 43 F dX9_ways_68 (by decide) ?_
                refine g_ls [(0, .ref h0), (1, .int (nI (f))), (2, .ref q), (3, .int (nI (t))), (4, .int (nI (k + 1)))] [1, 2, 3, 4, 0] (rfl) ?_
                exact ih_k
              · have hH := c_6
                refine g_aload_n 58 59 F dX9_ways_58 rfl rfl 0 rfl ?_
                refine g_aload_n 59 60 F dX9_ways_59 rfl rfl 2 rfl ?_
                refine g_iload 60 62 F dX9_ways_60 rfl 4 rfl ?_
                refine g_call 3 65 F (CallOk.V (C := "Bumpward$Plan") (b := h0) (As := [.ref q, .int (nI (k))]) (rest := []) F 2 q447 q449 qs13 q72 q451 cdV_X9_spread rfl rfl (Nat.le_of_ble_eq_true rfl) (Nat.le_of_ble_eq_true rfl) dX9_ways_62) (m_X9_spread (kL K) X h0 h1 e q k (wkF e t (woF e (w0F f) t) k) (by omega) (by omega)) rfl (Mr := []) [0, 1, 2] [] rfl rfl rfl (rc_of F 0 4 rfl rfl) (Nat.le_of_ble_eq_true rfl) (c2 := 1) (s2 := 36) (Nat.le_refl _) (Nat.le_refl _) rfl rfl (fun v M1 hp => ?_)
                obtain ⟨rfl, rfl⟩ := hp
                show G K X 5 1 36 [[(h0, ob 4 [.ref h1])], [(h1, iA X 60 (fun k => nI (e k)))], [(q, iA X 36 (spN e k (wkF e t (woF e (w0F f) t) k) 4))]] [(0, .ref h0), (1, .int (nI (f))), (2, .ref q), (3, .int (nI (t))), (4, .int (nI (k)))] 65 []
                try rw [wkF_hit hH]
                refine g_iinc 65 68 F (v := nI (k + 1)) [(4, .int (nI (k + 1))), (0, .ref h0), (1, .int (nI (f))), (2, .ref q), (3, .int (nI (t)))] dX9_ways_65 rfl 4 rfl (nI_add _ _) (Nat.le_of_ble_eq_true rfl) rfl ?_
                refine g_goto 68 43 F dX9_ways_68 (by decide) ?_
                refine g_ls [(0, .ref h0), (1, .int (nI (f))), (2, .ref q), (3, .int (nI (t))), (4, .int (nI (k + 1)))] [1, 2, 3, 4, 0] (rfl) ?_
                exact ih_k
    · exact absurd c_1 (by omega)
  · show G K X 5 1 36 [[(h0, ob 4 [.ref h1])], [(h1, iA X 60 (fun k => nI (e k)))], [(q, iA X 36 (fun j => if j < i then w0F f j else (fun _ => 0) j))]] [(0, .ref h0), (1, .int (nI (f))), (2, .ref q), (3, .int (nI (i)))] 7 []
    refine g_iload_n 7 8 F dX9_ways_7 rfl rfl 3 rfl ?_
    refine g_bipush 8 10 F (nI (36)) dX9_ways_8 rfl (by decide) ?_
    refine g_icmpN_ge 10 13 32 F dX9_ways_10 rfl (by decide) (by omega) (by omega) (fun c_7 => ?_) (fun c_7 => ?_)
    · exact absurd c_7 (by omega)
    · refine g_aload_n 13 14 F dX9_ways_13 rfl rfl 2 rfl ?_
      refine g_iload_n 14 15 F dX9_ways_14 rfl rfl 3 rfl ?_
      refine g_iload_n 15 16 F dX9_ways_15 rfl rfl 3 rfl ?_
      refine g_iload_n 16 17 F dX9_ways_16 rfl rfl 1 rfl ?_
      refine g_icmpN_ne 17 20 24 F dX9_ways_17 rfl (by decide) (by omega) (by omega) (fun c_8 => ?_) (fun c_8 => ?_)
      · refine g_iconst 24 25 F (-1) dX9_ways_24 rfl (by decide) ?_
        refine g_top (v := w0F f i) (by simp [w0F, *]) ?_
        refine g_iast 25 26 F dX9_ways_25 rfl 2 (i := i) rfl (Nat.le_of_ble_eq_true rfl) (by omega) (f' := fun j => if j < i + 1 then w0F f j else (fun _ => 0) j) (upd_lt (w0F f) (fun _ => 0) i) (M' := [[(h0, ob 4 [.ref h1])], [(h1, iA X 60 (fun k => nI (e k)))], [(q, iA X 36 (fun j => if j < i + 1 then w0F f j else (fun _ => 0) j))]]) rfl ?_
        refine g_iinc 26 29 F (v := nI (i + 1)) [(3, .int (nI (i + 1))), (0, .ref h0), (1, .int (nI (f))), (2, .ref q)] dX9_ways_26 rfl 3 rfl (nI_add _ _) (Nat.le_of_ble_eq_true rfl) rfl ?_
        refine g_goto 29 7 F dX9_ways_29 (by decide) ?_
        refine g_ls [(0, .ref h0), (1, .int (nI (f))), (2, .ref q), (3, .int (nI (i + 1)))] [1, 2, 3, 0] (rfl) ?_
        exact ih_i
      · refine g_iconst 20 21 F (nI (0)) dX9_ways_20 rfl (by decide) ?_
        refine g_goto 21 25 F dX9_ways_21 (by decide) ?_
        refine g_top (v := w0F f i) (by simp [w0F, *]) ?_
        refine g_iast 25 26 F dX9_ways_25 rfl 2 (i := i) rfl (Nat.le_of_ble_eq_true rfl) (by omega) (f' := fun j => if j < i + 1 then w0F f j else (fun _ => 0) j) (upd_lt (w0F f) (fun _ => 0) i) (M' := [[(h0, ob 4 [.ref h1])], [(h1, iA X 60 (fun k => nI (e k)))], [(q, iA X 36 (fun j => if j < i + 1 then w0F f j else (fun _ => 0) j))]]) rfl ?_
        refine g_iinc 26 29 F (v := nI (i + 1)) [(3, .int (nI (i + 1))), (0, .ref h0), (1, .int (nI (f))), (2, .ref q)] dX9_ways_26 rfl 3 rfl (nI_add _ _) (Nat.le_of_ble_eq_true rfl) rfl ?_
        refine g_goto 29 7 F dX9_ways_29 (by decide) ?_
        refine g_ls [(0, .ref h0), (1, .int (nI (f))), (2, .ref q), (3, .int (nI (i + 1)))] [1, 2, 3, 0] (rfl) ?_
        exact ih_i

set_option maxHeartbeats 4000000 in
theorem m_X9_learn (l : Launch) (X : gk_X) (h0 h1 : Nat) (e : Nat → Nat) (h2 h3 : Nat) (o : Nat → Nat) (he : ∀ k, k < 60 → e k < 3) (ho : ∀ k, k < 60 → o k < 3) : Ct l X yX9_learn cX9_learn 4 (some .int) 1 0 0 [.ref h0, .ref h2] [[(h0, ob 4 [.ref h1])], [(h1, iA X 60 (fun k => nI (e k)))], [(h2, ob 4 [.ref h3])], [(h3, iA X 60 (fun k => nI (o k)))]] (fun v M' => v = some (.int (nI (cnt (fun j => decide (e j = 0) && decide (¬ o j = 0)) 60))) ∧ M' = [[(h0, ob 4 [.ref h1])], [(h1, iA X 60 (fun k => nI ((lnE e o 60) k)))], [(h2, ob 4 [.ref h3])], [(h3, iA X 60 (fun k => nI (o k)))]]) := by
  refine Ct.of (by decide) (Nat.le_of_ble_eq_true rfl) "Bumpward$Plan" "learn" rfl rfl (fun K F eL R => ?_)
  subst eL
  show G K X 4 0 0 [[(h0, ob 4 [.ref h1])], [(h1, iA X 60 (fun k => nI (e k)))], [(h2, ob 4 [.ref h3])], [(h3, iA X 60 (fun k => nI (o k)))]] [(0, .ref h0), (1, .ref h2)] 0 []
  refine g_iconst 0 1 F (nI (0)) dX9_learn_0 rfl (by decide) ?_
  refine g_istore_n 1 2 F [(2, .int (nI (0))), (0, .ref h0), (1, .ref h2)] dX9_learn_1 rfl rfl (Nat.le_of_ble_eq_true rfl) rfl ?_
  refine g_iconst 2 3 F (nI (0)) dX9_learn_2 rfl (by decide) ?_
  refine g_istore_n 3 4 F [(3, .int (nI (0))), (2, .int (nI (0))), (0, .ref h0), (1, .ref h2)] dX9_learn_3 rfl rfl (Nat.le_of_ble_eq_true rfl) rfl ?_
  refine g_ls [(0, .ref h0), (1, .ref h2), (2, .int (nI (cnt (fun j => decide (e j = 0) && decide (¬ o j = 0)) 0))), (3, .int (nI (0)))] [2, 3, 1, 0] (rfl) ?_
  refine g_arr 1 rfl (g := fun k => nI ((lnE e o 0) k)) (fun j hj => by simp [lnE]) rfl ?_
  refine g_down (P := fun i => G K X 4 0 0 [[(h0, ob 4 [.ref h1])], [(h1, iA X 60 (fun k => nI ((lnE e o i) k)))], [(h2, ob 4 [.ref h3])], [(h3, iA X 60 (fun k => nI (o k)))]] [(0, .ref h0), (1, .ref h2), (2, .int (nI (cnt (fun j => decide (e j = 0) && decide (¬ o j = 0)) i))), (3, .int (nI (i)))] 4 []) 60 0 (by omega) ?_ (fun i hl_i hi_i ih_i => ?_)
  · show G K X 4 0 0 [[(h0, ob 4 [.ref h1])], [(h1, iA X 60 (fun k => nI ((lnE e o 60) k)))], [(h2, ob 4 [.ref h3])], [(h3, iA X 60 (fun k => nI (o k)))]] [(0, .ref h0), (1, .ref h2), (2, .int (nI (cnt (fun j => decide (e j = 0) && decide (¬ o j = 0)) 60))), (3, .int (nI (60)))] 4 []
    refine g_iload_n 4 5 F dX9_learn_4 rfl rfl 3 rfl ?_
    refine g_bipush 5 7 F (nI (60)) dX9_learn_5 rfl (by decide) ?_
    refine g_icmpN_ge 7 10 52 F dX9_learn_7 rfl (by decide) (by omega) (by omega) (fun c_1 => ?_) (fun c_1 => ?_)
    · refine g_iload_n 52 53 F dX9_learn_52 rfl rfl 2 rfl ?_
      exact g_iret 53 F R dX9_learn_53 (Nat.zero_le _) (Nat.zero_le _) (⟨rfl, rfl⟩)
    · exact absurd c_1 (by omega)
  · show G K X 4 0 0 [[(h0, ob 4 [.ref h1])], [(h1, iA X 60 (fun k => nI ((lnE e o i) k)))], [(h2, ob 4 [.ref h3])], [(h3, iA X 60 (fun k => nI (o k)))]] [(0, .ref h0), (1, .ref h2), (2, .int (nI (cnt (fun j => decide (e j = 0) && decide (¬ o j = 0)) i))), (3, .int (nI (i)))] 4 []
    have he_i := he i hi_i
    have ho_i := ho i hi_i
    refine g_iload_n 4 5 F dX9_learn_4 rfl rfl 3 rfl ?_
    refine g_bipush 5 7 F (nI (60)) dX9_learn_5 rfl (by decide) ?_
    refine g_icmpN_ge 7 10 52 F dX9_learn_7 rfl (by decide) (by omega) (by omega) (fun c_2 => ?_) (fun c_2 => ?_)
    · exact absurd c_2 (by omega)
    · refine g_aload_n 10 11 F dX9_learn_10 rfl rfl 0 rfl ?_
      refine g_get 11 14 F (ci := 4) in_X9 rfl 0 (by decide) q749 (fun _ h => h) dX9_learn_11 rfl 0 rfl (v := .ref h1) rfl ?_
      refine g_iload_n 14 15 F dX9_learn_14 rfl rfl 3 rfl ?_
      refine g_iald 15 16 F dX9_learn_15 rfl 1 (i := i) rfl (Nat.le_of_ble_eq_true rfl) (by omega) ?_
      refine g_top (v := nI (e i)) (by rw [lnE_at]) ?_
      refine g_ifN_ne 16 19 46 F dX9_learn_16 rfl (by decide) (by omega) (fun c_3 => ?_) (fun c_3 => ?_)
      · rw [lnE_keep (e := e) (o := o) (i := i) (Or.inl c_3)]
        refine g_iinc 46 49 F (v := nI (i + 1)) [(3, .int (nI (i + 1))), (0, .ref h0), (1, .ref h2), (2, .int (nI (cnt (fun j => decide (e j = 0) && decide (¬ o j = 0)) i)))] dX9_learn_46 rfl 3 rfl (nI_add _ _) (Nat.le_of_ble_eq_true rfl) rfl ?_
        refine g_goto 49 4 F dX9_learn_49 (by decide) ?_
        refine g_ls [(0, .ref h0), (1, .ref h2), (2, .int (nI (cnt (fun j => decide (e j = 0) && decide (¬ o j = 0)) (i + 1)))), (3, .int (nI (i + 1)))] [1, 2, 3, 0] (by first | (rw [cnt_F (by simp [*])]; rfl) | (rw [cnt_T (by simp [*])]; rfl)) ?_
        exact ih_i
      · have hE := c_3
        refine g_aload_n 19 20 F dX9_learn_19 rfl rfl 1 rfl ?_
        refine g_get 20 23 F (ci := 4) in_X9 rfl 0 (by decide) q749 (fun _ h => h) dX9_learn_20 rfl 2 rfl (v := .ref h3) rfl ?_
        refine g_iload_n 23 24 F dX9_learn_23 rfl rfl 3 rfl ?_
        refine g_iald 24 25 F dX9_learn_24 rfl 3 (i := i) rfl (Nat.le_of_ble_eq_true rfl) (by omega) ?_
        refine g_top (v := nI (o i)) rfl ?_
        refine g_ifN_ne 25 28 31 F dX9_learn_25 rfl (by decide) (by omega) (fun c_4 => ?_) (fun c_4 => ?_)
        · refine g_aload_n 31 32 F dX9_learn_31 rfl rfl 0 rfl ?_
          refine g_get 32 35 F (ci := 4) in_X9 rfl 0 (by decide) q749 (fun _ h => h) dX9_learn_32 rfl 0 rfl (v := .ref h1) rfl ?_
          refine g_iload_n 35 36 F dX9_learn_35 rfl rfl 3 rfl ?_
          refine g_aload_n 36 37 F dX9_learn_36 rfl rfl 1 rfl ?_
          refine g_get 37 40 F (ci := 4) in_X9 rfl 0 (by decide) q749 (fun _ h => h) dX9_learn_37 rfl 2 rfl (v := .ref h3) rfl ?_
          refine g_iload_n 40 41 F dX9_learn_40 rfl rfl 3 rfl ?_
          refine g_iald 41 42 F dX9_learn_41 rfl 3 (i := i) rfl (Nat.le_of_ble_eq_true rfl) (by omega) ?_
          refine g_top (v := nI (o i)) rfl ?_
          refine g_iast 42 43 F dX9_learn_42 rfl 1 (i := i) rfl (Nat.le_of_ble_eq_true rfl) (by omega) (f' := fun k => nI ((lnE e o (i + 1)) k)) (lnE_upd hE) (M' := [[(h0, ob 4 [.ref h1])], [(h1, iA X 60 (fun k => nI ((lnE e o (i + 1)) k)))], [(h2, ob 4 [.ref h3])], [(h3, iA X 60 (fun k => nI (o k)))]]) rfl ?_
          refine g_iinc 43 46 F (v := nI (cnt (fun j => decide (e j = 0) && decide (¬ o j = 0)) i + 1)) [(2, .int (nI (cnt (fun j => decide (e j = 0) && decide (¬ o j = 0)) i + 1))), (0, .ref h0), (1, .ref h2), (3, .int (nI (i)))] dX9_learn_43 rfl 2 rfl (nI_add _ _) (Nat.le_of_ble_eq_true rfl) rfl ?_
          refine g_iinc 46 49 F (v := nI (i + 1)) [(3, .int (nI (i + 1))), (2, .int (nI (cnt (fun j => decide (e j = 0) && decide (¬ o j = 0)) i + 1))), (0, .ref h0), (1, .ref h2)] dX9_learn_46 rfl 3 rfl (nI_add _ _) (Nat.le_of_ble_eq_true rfl) rfl ?_
          refine g_goto 49 4 F dX9_learn_49 (by decide) ?_
          refine g_ls [(0, .ref h0), (1, .ref h2), (2, .int (nI (cnt (fun j => decide (e j = 0) && decide (¬ o j = 0)) (i + 1)))), (3, .int (nI (i + 1)))] [2, 3, 1, 0] (by first | (rw [cnt_F (by simp [*])]; rfl) | (rw [cnt_T (by simp [*])]; rfl)) ?_
          exact ih_i
        · rw [lnE_keep (e := e) (o := o) (i := i) (Or.inr c_4)]
          refine g_goto 28 46 F dX9_learn_28 (by decide) ?_
          refine g_iinc 46 49 F (v := nI (i + 1)) [(3, .int (nI (i + 1))), (0, .ref h0), (1, .ref h2), (2, .int (nI (cnt (fun j => decide (e j = 0) && decide (¬ o j = 0)) i)))] dX9_learn_46 rfl 3 rfl (nI_add _ _) (Nat.le_of_ble_eq_true rfl) rfl ?_
          refine g_goto 49 4 F dX9_learn_49 (by decide) ?_
          refine g_ls [(0, .ref h0), (1, .ref h2), (2, .int (nI (cnt (fun j => decide (e j = 0) && decide (¬ o j = 0)) (i + 1)))), (3, .int (nI (i + 1)))] [1, 2, 3, 0] (by first | (rw [cnt_F (by simp [*])]; rfl) | (rw [cnt_T (by simp [*])]; rfl)) ?_
          exact ih_i

set_option maxHeartbeats 4000000 in
theorem m_X9_disputes (l : Launch) (X : gk_X) (h0 h1 : Nat) (e : Nat → Nat) (h2 h3 : Nat) (o : Nat → Nat) (he : ∀ k, k < 60 → e k < 3) (ho : ∀ k, k < 60 → o k < 3) : CtP l X yX9_disputes cX9_disputes 4 (some .int) 2 0 0 [.ref h0, .ref h2] [[(h0, ob 4 [.ref h1])], [(h1, iA X 60 (fun k => nI (e k)))], [(h2, ob 4 [.ref h3])], [(h3, iA X 60 (fun k => nI (o k)))]] (some (.int (nI (cnt (fun j => decide (¬ e j = 0) && (decide (¬ o j = 0) && decide (¬ e j = o j))) 60)))) := by
  unfold CtP
  refine Ct.of (by decide) (Nat.le_of_ble_eq_true rfl) "Bumpward$Plan" "disputes" rfl rfl (fun K F eL R => ?_)
  subst eL
  show G K X 4 0 0 [[(h0, ob 4 [.ref h1])], [(h1, iA X 60 (fun k => nI (e k)))], [(h2, ob 4 [.ref h3])], [(h3, iA X 60 (fun k => nI (o k)))]] [(0, .ref h0), (1, .ref h2)] 0 []
  refine g_iconst 0 1 F (nI (0)) dX9_disputes_0 rfl (by decide) ?_
  refine g_istore_n 1 2 F [(2, .int (nI (0))), (0, .ref h0), (1, .ref h2)] dX9_disputes_1 rfl rfl (Nat.le_of_ble_eq_true rfl) rfl ?_
  refine g_iconst 2 3 F (nI (0)) dX9_disputes_2 rfl (by decide) ?_
  refine g_istore_n 3 4 F [(3, .int (nI (0))), (2, .int (nI (0))), (0, .ref h0), (1, .ref h2)] dX9_disputes_3 rfl rfl (Nat.le_of_ble_eq_true rfl) rfl ?_
  refine g_ls [(0, .ref h0), (1, .ref h2), (2, .int (nI (cnt (fun j => decide (¬ e j = 0) && (decide (¬ o j = 0) && decide (¬ e j = o j))) 0))), (3, .int (nI (0)))] [2, 3, 1, 0] (rfl) ?_
  refine g_down (P := fun i => G K X 4 0 0 [[(h0, ob 4 [.ref h1])], [(h1, iA X 60 (fun k => nI (e k)))], [(h2, ob 4 [.ref h3])], [(h3, iA X 60 (fun k => nI (o k)))]] [(0, .ref h0), (1, .ref h2), (2, .int (nI (cnt (fun j => decide (¬ e j = 0) && (decide (¬ o j = 0) && decide (¬ e j = o j))) i))), (3, .int (nI (i)))] 4 []) 60 0 (by omega) ?_ (fun i hl_i hi_i ih_i => ?_)
  · show G K X 4 0 0 [[(h0, ob 4 [.ref h1])], [(h1, iA X 60 (fun k => nI (e k)))], [(h2, ob 4 [.ref h3])], [(h3, iA X 60 (fun k => nI (o k)))]] [(0, .ref h0), (1, .ref h2), (2, .int (nI (cnt (fun j => decide (¬ e j = 0) && (decide (¬ o j = 0) && decide (¬ e j = o j))) 60))), (3, .int (nI (60)))] 4 []
    refine g_iload_n 4 5 F dX9_disputes_4 rfl rfl 3 rfl ?_
    refine g_bipush 5 7 F (nI (60)) dX9_disputes_5 rfl (by decide) ?_
    refine g_icmpN_ge 7 10 60 F dX9_disputes_7 rfl (by decide) (by omega) (by omega) (fun c_1 => ?_) (fun c_1 => ?_)
    · refine g_iload_n 60 61 F dX9_disputes_60 rfl rfl 2 rfl ?_
      exact g_iret 61 F R dX9_disputes_61 (Nat.zero_le _) (Nat.zero_le _) (⟨rfl, rfl⟩)
    · exact absurd c_1 (by omega)
  · show G K X 4 0 0 [[(h0, ob 4 [.ref h1])], [(h1, iA X 60 (fun k => nI (e k)))], [(h2, ob 4 [.ref h3])], [(h3, iA X 60 (fun k => nI (o k)))]] [(0, .ref h0), (1, .ref h2), (2, .int (nI (cnt (fun j => decide (¬ e j = 0) && (decide (¬ o j = 0) && decide (¬ e j = o j))) i))), (3, .int (nI (i)))] 4 []
    have he_i := he i hi_i
    have ho_i := ho i hi_i
    refine g_iload_n 4 5 F dX9_disputes_4 rfl rfl 3 rfl ?_
    refine g_bipush 5 7 F (nI (60)) dX9_disputes_5 rfl (by decide) ?_
    refine g_icmpN_ge 7 10 60 F dX9_disputes_7 rfl (by decide) (by omega) (by omega) (fun c_2 => ?_) (fun c_2 => ?_)
    · exact absurd c_2 (by omega)
    · refine g_iload_n 10 11 F dX9_disputes_10 rfl rfl 2 rfl ?_
      have J_3 : G K X 4 0 0 [[(h0, ob 4 [.ref h1])], [(h1, iA X 60 (fun k => nI (e k)))], [(h2, ob 4 [.ref h3])], [(h3, iA X 60 (fun k => nI (o k)))]] [(0, .ref h0), (1, .ref h2), (2, .int (nI (cnt (fun j => decide (¬ e j = 0) && (decide (¬ o j = 0) && decide (¬ e j = o j))) i))), (3, .int (nI (i)))] 49 [.int (bI (decide (¬ e i = 0) && (decide (¬ o i = 0) && decide (¬ e i = o i)))), .int (nI (cnt (fun j => decide (¬ e j = 0) && (decide (¬ o j = 0) && decide (¬ e j = o j))) i))] := by
        refine g_callP 3 52 F (CallOk.SN (As := [.int (bI (decide (¬ e i = 0) && (decide (¬ o i = 0) && decide (¬ e i = o i))))]) (rest := [.int (nI (cnt (fun j => decide (¬ e j = 0) && (decide (¬ o j = 0) && decide (¬ e j = o j))) i))]) F 1 q298 q292 q49 q293 cd_X1_one rfl rfl (Nat.le_of_ble_eq_true rfl) (Nat.le_of_ble_eq_true rfl) dX9_disputes_49) (m_X1_one (kL K) X (decide (¬ e i = 0) && (decide (¬ o i = 0) && decide (¬ e i = o i))) ) rfl (Mr := [[(h0, ob 4 [.ref h1])], [(h1, iA X 60 (fun k => nI (e k)))], [(h2, ob 4 [.ref h3])], [(h3, iA X 60 (fun k => nI (o k)))]]) [] [0, 1, 2, 3] rfl 4 rfl (by decide +kernel) rfl rfl (rc_T) (Nat.le_of_ble_eq_true rfl) (c2 := 0) (s2 := 0) (Nat.zero_le _) (Nat.zero_le _) rfl rfl (st1 := [.int (bI (decide (¬ e i = 0) && (decide (¬ o i = 0) && decide (¬ e i = o i)))), .int (nI (cnt (fun j => decide (¬ e j = 0) && (decide (¬ o j = 0) && decide (¬ e j = o j))) i))]) rfl ?_
        refine g_iadd 52 53 F (v := nI (cnt (fun j => decide (¬ e j = 0) && (decide (¬ o j = 0) && decide (¬ e j = o j))) i + (bN (decide (¬ e i = 0) && (decide (¬ o i = 0) && decide (¬ e i = o i)))))) dX9_disputes_52 rfl (nI_addB _ _) ?_
        refine g_istore_n 53 54 F [(2, .int (nI (cnt (fun j => decide (¬ e j = 0) && (decide (¬ o j = 0) && decide (¬ e j = o j))) i + (bN (decide (¬ e i = 0) && (decide (¬ o i = 0) && decide (¬ e i = o i))))))), (0, .ref h0), (1, .ref h2), (3, .int (nI (i)))] dX9_disputes_53 rfl rfl (Nat.le_of_ble_eq_true rfl) rfl ?_
        refine g_iinc 54 57 F (v := nI (i + 1)) [(3, .int (nI (i + 1))), (2, .int (nI (cnt (fun j => decide (¬ e j = 0) && (decide (¬ o j = 0) && decide (¬ e j = o j))) i + (bN (decide (¬ e i = 0) && (decide (¬ o i = 0) && decide (¬ e i = o i))))))), (0, .ref h0), (1, .ref h2)] dX9_disputes_54 rfl 3 rfl (nI_add _ _) (Nat.le_of_ble_eq_true rfl) rfl ?_
        refine g_goto 57 4 F dX9_disputes_57 (by decide) ?_
        refine g_ls [(0, .ref h0), (1, .ref h2), (2, .int (nI (cnt (fun j => decide (¬ e j = 0) && (decide (¬ o j = 0) && decide (¬ e j = o j))) (i + 1)))), (3, .int (nI (i + 1)))] [2, 3, 1, 0] (rfl) ?_
        exact ih_i
      refine g_aload_n 11 12 F dX9_disputes_11 rfl rfl 0 rfl ?_
      refine g_get 12 15 F (ci := 4) in_X9 rfl 0 (by decide) q749 (fun _ h => h) dX9_disputes_12 rfl 0 rfl (v := .ref h1) rfl ?_
      refine g_iload_n 15 16 F dX9_disputes_15 rfl rfl 3 rfl ?_
      refine g_iald 16 17 F dX9_disputes_16 rfl 1 (i := i) rfl (Nat.le_of_ble_eq_true rfl) (by omega) ?_
      refine g_top (v := nI (e i)) rfl ?_
      refine g_ifN_eq 17 20 48 F dX9_disputes_17 rfl (by decide) (by omega) (fun c_4 => ?_) (fun c_4 => ?_)
      · refine g_iconst 48 49 F (nI (0)) dX9_disputes_48 rfl (by decide) ?_
        refine g_top (v := bI (decide (¬ e i = 0) && (decide (¬ o i = 0) && decide (¬ e i = o i)))) (by simp [*, nI_0, bI_f, bI_t]) ?_
        exact J_3
      · refine g_aload_n 20 21 F dX9_disputes_20 rfl rfl 1 rfl ?_
        refine g_get 21 24 F (ci := 4) in_X9 rfl 0 (by decide) q749 (fun _ h => h) dX9_disputes_21 rfl 2 rfl (v := .ref h3) rfl ?_
        refine g_iload_n 24 25 F dX9_disputes_24 rfl rfl 3 rfl ?_
        refine g_iald 25 26 F dX9_disputes_25 rfl 3 (i := i) rfl (Nat.le_of_ble_eq_true rfl) (by omega) ?_
        refine g_top (v := nI (o i)) rfl ?_
        refine g_ifN_eq 26 29 48 F dX9_disputes_26 rfl (by decide) (by omega) (fun c_5 => ?_) (fun c_5 => ?_)
        · refine g_iconst 48 49 F (nI (0)) dX9_disputes_48 rfl (by decide) ?_
          refine g_top (v := bI (decide (¬ e i = 0) && (decide (¬ o i = 0) && decide (¬ e i = o i)))) (by simp [*, nI_0, bI_f, bI_t]) ?_
          exact J_3
        · refine g_aload_n 29 30 F dX9_disputes_29 rfl rfl 0 rfl ?_
          refine g_get 30 33 F (ci := 4) in_X9 rfl 0 (by decide) q749 (fun _ h => h) dX9_disputes_30 rfl 0 rfl (v := .ref h1) rfl ?_
          refine g_iload_n 33 34 F dX9_disputes_33 rfl rfl 3 rfl ?_
          refine g_iald 34 35 F dX9_disputes_34 rfl 1 (i := i) rfl (Nat.le_of_ble_eq_true rfl) (by omega) ?_
          refine g_top (v := nI (e i)) rfl ?_
          refine g_aload_n 35 36 F dX9_disputes_35 rfl rfl 1 rfl ?_
          refine g_get 36 39 F (ci := 4) in_X9 rfl 0 (by decide) q749 (fun _ h => h) dX9_disputes_36 rfl 2 rfl (v := .ref h3) rfl ?_
          refine g_iload_n 39 40 F dX9_disputes_39 rfl rfl 3 rfl ?_
          refine g_iald 40 41 F dX9_disputes_40 rfl 3 (i := i) rfl (Nat.le_of_ble_eq_true rfl) (by omega) ?_
          refine g_top (v := nI (o i)) rfl ?_
          refine g_diaN_eq 41 48 49 F dX9_disputes_41 (by decide) dX9_disputes_44 dX9_disputes_45 (by decide) dX9_disputes_48 rfl (by omega) (by omega) ?_
          refine g_top (v := bI (decide (¬ e i = 0) && (decide (¬ o i = 0) && decide (¬ e i = o i)))) (by simp [*, nI_0, bI_f, bI_t]) ?_
          exact J_3

set_option maxHeartbeats 4000000 in
theorem m_X9_init (l : Launch) (X : gk_X) (q : Nat)  : Ct l X yX9_init cX9_init 1 none 2 1 60 [.ref q] [[(q, ob 4 [.null])]] (fun v M' => ∃ a, v = none ∧ M' = [[(q, ob 4 [.ref a])], [(a, iA X 60 (fun k => nI (zP k)))]]) := by
  refine Ct.of (by decide) (Nat.le_of_ble_eq_true rfl) "Bumpward$Plan" "<init>" rfl rfl (fun K F eL R => ?_)
  subst eL
  show G K X 1 0 0 [[(q, ob 4 [.null])]] [(0, .ref q)] 0 []
  refine g_aload_n 0 1 F dX9_init_0 rfl rfl 0 rfl ?_
  refine g_objInit 1 4 F q748 q93 q94 dX9_init_1 rfl (Nat.le_of_ble_eq_true rfl) (Nat.le_of_ble_eq_true rfl) ?_
  refine g_aload_n 4 5 F dX9_init_4 rfl rfl 0 rfl ?_
  refine g_bipush 5 7 F (nI (60)) dX9_init_5 rfl (by decide) ?_
  refine g_newI 7 9 F dX9_init_7 rfl (n := 60) (Nat.le_of_ble_eq_true rfl) (c2 := 1) (s2 := 60) (Nat.le_refl _) (Nat.le_refl _) rfl rfl (M' := fun a => [[(q, ob 4 [.null])], [(a, iA X 60 (fun _ => 0))]]) (fun _ => rfl) (fun a => ?_)
  show G K X 1 1 60 [[(q, ob 4 [.null])], [(a, iA X 60 (fun _ => 0))]] [(0, .ref q)] 9 [.ref a, .ref q]
  refine g_putF 9 12 F (ci := 4) in_X9 tyX9 tyX9_ok nmX9 rfl 0 (by decide) q749 (fun _ h => h) rfl rfl dX9_init_9 rfl 0 (rfl) (rfl) (Nat.le_of_ble_eq_true rfl) rfl (M' := [[(q, ob 4 [.ref a])], [(a, iA X 60 (fun _ => 0))]]) rfl ?_
  exact g_vret 12 F R dX9_init_12 (Nat.le_refl _) (Nat.le_refl _) (⟨a, rfl, rfl⟩)

set_option maxHeartbeats 4000000 in
theorem m_X10_init (l : Launch) (X : gk_X) (q : Nat)  : Ct l X yX10_init cX10_init 1 none 2 1 144 [.ref q] [[(q, ob 5 [.null])]] (fun v M' => ∃ a, v = none ∧ M' = [[(q, ob 5 [.ref a])], [(a, zA X 144 (fun _ => false))]]) := by
  refine Ct.of (by decide) (Nat.le_of_ble_eq_true rfl) "Bumpward$Belief" "<init>" rfl rfl (fun K F eL R => ?_)
  subst eL
  show G K X 1 0 0 [[(q, ob 5 [.null])]] [(0, .ref q)] 0 []
  refine g_aload_n 0 1 F dX10_init_0 rfl rfl 0 rfl ?_
  refine g_objInit 1 4 F q489 q93 q94 dX10_init_1 rfl (Nat.le_of_ble_eq_true rfl) (Nat.le_of_ble_eq_true rfl) ?_
  refine g_aload_n 4 5 F dX10_init_4 rfl rfl 0 rfl ?_
  refine g_sipush 5 8 F (nI (144)) dX10_init_5 rfl (by decide) ?_
  refine g_newZ 8 10 F dX10_init_8 rfl (n := 144) (Nat.le_of_ble_eq_true rfl) (c2 := 1) (s2 := 144) (Nat.le_refl _) (Nat.le_refl _) rfl rfl (M' := fun a => [[(q, ob 5 [.null])], [(a, zA X 144 (fun _ => false))]]) (fun _ => rfl) (fun a => ?_)
  show G K X 1 1 144 [[(q, ob 5 [.null])], [(a, zA X 144 (fun _ => false))]] [(0, .ref q)] 10 [.ref a, .ref q]
  refine g_putF 10 13 F (ci := 5) in_X10 tyX10 tyX10_ok nmX10 rfl 0 (by decide) q490 (fun _ h => h) rfl rfl dX10_init_10 rfl 0 (rfl) (rfl) (Nat.le_of_ble_eq_true rfl) rfl (M' := [[(q, ob 5 [.ref a])], [(a, zA X 144 (fun _ => false))]]) rfl ?_
  exact g_vret 13 F R dX10_init_13 (Nat.le_refl _) (Nat.le_refl _) (⟨a, rfl, rfl⟩)

set_option maxHeartbeats 4000000 in
theorem m_X10_all (l : Launch) (X : gk_X)   : Ct l X yX10_all cX10_all 2 (some (.object "Bumpward$Belief")) 3 2 145 [] [] (fun v M' => ∃ q qa, v = some (.ref q) ∧ M' = [[(q, ob 5 [.ref qa])], [(qa, zA X 144 (fun _ => true))]]) := by
  refine Ct.of (by decide) (Nat.le_of_ble_eq_true rfl) "Bumpward$Belief" "all" rfl rfl (fun K F eL R => ?_)
  subst eL
  show G K X 2 0 0 [] [] 0 []
  refine g_new 0 3 F in_X10 tyX10 tyX10_ok q484 q485 q73 (ci := 5) rfl (fs := [.null]) (fun j hj => match j, hj with | 0, _ => rfl | j + 1, hj => absurd hj (by omega)) dX10_all_0 rfl (c2 := 1) (s2 := 1) (Nat.le_of_ble_eq_true rfl) (Nat.le_of_ble_eq_true rfl) rfl rfl (M' := fun q => [[(q, ob 5 [.null])]]) (fun _ => rfl) (fun q => ?_)
  show G K X 2 1 1 [[(q, ob 5 [.null])]] [] 3 [.ref q]
  refine g_dup 3 4 F dX10_all_3 rfl rfl ?_
  refine g_call 3 7 F (CallOk.I (b := q) (As := []) (rest := [.ref q]) F 0 q486 q487 q73 q488 rfl cd_X10_init rfl rfl (Nat.le_of_ble_eq_true rfl) (Nat.le_of_ble_eq_true rfl) dX10_all_4) (m_X10_init (kL K) X q ) rfl (Mr := []) [0] [] rfl rfl rfl (rc_T) (Nat.le_of_ble_eq_true rfl) (c2 := 2) (s2 := 145) (Nat.le_refl _) (Nat.le_refl _) rfl rfl (fun v M1 hp => ?_)
  obtain ⟨qa, rfl, rfl⟩ := hp
  show G K X 2 2 145 [[(q, ob 5 [.ref qa])], [(qa, zA X 144 (fun _ => false))]] [] 7 [.ref q]
  refine g_astore_n 7 8 F [(0, .ref q)] dX10_all_7 rfl rfl (Nat.le_of_ble_eq_true rfl) rfl ?_
  refine g_iconst 8 9 F (nI (0)) dX10_all_8 rfl (by decide) ?_
  refine g_istore_n 9 10 F [(1, .int (nI (0))), (0, .ref q)] dX10_all_9 rfl rfl (Nat.le_of_ble_eq_true rfl) rfl ?_
  refine g_ls [(0, .ref q), (1, .int (nI (0)))] [1, 0] (rfl) ?_
  refine g_arrZ 1 rfl (g := fun j => decide (j < 0)) (fun j hj => by simp) rfl ?_
  refine g_down (P := fun i => G K X 2 2 145 [[(q, ob 5 [.ref qa])], [(qa, zA X 144 (fun j => decide (j < i)))]] [(0, .ref q), (1, .int (nI (i)))] 10 []) 144 0 (by omega) ?_ (fun i hl_i hi_i ih_i => ?_)
  · show G K X 2 2 145 [[(q, ob 5 [.ref qa])], [(qa, zA X 144 (fun j => decide (j < 144)))]] [(0, .ref q), (1, .int (nI (144)))] 10 []
    refine g_iload_n 10 11 F dX10_all_10 rfl rfl 1 rfl ?_
    refine g_sipush 11 14 F (nI (144)) dX10_all_11 rfl (by decide) ?_
    refine g_icmpN_ge 14 17 30 F dX10_all_14 rfl (by decide) (by omega) (by omega) (fun c_1 => ?_) (fun c_1 => ?_)
    · refine g_aload_n 30 31 F dX10_all_30 rfl rfl 0 rfl ?_
      refine g_arrZ 1 rfl (g := fun _ => true) (fun j hj => decide_eq_true hj) rfl ?_
      exact g_aret 31 F R dX10_all_31 (Nat.le_refl _) (Nat.le_refl _) (Or.inl ⟨_, rfl⟩) (⟨q, qa, rfl, rfl⟩)
    · exact absurd c_1 (by omega)
  · show G K X 2 2 145 [[(q, ob 5 [.ref qa])], [(qa, zA X 144 (fun j => decide (j < i)))]] [(0, .ref q), (1, .int (nI (i)))] 10 []
    refine g_iload_n 10 11 F dX10_all_10 rfl rfl 1 rfl ?_
    refine g_sipush 11 14 F (nI (144)) dX10_all_11 rfl (by decide) ?_
    refine g_icmpN_ge 14 17 30 F dX10_all_14 rfl (by decide) (by omega) (by omega) (fun c_2 => ?_) (fun c_2 => ?_)
    · exact absurd c_2 (by omega)
    · refine g_aload_n 17 18 F dX10_all_17 rfl rfl 0 rfl ?_
      refine g_get 18 21 F (ci := 5) in_X10 rfl 0 (by decide) q490 (fun _ h => h) dX10_all_18 rfl 0 rfl (v := .ref qa) rfl ?_
      refine g_iload_n 21 22 F dX10_all_21 rfl rfl 1 rfl ?_
      refine g_iconst 22 23 F (nI (1)) dX10_all_22 rfl (by decide) ?_
      refine g_top (v := bI true) rfl ?_
      refine g_zast 23 24 F dX10_all_23 rfl 1 (i := i) rfl (Nat.le_of_ble_eq_true rfl) (by omega) (f' := fun j => decide (j < i + 1)) (updB_dlt i) (M' := [[(q, ob 5 [.ref qa])], [(qa, zA X 144 (fun j => decide (j < i + 1)))]]) rfl ?_
      refine g_iinc 24 27 F (v := nI (i + 1)) [(1, .int (nI (i + 1))), (0, .ref q)] dX10_all_24 rfl 1 rfl (nI_add _ _) (Nat.le_of_ble_eq_true rfl) rfl ?_
      refine g_goto 27 10 F dX10_all_27 (by decide) ?_
      refine g_ls [(0, .ref q), (1, .int (nI (i + 1)))] [1, 0] (rfl) ?_
      exact ih_i

set_option maxHeartbeats 4000000 in
theorem m_X10_of (l : Launch) (X : gk_X) (p : Nat) (hp : p < 144) : Ct l X yX10_of cX10_of 2 (some (.object "Bumpward$Belief")) 3 2 145 [.int (nI (p))] [] (fun v M' => ∃ q qa, v = some (.ref q) ∧ M' = [[(q, ob 5 [.ref qa])], [(qa, zA X 144 (fun j => decide (j = p)))]]) := by
  refine Ct.of (by decide) (Nat.le_of_ble_eq_true rfl) "Bumpward$Belief" "of" rfl rfl (fun K F eL R => ?_)
  subst eL
  show G K X 2 0 0 [] [(0, .int (nI (p)))] 0 []
  refine g_new 0 3 F in_X10 tyX10 tyX10_ok q484 q485 q73 (ci := 5) rfl (fs := [.null]) (fun j hj => match j, hj with | 0, _ => rfl | j + 1, hj => absurd hj (by omega)) dX10_of_0 rfl (c2 := 1) (s2 := 1) (Nat.le_of_ble_eq_true rfl) (Nat.le_of_ble_eq_true rfl) rfl rfl (M' := fun q => [[(q, ob 5 [.null])]]) (fun _ => rfl) (fun q => ?_)
  show G K X 2 1 1 [[(q, ob 5 [.null])]] [(0, .int (nI (p)))] 3 [.ref q]
  refine g_dup 3 4 F dX10_of_3 rfl rfl ?_
  refine g_call 3 7 F (CallOk.I (b := q) (As := []) (rest := [.ref q]) F 0 q486 q487 q73 q488 rfl cd_X10_init rfl rfl (Nat.le_of_ble_eq_true rfl) (Nat.le_of_ble_eq_true rfl) dX10_of_4) (m_X10_init (kL K) X q ) rfl (Mr := []) [0] [] rfl rfl rfl (rc_T) (Nat.le_of_ble_eq_true rfl) (c2 := 2) (s2 := 145) (Nat.le_refl _) (Nat.le_refl _) rfl rfl (fun v M1 hp => ?_)
  obtain ⟨qa, rfl, rfl⟩ := hp
  show G K X 2 2 145 [[(q, ob 5 [.ref qa])], [(qa, zA X 144 (fun _ => false))]] [(0, .int (nI (p)))] 7 [.ref q]
  refine g_astore_n 7 8 F [(1, .ref q), (0, .int (nI (p)))] dX10_of_7 rfl rfl (Nat.le_of_ble_eq_true rfl) rfl ?_
  refine g_aload_n 8 9 F dX10_of_8 rfl rfl 0 rfl ?_
  refine g_get 9 12 F (ci := 5) in_X10 rfl 0 (by decide) q490 (fun _ h => h) dX10_of_9 rfl 0 rfl (v := .ref qa) rfl ?_
  refine g_iload_n 12 13 F dX10_of_12 rfl rfl 1 rfl ?_
  refine g_iconst 13 14 F (nI (1)) dX10_of_13 rfl (by decide) ?_
  refine g_top (v := bI true) rfl ?_
  refine g_zast 14 15 F dX10_of_14 rfl 1 (i := p) rfl (Nat.le_of_ble_eq_true rfl) (by omega) (f' := fun j => decide (j = p)) (updB_one p) (M' := [[(q, ob 5 [.ref qa])], [(qa, zA X 144 (fun j => decide (j = p)))]]) rfl ?_
  refine g_aload_n 15 16 F dX10_of_15 rfl rfl 0 rfl ?_
  exact g_aret 16 F R dX10_of_16 (Nat.le_refl _) (Nat.le_refl _) (Or.inl ⟨_, rfl⟩) (⟨q, qa, rfl, rfl⟩)

set_option maxHeartbeats 4000000 in
theorem m_X10_has (l : Launch) (X : gk_X) (b0 b1 : Nat) (f : Nat → Bool) (p : Nat) (hp : p < 144) : CtP l X yX10_has cX10_has 2 (some .boolean) 1 0 0 [.ref b0, .int (nI (p))] [[(b0, ob 5 [.ref b1])], [(b1, zA X 144 (f))]] (some (.int (bI (f p)))) := by
  unfold CtP
  refine Ct.of (by decide) (Nat.le_of_ble_eq_true rfl) "Bumpward$Belief" "has" rfl rfl (fun K F eL R => ?_)
  subst eL
  show G K X 2 0 0 [[(b0, ob 5 [.ref b1])], [(b1, zA X 144 (f))]] [(0, .ref b0), (1, .int (nI (p)))] 0 []
  refine g_aload_n 0 1 F dX10_has_0 rfl rfl 0 rfl ?_
  refine g_get 1 4 F (ci := 5) in_X10 rfl 0 (by decide) q490 (fun _ h => h) dX10_has_1 rfl 0 rfl (v := .ref b1) rfl ?_
  refine g_iload_n 4 5 F dX10_has_4 rfl rfl 1 rfl ?_
  refine g_zald 5 6 F dX10_has_5 rfl 1 (i := p) rfl (Nat.le_of_ble_eq_true rfl) (by omega) ?_
  exact g_bret 6 F R dX10_has_6 (Nat.zero_le _) (Nat.zero_le _) (⟨rfl, rfl⟩)

set_option maxHeartbeats 4000000 in
theorem m_X10_size (l : Launch) (X : gk_X) (b0 b1 : Nat) (f : Nat → Bool)   : CtP l X yX10_size cX10_size 6 (some .int) 2 0 0 [.ref b0] [[(b0, ob 5 [.ref b1])], [(b1, zA X 144 (f))]] (some (.int (nI (cnt f 144)))) := by
  unfold CtP
  refine Ct.of (by decide) (Nat.le_of_ble_eq_true rfl) "Bumpward$Belief" "size" rfl rfl (fun K F eL R => ?_)
  subst eL
  show G K X 6 0 0 [[(b0, ob 5 [.ref b1])], [(b1, zA X 144 (f))]] [(0, .ref b0)] 0 []
  refine g_iconst 0 1 F (nI (0)) dX10_size_0 rfl (by decide) ?_
  refine g_istore_n 1 2 F [(1, .int (nI (0))), (0, .ref b0)] dX10_size_1 rfl rfl (Nat.le_of_ble_eq_true rfl) rfl ?_
  refine g_aload_n 2 3 F dX10_size_2 rfl rfl 1 rfl ?_
  refine g_get 3 6 F (ci := 5) in_X10 rfl 0 (by decide) q490 (fun _ h => h) dX10_size_3 rfl 0 rfl (v := .ref b1) rfl ?_
  refine g_astore_n 6 7 F [(2, .ref b1), (1, .int (nI (0))), (0, .ref b0)] dX10_size_6 rfl rfl (Nat.le_of_ble_eq_true rfl) rfl ?_
  refine g_aload_n 7 8 F dX10_size_7 rfl rfl 0 rfl ?_
  refine g_alen 8 9 F dX10_size_8 rfl 1 0 rfl rfl (n := 144) rfl ?_
  refine g_istore_n 9 10 F [(3, .int (nI (144))), (2, .ref b1), (1, .int (nI (0))), (0, .ref b0)] dX10_size_9 rfl rfl (Nat.le_of_ble_eq_true rfl) rfl ?_
  refine g_iconst 10 11 F (nI (0)) dX10_size_10 rfl (by decide) ?_
  refine g_istore 11 13 F [(4, .int (nI (0))), (3, .int (nI (144))), (2, .ref b1), (1, .int (nI (0))), (0, .ref b0)] dX10_size_11 rfl (Nat.le_of_ble_eq_true rfl) rfl ?_
  refine g_ls [(0, .ref b0), (1, .int (nI (cnt f 0))), (2, .ref b1), (3, .int (nI (144))), (4, .int (nI (0)))] [4, 3, 2, 1, 0] (rfl) ?_
  refine g_down (P := fun i => G K X 6 0 0 [[(b0, ob 5 [.ref b1])], [(b1, zA X 144 (f))]] [(0, .ref b0), (1, .int (nI (cnt f i))), (2, .ref b1), (3, .int (nI (144))), (4, .int (nI (i)))] 13 []) 144 0 (by omega) ?_ (fun i hl_i hi_i ih_i => ?_)
  · show G K X 6 0 0 [[(b0, ob 5 [.ref b1])], [(b1, zA X 144 (f))]] [(0, .ref b0), (1, .int (nI (cnt f 144))), (2, .ref b1), (3, .int (nI (144))), (4, .int (nI (144)))] 13 []
    refine g_iload 13 15 F dX10_size_13 rfl 4 rfl ?_
    refine g_iload_n 15 16 F dX10_size_15 rfl rfl 3 rfl ?_
    refine g_icmpN_ge 16 19 39 F dX10_size_16 rfl (by decide) (by omega) (by omega) (fun c_1 => ?_) (fun c_1 => ?_)
    · refine g_iload_n 39 40 F dX10_size_39 rfl rfl 1 rfl ?_
      exact g_iret 40 F R dX10_size_40 (Nat.zero_le _) (Nat.zero_le _) (⟨rfl, rfl⟩)
    · exact absurd c_1 (by omega)
  · show G K X 6 0 0 [[(b0, ob 5 [.ref b1])], [(b1, zA X 144 (f))]] [(0, .ref b0), (1, .int (nI (cnt f i))), (2, .ref b1), (3, .int (nI (144))), (4, .int (nI (i)))] 13 []
    refine g_iload 13 15 F dX10_size_13 rfl 4 rfl ?_
    refine g_iload_n 15 16 F dX10_size_15 rfl rfl 3 rfl ?_
    refine g_icmpN_ge 16 19 39 F dX10_size_16 rfl (by decide) (by omega) (by omega) (fun c_2 => ?_) (fun c_2 => ?_)
    · exact absurd c_2 (by omega)
    · refine g_aload_n 19 20 F dX10_size_19 rfl rfl 2 rfl ?_
      refine g_iload 20 22 F dX10_size_20 rfl 4 rfl ?_
      refine g_zald 22 23 F dX10_size_22 rfl 1 (i := i) rfl (Nat.le_of_ble_eq_true rfl) (by omega) ?_
      refine g_istore 23 25 F [(5, .int (bI (f i))), (0, .ref b0), (1, .int (nI (cnt f i))), (2, .ref b1), (3, .int (nI (144))), (4, .int (nI (i)))] dX10_size_23 rfl (Nat.le_of_ble_eq_true rfl) rfl ?_
      refine g_iload_n 25 26 F dX10_size_25 rfl rfl 2 rfl ?_
      refine g_iload 26 28 F dX10_size_26 rfl 0 rfl ?_
      refine g_callP 3 31 F (CallOk.SN (As := [.int (bI (f i))]) (rest := [.int (nI (cnt f i))]) F 1 q303 q292 q49 q293 cd_X1_one rfl rfl (Nat.le_of_ble_eq_true rfl) (Nat.le_of_ble_eq_true rfl) dX10_size_28) (m_X1_one (kL K) X (f i) ) rfl (Mr := [[(b0, ob 5 [.ref b1])], [(b1, zA X 144 (f))]]) [] [0, 1] rfl 2 rfl (by decide +kernel) rfl rfl (rc_T) (Nat.le_of_ble_eq_true rfl) (c2 := 0) (s2 := 0) (Nat.zero_le _) (Nat.zero_le _) rfl rfl (st1 := [.int (bI (f i)), .int (nI (cnt f i))]) rfl ?_
      refine g_iadd 31 32 F (v := nI (cnt f i + (bN (f i)))) dX10_size_31 rfl (nI_addB _ _) ?_
      refine g_istore_n 32 33 F [(1, .int (nI (cnt f i + (bN (f i))))), (5, .int (bI (f i))), (0, .ref b0), (2, .ref b1), (3, .int (nI (144))), (4, .int (nI (i)))] dX10_size_32 rfl rfl (Nat.le_of_ble_eq_true rfl) rfl ?_
      refine g_iinc 33 36 F (v := nI (i + 1)) [(4, .int (nI (i + 1))), (1, .int (nI (cnt f i + (bN (f i))))), (5, .int (bI (f i))), (0, .ref b0), (2, .ref b1), (3, .int (nI (144)))] dX10_size_33 rfl 5 rfl (nI_add _ _) (Nat.le_of_ble_eq_true rfl) rfl ?_
      refine g_goto 36 13 F dX10_size_36 (by decide) ?_
      refine g_ls [(0, .ref b0), (1, .int (nI (cnt f (i + 1)))), (2, .ref b1), (3, .int (nI (144))), (4, .int (nI (i + 1)))] [3, 1, 4, 5, 0] (rfl) ?_
      exact ih_i

set_option maxHeartbeats 4000000 in
theorem m_X10_isSure (l : Launch) (X : gk_X) (b0 b1 : Nat) (f : Nat → Bool)   : CtP l X yX10_isSure cX10_isSure 1 (some .boolean) 3 0 0 [.ref b0] [[(b0, ob 5 [.ref b1])], [(b1, zA X 144 (f))]] (some (.int (bI (decide (cnt f 144 = 1))))) := by
  unfold CtP
  refine Ct.of (by decide) (Nat.le_of_ble_eq_true rfl) "Bumpward$Belief" "isSure" rfl rfl (fun K F eL R => ?_)
  subst eL
  show G K X 1 0 0 [[(b0, ob 5 [.ref b1])], [(b1, zA X 144 (f))]] [(0, .ref b0)] 0 []
  have hcn := cnt_le f 144
  refine g_aload_n 0 1 F dX10_isSure_0 rfl rfl 0 rfl ?_
  refine g_callP 3 4 F (CallOk.V (C := "Bumpward$Belief") (b := b0) (As := []) (rest := []) F 0 q422 q300 q301 q73 q302 cdV_X10_size rfl rfl (Nat.le_of_ble_eq_true rfl) (Nat.le_of_ble_eq_true rfl) dX10_isSure_1) (m_X10_size (kL K) X b0 b1 f ) rfl (Mr := []) [0, 1] [] rfl 2 rfl (by decide +kernel) rfl rfl (rc_of F 0 5 rfl rfl) (Nat.le_of_ble_eq_true rfl) (c2 := 0) (s2 := 0) (Nat.zero_le _) (Nat.zero_le _) rfl rfl (st1 := [.int (nI (cnt f 144))]) rfl ?_
  refine g_iconst 4 5 F (nI (1)) dX10_isSure_4 rfl (by decide) ?_
  refine g_diaN_ne 5 12 13 F dX10_isSure_5 (by decide) dX10_isSure_8 dX10_isSure_9 (by decide) dX10_isSure_12 rfl (by omega) (by omega) ?_
  exact g_bret 13 F R dX10_isSure_13 (Nat.zero_le _) (Nat.zero_le _) (⟨congrArg (fun z => some (Value.int z)) (by simp [*]), rfl⟩)

set_option maxHeartbeats 4000000 in
theorem m_X10_first (l : Launch) (X : gk_X) (b0 b1 : Nat) (f : Nat → Bool)   : CtP l X yX10_first cX10_first 2 (some .int) 1 0 0 [.ref b0] [[(b0, ob 5 [.ref b1])], [(b1, zA X 144 (f))]] (some (.int (nI (first f)))) := by
  unfold CtP
  refine Ct.of (by decide) (Nat.le_of_ble_eq_true rfl) "Bumpward$Belief" "first" rfl rfl (fun K F eL R => ?_)
  subst eL
  show G K X 2 0 0 [[(b0, ob 5 [.ref b1])], [(b1, zA X 144 (f))]] [(0, .ref b0)] 0 []
  have hfl := first_le f
  refine g_iconst 0 1 F (nI (0)) dX10_first_0 rfl (by decide) ?_
  refine g_istore_n 1 2 F [(1, .int (nI (0))), (0, .ref b0)] dX10_first_1 rfl rfl (Nat.le_of_ble_eq_true rfl) rfl ?_
  refine g_ls [(0, .ref b0), (1, .int (nI (0)))] [1, 0] (rfl) ?_
  refine g_down (P := fun p => G K X 2 0 0 [[(b0, ob 5 [.ref b1])], [(b1, zA X 144 (f))]] [(0, .ref b0), (1, .int (nI (p)))] 2 []) (first f) 0 (by omega) ?_ (fun p hl_p hi_p ih_p => ?_)
  · show G K X 2 0 0 [[(b0, ob 5 [.ref b1])], [(b1, zA X 144 (f))]] [(0, .ref b0), (1, .int (nI (first f)))] 2 []
    refine g_iload_n 2 3 F dX10_first_2 rfl rfl 1 rfl ?_
    refine g_sipush 3 6 F (nI (143)) dX10_first_3 rfl (by decide) ?_
    refine g_icmpN_ge 6 9 24 F dX10_first_6 rfl (by decide) (by omega) (by omega) (fun c_1 => ?_) (fun c_1 => ?_)
    · refine g_iload_n 24 25 F dX10_first_24 rfl rfl 1 rfl ?_
      exact g_iret 25 F R dX10_first_25 (Nat.zero_le _) (Nat.zero_le _) (⟨rfl, rfl⟩)
    · refine g_aload_n 9 10 F dX10_first_9 rfl rfl 0 rfl ?_
      refine g_get 10 13 F (ci := 5) in_X10 rfl 0 (by decide) q490 (fun _ h => h) dX10_first_10 rfl 0 rfl (v := .ref b1) rfl ?_
      refine g_iload_n 13 14 F dX10_first_13 rfl rfl 1 rfl ?_
      refine g_zald 14 15 F dX10_first_14 rfl 1 (i := first f) rfl (Nat.le_of_ble_eq_true rfl) (by omega) ?_
      refine g_ifB_ne 15 18 24 F dX10_first_15 rfl (by decide) (fun c_2 => ?_) (fun c_2 => ?_)
      · refine g_iload_n 24 25 F dX10_first_24 rfl rfl 1 rfl ?_
        exact g_iret 25 F R dX10_first_25 (Nat.zero_le _) (Nat.zero_le _) (⟨rfl, rfl⟩)
      · exact absurd (first_at f (by omega)) (by rw [c_2]; decide)
  · show G K X 2 0 0 [[(b0, ob 5 [.ref b1])], [(b1, zA X 144 (f))]] [(0, .ref b0), (1, .int (nI (p)))] 2 []
    refine g_iload_n 2 3 F dX10_first_2 rfl rfl 1 rfl ?_
    refine g_sipush 3 6 F (nI (143)) dX10_first_3 rfl (by decide) ?_
    refine g_icmpN_ge 6 9 24 F dX10_first_6 rfl (by decide) (by omega) (by omega) (fun c_3 => ?_) (fun c_3 => ?_)
    · exact absurd c_3 (by omega)
    · refine g_aload_n 9 10 F dX10_first_9 rfl rfl 0 rfl ?_
      refine g_get 10 13 F (ci := 5) in_X10 rfl 0 (by decide) q490 (fun _ h => h) dX10_first_10 rfl 0 rfl (v := .ref b1) rfl ?_
      refine g_iload_n 13 14 F dX10_first_13 rfl rfl 1 rfl ?_
      refine g_zald 14 15 F dX10_first_14 rfl 1 (i := p) rfl (Nat.le_of_ble_eq_true rfl) (by omega) ?_
      refine g_ifB_ne 15 18 24 F dX10_first_15 rfl (by decide) (fun c_4 => ?_) (fun c_4 => ?_)
      · exact absurd (first_lt f hi_p) (by rw [c_4]; decide)
      · refine g_iinc 18 21 F (v := nI (p + 1)) [(1, .int (nI (p + 1))), (0, .ref b0)] dX10_first_18 rfl 1 rfl (nI_add _ _) (Nat.le_of_ble_eq_true rfl) rfl ?_
        refine g_goto 21 2 F dX10_first_21 (by decide) ?_
        refine g_ls [(0, .ref b0), (1, .int (nI (p + 1)))] [1, 0] (rfl) ?_
        exact ih_p

set_option maxHeartbeats 4000000 in
theorem m_X10_canFeel (l : Launch) (X : gk_X) (h0 h1 : Nat) (e : Nat → Nat) (p a : Nat) (he : ∀ k, k < 60 → e k < 3) (hp : p < 144) (ha : a < 8) : CtP l X yX10_canFeel cX10_canFeel 4 (some .boolean) 6 0 0 [.ref h0, .int (nI (p)), .int (nI (a))] [[(h0, ob 4 [.ref h1])], [(h1, iA X 60 (fun k => nI (e k)))]] (some (.int (bI (cfN e p a 3)))) := by
  unfold CtP
  refine Ct.of (by decide) (Nat.le_of_ble_eq_true rfl) "Bumpward$Belief" "canFeel" rfl rfl (fun K F eL R => ?_)
  subst eL
  show G K X 4 0 0 [[(h0, ob 4 [.ref h1])], [(h1, iA X 60 (fun k => nI (e k)))]] [(0, .ref h0), (1, .int (nI (p))), (2, .int (nI (a)))] 0 []
  refine g_iconst 0 1 F (nI (0)) dX10_canFeel_0 rfl (by decide) ?_
  refine g_istore_n 1 2 F [(3, .int (nI (0))), (0, .ref h0), (1, .int (nI (p))), (2, .int (nI (a)))] dX10_canFeel_1 rfl rfl (Nat.le_of_ble_eq_true rfl) rfl ?_
  refine g_ls [(0, .ref h0), (1, .int (nI (p))), (2, .int (nI (a))), (3, .int (nI (0)))] [1, 2, 3, 0] (rfl) ?_
  refine (g_down (P := fun k => (cfN e p a k = true) → G K X 4 0 0 [[(h0, ob 4 [.ref h1])], [(h1, iA X 60 (fun k => nI (e k)))]] [(0, .ref h0), (1, .int (nI (p))), (2, .int (nI (a))), (3, .int (nI (k)))] 2 []) 3 0 (by omega) ?_ (fun k hl_k hi_k ih_k => ?_)) (rfl)
  · intro iv_k
    show G K X 4 0 0 [[(h0, ob 4 [.ref h1])], [(h1, iA X 60 (fun k => nI (e k)))]] [(0, .ref h0), (1, .int (nI (p))), (2, .int (nI (a))), (3, .int (nI (3)))] 2 []
    refine g_iload_n 2 3 F dX10_canFeel_2 rfl rfl 3 rfl ?_
    refine g_iconst 3 4 F (nI (3)) dX10_canFeel_3 rfl (by decide) ?_
    refine g_icmpN_ge 4 7 46 F dX10_canFeel_4 rfl (by decide) (by omega) (by omega) (fun c_1 => ?_) (fun c_1 => ?_)
    · refine g_iconst 46 47 F (nI (1)) dX10_canFeel_46 rfl (by decide) ?_
      exact g_zret 47 F R dX10_canFeel_47 (Nat.zero_le _) (Nat.zero_le _) (by decide) (⟨congrArg (fun z => some (Value.int z)) (by first | (rw [iv_k]; rfl) | (rw [cfN_miss hK (by omega)]; rfl)), rfl⟩)
    · exact absurd c_1 (by omega)
  · intro iv_k
    show G K X 4 0 0 [[(h0, ob 4 [.ref h1])], [(h1, iA X 60 (fun k => nI (e k)))]] [(0, .ref h0), (1, .int (nI (p))), (2, .int (nI (a))), (3, .int (nI (k)))] 2 []
    have hbt := btN_lt a k
    refine g_iload_n 2 3 F dX10_canFeel_2 rfl rfl 3 rfl ?_
    refine g_iconst 3 4 F (nI (3)) dX10_canFeel_3 rfl (by decide) ?_
    refine g_icmpN_ge 4 7 46 F dX10_canFeel_4 rfl (by decide) (by omega) (by omega) (fun c_2 => ?_) (fun c_2 => ?_)
    · exact absurd c_2 (by omega)
    · refine g_aload_n 7 8 F dX10_canFeel_7 rfl rfl 0 rfl ?_
      refine g_iload_n 8 9 F dX10_canFeel_8 rfl rfl 1 rfl ?_
      refine g_iconst 9 10 F (nI (4)) dX10_canFeel_9 rfl (by decide) ?_
      refine g_idiv 10 11 F (v := nI (p / 4)) dX10_canFeel_10 rfl (by decide) (pk_div (by omega) (by omega) (by omega)) ?_
      refine g_iload_n 11 12 F dX10_canFeel_11 rfl rfl 1 rfl ?_
      refine g_iload_n 12 13 F dX10_canFeel_12 rfl rfl 3 rfl ?_
      refine g_iadd 13 14 F (v := nI (p + k)) dX10_canFeel_13 rfl (nI_add _ _) ?_
      refine g_iconst 14 15 F (nI (3)) dX10_canFeel_14 rfl (by decide) ?_
      refine g_iadd 15 16 F (v := nI (p + k + 3)) dX10_canFeel_15 rfl (nI_add _ _) ?_
      refine g_iconst 16 17 F (nI (4)) dX10_canFeel_16 rfl (by decide) ?_
      refine g_irem 17 18 F (v := nI ((p + k + 3) % 4)) dX10_canFeel_17 rfl (by decide) (pk_rem (by omega) (by omega) (by omega)) ?_
      refine g_iload_n 18 19 F dX10_canFeel_18 rfl rfl 2 rfl ?_
      refine g_iload_n 19 20 F dX10_canFeel_19 rfl rfl 3 rfl ?_
      refine g_ishr 20 21 F (v := (nI (a)) >>> ((nI (k)) &&& 31)) dX10_canFeel_20 rfl (rfl) ?_
      refine g_iconst 21 22 F (nI (1)) dX10_canFeel_21 rfl (by decide) ?_
      refine g_iand 22 23 F (v := nI (btN a k)) dX10_canFeel_22 rfl (bt_and ha hi_k) ?_
      refine g_iconst 23 24 F (nI (1)) dX10_canFeel_23 rfl (by decide) ?_
      refine g_diaN_ne 24 31 32 F dX10_canFeel_24 (by decide) dX10_canFeel_27 dX10_canFeel_28 (by decide) dX10_canFeel_31 rfl (by omega) (by omega) ?_
      refine g_callP 3 35 F (CallOk.V (C := "Bumpward$Plan") (b := h0) (As := [.int (nI (p / 4)), .int (nI ((p + k + 3) % 4)), .int (bI (decide ((btN a k) = 1)))]) (rest := []) F 3 q495 q496 q497 q72 q498 cdV_X9_canBe rfl rfl (Nat.le_of_ble_eq_true rfl) (Nat.le_of_ble_eq_true rfl) dX10_canFeel_32) (m_X9_canBe (kL K) X h0 h1 e (p / 4) ((p + k + 3) % 4) (decide ((btN a k) = 1)) (by omega) (by omega) (by omega)) rfl (Mr := []) [0, 1] [] rfl 2 rfl (by decide +kernel) rfl rfl (rc_of F 0 4 rfl rfl) (Nat.le_of_ble_eq_true rfl) (c2 := 0) (s2 := 0) (Nat.zero_le _) (Nat.zero_le _) rfl rfl (st1 := [.int (bI (cbB e (p / 4) ((p + k + 3) % 4) (decide ((btN a k) = 1))))]) rfl ?_
      refine g_ifB_ne 35 38 40 F dX10_canFeel_35 rfl (by decide) (fun c_3 => ?_) (fun c_3 => ?_)
      · have hK := c_3
        refine g_iinc 40 43 F (v := nI (k + 1)) [(3, .int (nI (k + 1))), (0, .ref h0), (1, .int (nI (p))), (2, .int (nI (a)))] dX10_canFeel_40 rfl 3 rfl (nI_add _ _) (Nat.le_of_ble_eq_true rfl) rfl ?_
        refine g_goto 43 2 F dX10_canFeel_43 (by decide) ?_
        refine g_ls [(0, .ref h0), (1, .int (nI (p))), (2, .int (nI (a))), (3, .int (nI (k + 1)))] [1, 2, 3, 0] (rfl) ?_
        exact ih_k (by simp only [cfN, iv_k, Bool.true_and]; exact hK)
      · have hK := c_3
        refine g_iconst 38 39 F (nI (0)) dX10_canFeel_38 rfl (by decide) ?_
        exact g_zret 39 F R dX10_canFeel_39 (Nat.zero_le _) (Nat.zero_le _) (by decide) (⟨congrArg (fun z => some (Value.int z)) (by first | (rw [iv_k]; rfl) | (rw [cfN_miss hK (by omega)]; rfl)), rfl⟩)

set_option maxHeartbeats 4000000 in
theorem m_X10_felt (l : Launch) (X : gk_X) (b0 b1 : Nat) (f : Nat → Bool) (h0 h1 : Nat) (e : Nat → Nat) (a : Nat) (he : ∀ k, k < 60 → e k < 3) (ha : a < 8) : Ct l X yX10_felt cX10_felt 5 (some (.object "Bumpward$Belief")) 7 2 145 [.ref b0, .ref h0, .int (nI (a))] [[(b0, ob 5 [.ref b1])], [(b1, zA X 144 (f))], [(h0, ob 4 [.ref h1])], [(h1, iA X 60 (fun k => nI (e k)))]] (fun v M' => ∃ q qa, v = some (.ref q) ∧ M' = [[(b0, ob 5 [.ref b1])], [(b1, zA X 144 (f))], [(h0, ob 4 [.ref h1])], [(h1, iA X 60 (fun k => nI (e k)))], [(q, ob 5 [.ref qa])], [(qa, zA X 144 (ftF e f a))]]) := by
  refine Ct.of (by decide) (Nat.le_of_ble_eq_true rfl) "Bumpward$Belief" "felt" rfl rfl (fun K F eL R => ?_)
  subst eL
  show G K X 5 0 0 [[(b0, ob 5 [.ref b1])], [(b1, zA X 144 (f))], [(h0, ob 4 [.ref h1])], [(h1, iA X 60 (fun k => nI (e k)))]] [(0, .ref b0), (1, .ref h0), (2, .int (nI (a)))] 0 []
  refine g_new 0 3 F in_X10 tyX10 tyX10_ok q484 q485 q73 (ci := 5) rfl (fs := [.null]) (fun j hj => match j, hj with | 0, _ => rfl | j + 1, hj => absurd hj (by omega)) dX10_felt_0 rfl (c2 := 1) (s2 := 1) (Nat.le_of_ble_eq_true rfl) (Nat.le_of_ble_eq_true rfl) rfl rfl (M' := fun q => [[(b0, ob 5 [.ref b1])], [(b1, zA X 144 (f))], [(h0, ob 4 [.ref h1])], [(h1, iA X 60 (fun k => nI (e k)))], [(q, ob 5 [.null])]]) (fun _ => rfl) (fun q => ?_)
  show G K X 5 1 1 [[(b0, ob 5 [.ref b1])], [(b1, zA X 144 (f))], [(h0, ob 4 [.ref h1])], [(h1, iA X 60 (fun k => nI (e k)))], [(q, ob 5 [.null])]] [(0, .ref b0), (1, .ref h0), (2, .int (nI (a)))] 3 [.ref q]
  refine g_dup 3 4 F dX10_felt_3 rfl rfl ?_
  refine g_call 3 7 F (CallOk.I (b := q) (As := []) (rest := [.ref q]) F 0 q486 q487 q73 q488 rfl cd_X10_init rfl rfl (Nat.le_of_ble_eq_true rfl) (Nat.le_of_ble_eq_true rfl) dX10_felt_4) (m_X10_init (kL K) X q ) rfl (Mr := [[(b0, ob 5 [.ref b1])], [(b1, zA X 144 (f))], [(h0, ob 4 [.ref h1])], [(h1, iA X 60 (fun k => nI (e k)))]]) [4] [0, 1, 2, 3] rfl rfl rfl (rc_T) (Nat.le_of_ble_eq_true rfl) (c2 := 2) (s2 := 145) (Nat.le_refl _) (Nat.le_refl _) rfl rfl (fun v M1 hp => ?_)
  obtain ⟨qa, rfl, rfl⟩ := hp
  show G K X 5 2 145 [[(b0, ob 5 [.ref b1])], [(b1, zA X 144 (f))], [(h0, ob 4 [.ref h1])], [(h1, iA X 60 (fun k => nI (e k)))], [(q, ob 5 [.ref qa])], [(qa, zA X 144 (fun _ => false))]] [(0, .ref b0), (1, .ref h0), (2, .int (nI (a)))] 7 [.ref q]
  refine g_astore_n 7 8 F [(3, .ref q), (0, .ref b0), (1, .ref h0), (2, .int (nI (a)))] dX10_felt_7 rfl rfl (Nat.le_of_ble_eq_true rfl) rfl ?_
  refine g_iconst 8 9 F (nI (0)) dX10_felt_8 rfl (by decide) ?_
  refine g_istore 9 11 F [(4, .int (nI (0))), (3, .ref q), (0, .ref b0), (1, .ref h0), (2, .int (nI (a)))] dX10_felt_9 rfl (Nat.le_of_ble_eq_true rfl) rfl ?_
  refine g_ls [(0, .ref b0), (1, .ref h0), (2, .int (nI (a))), (3, .ref q), (4, .int (nI (0)))] [2, 3, 4, 1, 0] (rfl) ?_
  refine g_arrZ 5 rfl (g := fun j => decide (j < 0) && ftF e f a j) (fun j hj => by simp) rfl ?_
  refine g_down (P := fun i => G K X 5 2 145 [[(b0, ob 5 [.ref b1])], [(b1, zA X 144 (f))], [(h0, ob 4 [.ref h1])], [(h1, iA X 60 (fun k => nI (e k)))], [(q, ob 5 [.ref qa])], [(qa, zA X 144 (fun j => decide (j < i) && ftF e f a j))]] [(0, .ref b0), (1, .ref h0), (2, .int (nI (a))), (3, .ref q), (4, .int (nI (i)))] 11 []) 144 0 (by omega) ?_ (fun i hl_i hi_i ih_i => ?_)
  · show G K X 5 2 145 [[(b0, ob 5 [.ref b1])], [(b1, zA X 144 (f))], [(h0, ob 4 [.ref h1])], [(h1, iA X 60 (fun k => nI (e k)))], [(q, ob 5 [.ref qa])], [(qa, zA X 144 (fun j => decide (j < 144) && ftF e f a j))]] [(0, .ref b0), (1, .ref h0), (2, .int (nI (a))), (3, .ref q), (4, .int (nI (144)))] 11 []
    refine g_iload 11 13 F dX10_felt_11 rfl 4 rfl ?_
    refine g_sipush 13 16 F (nI (144)) dX10_felt_13 rfl (by decide) ?_
    refine g_icmpN_ge 16 19 57 F dX10_felt_16 rfl (by decide) (by omega) (by omega) (fun c_1 => ?_) (fun c_1 => ?_)
    · refine g_aload_n 57 58 F dX10_felt_57 rfl rfl 3 rfl ?_
      refine g_arrZ 5 rfl (g := ftF e f a) (fun j hj => by simp [hj]) rfl ?_
      exact g_aret 58 F R dX10_felt_58 (Nat.le_refl _) (Nat.le_refl _) (Or.inl ⟨_, rfl⟩) (⟨q, qa, rfl, rfl⟩)
    · exact absurd c_1 (by omega)
  · show G K X 5 2 145 [[(b0, ob 5 [.ref b1])], [(b1, zA X 144 (f))], [(h0, ob 4 [.ref h1])], [(h1, iA X 60 (fun k => nI (e k)))], [(q, ob 5 [.ref qa])], [(qa, zA X 144 (fun j => decide (j < i) && ftF e f a j))]] [(0, .ref b0), (1, .ref h0), (2, .int (nI (a))), (3, .ref q), (4, .int (nI (i)))] 11 []
    refine g_iload 11 13 F dX10_felt_11 rfl 4 rfl ?_
    refine g_sipush 13 16 F (nI (144)) dX10_felt_13 rfl (by decide) ?_
    refine g_icmpN_ge 16 19 57 F dX10_felt_16 rfl (by decide) (by omega) (by omega) (fun c_2 => ?_) (fun c_2 => ?_)
    · exact absurd c_2 (by omega)
    · refine g_aload_n 19 20 F dX10_felt_19 rfl rfl 3 rfl ?_
      refine g_get 20 23 F (ci := 5) in_X10 rfl 0 (by decide) q490 (fun _ h => h) dX10_felt_20 rfl 4 rfl (v := .ref qa) rfl ?_
      refine g_iload 23 25 F dX10_felt_23 rfl 4 rfl ?_
      have J_3 : G K X 5 2 145 [[(b0, ob 5 [.ref b1])], [(b1, zA X 144 (f))], [(h0, ob 4 [.ref h1])], [(h1, iA X 60 (fun k => nI (e k)))], [(q, ob 5 [.ref qa])], [(qa, zA X 144 (fun j => decide (j < i) && ftF e f a j))]] [(0, .ref b0), (1, .ref h0), (2, .int (nI (a))), (3, .ref q), (4, .int (nI (i)))] 50 [.int (bI (ftF e f a i)), .int (nI (i)), .ref qa] := by
        refine g_zast 50 51 F dX10_felt_50 rfl 5 (i := i) rfl (Nat.le_of_ble_eq_true rfl) (by omega) (f' := fun j => decide (j < i + 1) && ftF e f a j) (updB_lt (ftF e f a) i) (M' := [[(b0, ob 5 [.ref b1])], [(b1, zA X 144 (f))], [(h0, ob 4 [.ref h1])], [(h1, iA X 60 (fun k => nI (e k)))], [(q, ob 5 [.ref qa])], [(qa, zA X 144 (fun j => decide (j < i + 1) && ftF e f a j))]]) rfl ?_
        refine g_iinc 51 54 F (v := nI (i + 1)) [(4, .int (nI (i + 1))), (0, .ref b0), (1, .ref h0), (2, .int (nI (a))), (3, .ref q)] dX10_felt_51 rfl 4 rfl (nI_add _ _) (Nat.le_of_ble_eq_true rfl) rfl ?_
        refine g_goto 54 11 F dX10_felt_54 (by decide) ?_
        refine g_ls [(0, .ref b0), (1, .ref h0), (2, .int (nI (a))), (3, .ref q), (4, .int (nI (i + 1)))] [1, 2, 3, 4, 0] (rfl) ?_
        exact ih_i
      refine g_aload_n 25 26 F dX10_felt_25 rfl rfl 0 rfl ?_
      refine g_get 26 29 F (ci := 5) in_X10 rfl 0 (by decide) q490 (fun _ h => h) dX10_felt_26 rfl 0 rfl (v := .ref b1) rfl ?_
      refine g_iload 29 31 F dX10_felt_29 rfl 4 rfl ?_
      refine g_zald 31 32 F dX10_felt_31 rfl 1 (i := i) rfl (Nat.le_of_ble_eq_true rfl) (by omega) ?_
      refine g_ifB_eq 32 35 49 F dX10_felt_32 rfl (by decide) (fun c_4 => ?_) (fun c_4 => ?_)
      · refine g_iconst 49 50 F (nI (0)) dX10_felt_49 rfl (by decide) ?_
        refine g_top (v := bI (ftF e f a i)) (by simp [*, ftF, nI_0, bI_f, bI_t]) ?_
        exact J_3
      · refine g_aload_n 35 36 F dX10_felt_35 rfl rfl 1 rfl ?_
        refine g_iload 36 38 F dX10_felt_36 rfl 4 rfl ?_
        refine g_iload_n 38 39 F dX10_felt_38 rfl rfl 2 rfl ?_
        refine g_callP 3 42 F (CallOk.S (As := [.ref h0, .int (nI (i)), .int (nI (a))]) (rest := [.int (nI (i)), .ref qa]) F 3 q508 q509 q73 q510 cd_X10_canFeel rfl rfl (Nat.le_of_ble_eq_true rfl) (Nat.le_of_ble_eq_true rfl) dX10_felt_39) (m_X10_canFeel (kL K) X h0 h1 e i a (by omega) (by omega) (by omega)) rfl (Mr := [[(b0, ob 5 [.ref b1])], [(b1, zA X 144 (f))], [(q, ob 5 [.ref qa])], [(qa, zA X 144 (fun j => decide (j < i) && ftF e f a j))]]) [2, 3] [0, 1, 4, 5] rfl 6 rfl (by decide +kernel) rfl rfl (rc_T) (Nat.le_of_ble_eq_true rfl) (c2 := 2) (s2 := 145) (Nat.le_refl _) (Nat.le_refl _) rfl rfl (st1 := [.int (bI (cfN e i a 3)), .int (nI (i)), .ref qa]) rfl ?_
        refine g_diaB_eq 42 49 50 F dX10_felt_42 (by decide) dX10_felt_45 dX10_felt_46 (by decide) dX10_felt_49 rfl ?_
        refine g_top (v := bI (ftF e f a i)) (by simp [*, ftF, nI_0, bI_f, bI_t]) ?_
        exact J_3

set_option maxHeartbeats 4000000 in
theorem m_X10_forward (l : Launch) (X : gk_X) (b0 b1 : Nat) (f : Nat → Bool) (h0 h1 : Nat) (e : Nat → Nat) (b : Bool) (he : ∀ k, k < 60 → e k < 3) : Ct l X yX10_forward cX10_forward 5 (some (.object "Bumpward$Belief")) 6 2 145 [.ref b0, .ref h0, .int (bI (b))] [[(b0, ob 5 [.ref b1])], [(b1, zA X 144 (f))], [(h0, ob 4 [.ref h1])], [(h1, iA X 60 (fun k => nI (e k)))]] (fun v M' => ∃ q qa, v = some (.ref q) ∧ M' = [[(b0, ob 5 [.ref b1])], [(b1, zA X 144 (f))], [(h0, ob 4 [.ref h1])], [(h1, iA X 60 (fun k => nI (e k)))], [(q, ob 5 [.ref qa])], [(qa, zA X 144 (fwF e f b))]]) := by
  refine Ct.of (by decide) (Nat.le_of_ble_eq_true rfl) "Bumpward$Belief" "forward" rfl rfl (fun K F eL R => ?_)
  subst eL
  show G K X 5 0 0 [[(b0, ob 5 [.ref b1])], [(b1, zA X 144 (f))], [(h0, ob 4 [.ref h1])], [(h1, iA X 60 (fun k => nI (e k)))]] [(0, .ref b0), (1, .ref h0), (2, .int (bI (b)))] 0 []
  refine g_new 0 3 F in_X10 tyX10 tyX10_ok q484 q485 q73 (ci := 5) rfl (fs := [.null]) (fun j hj => match j, hj with | 0, _ => rfl | j + 1, hj => absurd hj (by omega)) dX10_forward_0 rfl (c2 := 1) (s2 := 1) (Nat.le_of_ble_eq_true rfl) (Nat.le_of_ble_eq_true rfl) rfl rfl (M' := fun q => [[(b0, ob 5 [.ref b1])], [(b1, zA X 144 (f))], [(h0, ob 4 [.ref h1])], [(h1, iA X 60 (fun k => nI (e k)))], [(q, ob 5 [.null])]]) (fun _ => rfl) (fun q => ?_)
  show G K X 5 1 1 [[(b0, ob 5 [.ref b1])], [(b1, zA X 144 (f))], [(h0, ob 4 [.ref h1])], [(h1, iA X 60 (fun k => nI (e k)))], [(q, ob 5 [.null])]] [(0, .ref b0), (1, .ref h0), (2, .int (bI (b)))] 3 [.ref q]
  refine g_dup 3 4 F dX10_forward_3 rfl rfl ?_
  refine g_call 3 7 F (CallOk.I (b := q) (As := []) (rest := [.ref q]) F 0 q486 q487 q73 q488 rfl cd_X10_init rfl rfl (Nat.le_of_ble_eq_true rfl) (Nat.le_of_ble_eq_true rfl) dX10_forward_4) (m_X10_init (kL K) X q ) rfl (Mr := [[(b0, ob 5 [.ref b1])], [(b1, zA X 144 (f))], [(h0, ob 4 [.ref h1])], [(h1, iA X 60 (fun k => nI (e k)))]]) [4] [0, 1, 2, 3] rfl rfl rfl (rc_T) (Nat.le_of_ble_eq_true rfl) (c2 := 2) (s2 := 145) (Nat.le_refl _) (Nat.le_refl _) rfl rfl (fun v M1 hp => ?_)
  obtain ⟨qa, rfl, rfl⟩ := hp
  show G K X 5 2 145 [[(b0, ob 5 [.ref b1])], [(b1, zA X 144 (f))], [(h0, ob 4 [.ref h1])], [(h1, iA X 60 (fun k => nI (e k)))], [(q, ob 5 [.ref qa])], [(qa, zA X 144 (fun _ => false))]] [(0, .ref b0), (1, .ref h0), (2, .int (bI (b)))] 7 [.ref q]
  refine g_astore_n 7 8 F [(3, .ref q), (0, .ref b0), (1, .ref h0), (2, .int (bI (b)))] dX10_forward_7 rfl rfl (Nat.le_of_ble_eq_true rfl) rfl ?_
  refine g_iconst 8 9 F (nI (0)) dX10_forward_8 rfl (by decide) ?_
  refine g_istore 9 11 F [(4, .int (nI (0))), (3, .ref q), (0, .ref b0), (1, .ref h0), (2, .int (bI (b)))] dX10_forward_9 rfl (Nat.le_of_ble_eq_true rfl) rfl ?_
  refine g_ls [(0, .ref b0), (1, .ref h0), (2, .int (bI (b))), (3, .ref q), (4, .int (nI (0)))] [2, 3, 4, 1, 0] (rfl) ?_
  refine g_down (P := fun i => G K X 5 2 145 [[(b0, ob 5 [.ref b1])], [(b1, zA X 144 (f))], [(h0, ob 4 [.ref h1])], [(h1, iA X 60 (fun k => nI (e k)))], [(q, ob 5 [.ref qa])], [(qa, zA X 144 (fwN e f b i))]] [(0, .ref b0), (1, .ref h0), (2, .int (bI (b))), (3, .ref q), (4, .int (nI (i)))] 11 []) 144 0 (by omega) ?_ (fun i hl_i hi_i ih_i => ?_)
  · show G K X 5 2 145 [[(b0, ob 5 [.ref b1])], [(b1, zA X 144 (f))], [(h0, ob 4 [.ref h1])], [(h1, iA X 60 (fun k => nI (e k)))], [(q, ob 5 [.ref qa])], [(qa, zA X 144 (fwN e f b 144))]] [(0, .ref b0), (1, .ref h0), (2, .int (bI (b))), (3, .ref q), (4, .int (nI (144)))] 11 []
    refine g_iload 11 13 F dX10_forward_11 rfl 4 rfl ?_
    refine g_sipush 13 16 F (nI (144)) dX10_forward_13 rfl (by decide) ?_
    refine g_icmpN_ge 16 19 90 F dX10_forward_16 rfl (by decide) (by omega) (by omega) (fun c_1 => ?_) (fun c_1 => ?_)
    · refine g_aload_n 90 91 F dX10_forward_90 rfl rfl 3 rfl ?_
      exact g_aret 91 F R dX10_forward_91 (Nat.le_refl _) (Nat.le_refl _) (Or.inl ⟨_, rfl⟩) (⟨q, qa, rfl, rfl⟩)
    · exact absurd c_1 (by omega)
  · show G K X 5 2 145 [[(b0, ob 5 [.ref b1])], [(b1, zA X 144 (f))], [(h0, ob 4 [.ref h1])], [(h1, iA X 60 (fun k => nI (e k)))], [(q, ob 5 [.ref qa])], [(qa, zA X 144 (fwN e f b i))]] [(0, .ref b0), (1, .ref h0), (2, .int (bI (b))), (3, .ref q), (4, .int (nI (i)))] 11 []
    refine g_iload 11 13 F dX10_forward_11 rfl 4 rfl ?_
    refine g_sipush 13 16 F (nI (144)) dX10_forward_13 rfl (by decide) ?_
    refine g_icmpN_ge 16 19 90 F dX10_forward_16 rfl (by decide) (by omega) (by omega) (fun c_2 => ?_) (fun c_2 => ?_)
    · exact absurd c_2 (by omega)
    · refine g_aload_n 19 20 F dX10_forward_19 rfl rfl 0 rfl ?_
      refine g_get 20 23 F (ci := 5) in_X10 rfl 0 (by decide) q490 (fun _ h => h) dX10_forward_20 rfl 0 rfl (v := .ref b1) rfl ?_
      refine g_iload 23 25 F dX10_forward_23 rfl 4 rfl ?_
      refine g_zald 25 26 F dX10_forward_25 rfl 1 (i := i) rfl (Nat.le_of_ble_eq_true rfl) (by omega) ?_
      refine g_ifB_eq 26 29 84 F dX10_forward_26 rfl (by decide) (fun c_3 => ?_) (fun c_3 => ?_)
      · rw [fw_no (e := e) (b := b) (by simp [c_3])]
        refine g_iinc 84 87 F (v := nI (i + 1)) [(4, .int (nI (i + 1))), (0, .ref b0), (1, .ref h0), (2, .int (bI (b))), (3, .ref q)] dX10_forward_84 rfl 4 rfl (nI_add _ _) (Nat.le_of_ble_eq_true rfl) rfl ?_
        refine g_goto 87 11 F dX10_forward_87 (by decide) ?_
        refine g_ls [(0, .ref b0), (1, .ref h0), (2, .int (bI (b))), (3, .ref q), (4, .int (nI (i + 1)))] [1, 2, 3, 4, 0] (rfl) ?_
        exact ih_i
      · have hF := c_3
        refine g_aload_n 29 30 F dX10_forward_29 rfl rfl 1 rfl ?_
        refine g_iload 30 32 F dX10_forward_30 rfl 4 rfl ?_
        refine g_iconst 32 33 F (nI (4)) dX10_forward_32 rfl (by decide) ?_
        refine g_idiv 33 34 F (v := nI (i / 4)) dX10_forward_33 rfl (by decide) (pk_div (by omega) (by omega) (by omega)) ?_
        refine g_iload 34 36 F dX10_forward_34 rfl 4 rfl ?_
        refine g_iconst 36 37 F (nI (4)) dX10_forward_36 rfl (by decide) ?_
        refine g_irem 37 38 F (v := nI (i % 4)) dX10_forward_37 rfl (by decide) (pk_rem (by omega) (by omega) (by omega)) ?_
        refine g_iload_n 38 39 F dX10_forward_38 rfl rfl 2 rfl ?_
        refine g_callP 3 42 F (CallOk.V (C := "Bumpward$Plan") (b := h0) (As := [.int (nI (i / 4)), .int (nI (i % 4)), .int (bI (b))]) (rest := []) F 3 q495 q496 q497 q72 q498 cdV_X9_canBe rfl rfl (Nat.le_of_ble_eq_true rfl) (Nat.le_of_ble_eq_true rfl) dX10_forward_39) (m_X9_canBe (kL K) X h0 h1 e (i / 4) (i % 4) b (by omega) (by omega) (by omega)) rfl (Mr := [[(b0, ob 5 [.ref b1])], [(b1, zA X 144 (f))], [(q, ob 5 [.ref qa])], [(qa, zA X 144 (fwN e f b i))]]) [2, 3] [0, 1, 4, 5] rfl 6 rfl (by decide +kernel) rfl rfl (rc_of F 2 4 rfl rfl) (Nat.le_of_ble_eq_true rfl) (c2 := 2) (s2 := 145) (Nat.le_refl _) (Nat.le_refl _) rfl rfl (st1 := [.int (bI (cbB e (i / 4) (i % 4) b))]) rfl ?_
        refine g_ifB_ne 42 45 48 F dX10_forward_42 rfl (by decide) (fun c_4 => ?_) (fun c_4 => ?_)
        · have hC := c_4
          refine g_aload_n 48 49 F dX10_forward_48 rfl rfl 3 rfl ?_
          refine g_get 49 52 F (ci := 5) in_X10 rfl 0 (by decide) q490 (fun _ h => h) dX10_forward_49 rfl 4 rfl (v := .ref qa) rfl ?_
          refine g_iload 52 54 F dX10_forward_52 rfl 4 rfl ?_
          refine g_iconst 54 55 F (nI (1)) dX10_forward_54 rfl (by decide) ?_
          refine g_top (v := bI true) rfl ?_
          refine g_zast 55 56 F dX10_forward_55 rfl 5 (i := i) rfl (Nat.le_of_ble_eq_true rfl) (by omega) (f' := updB (fwN e f b i) i true) (rfl) (M' := [[(b0, ob 5 [.ref b1])], [(b1, zA X 144 (f))], [(h0, ob 4 [.ref h1])], [(h1, iA X 60 (fun k => nI (e k)))], [(q, ob 5 [.ref qa])], [(qa, zA X 144 (updB (fwN e f b i) i true))]]) rfl ?_
          refine g_iload_n 56 57 F dX10_forward_56 rfl rfl 2 rfl ?_
          refine g_ifB_ne 57 60 84 F dX10_forward_57 rfl (by decide) (fun c_5 => ?_) (fun c_5 => ?_)
          · rw [fw_t hF hC c_5]
            refine g_iinc 84 87 F (v := nI (i + 1)) [(4, .int (nI (i + 1))), (0, .ref b0), (1, .ref h0), (2, .int (bI (b))), (3, .ref q)] dX10_forward_84 rfl 4 rfl (nI_add _ _) (Nat.le_of_ble_eq_true rfl) rfl ?_
            refine g_goto 87 11 F dX10_forward_87 (by decide) ?_
            refine g_ls [(0, .ref b0), (1, .ref h0), (2, .int (bI (b))), (3, .ref q), (4, .int (nI (i + 1)))] [1, 2, 3, 4, 0] (rfl) ?_
            exact ih_i
          · have hb0 := c_5
            have hbn := cb_in c_5 hC
            have hbl := bsD_lt (c := i / 4) (s := i % 4) (by omega) (by omega)
            refine g_aload_n 60 61 F dX10_forward_60 rfl rfl 3 rfl ?_
            refine g_get 61 64 F (ci := 5) in_X10 rfl 0 (by decide) q490 (fun _ h => h) dX10_forward_61 rfl 4 rfl (v := .ref qa) rfl ?_
            refine g_iload 64 66 F dX10_forward_64 rfl 4 rfl ?_
            refine g_iconst 66 67 F (nI (4)) dX10_forward_66 rfl (by decide) ?_
            refine g_idiv 67 68 F (v := nI (i / 4)) dX10_forward_67 rfl (by decide) (pk_div (by omega) (by omega) (by omega)) ?_
            refine g_iload 68 70 F dX10_forward_68 rfl 4 rfl ?_
            refine g_iconst 70 71 F (nI (4)) dX10_forward_70 rfl (by decide) ?_
            refine g_irem 71 72 F (v := nI (i % 4)) dX10_forward_71 rfl (by decide) (pk_rem (by omega) (by omega) (by omega)) ?_
            refine g_callP 3 75 F (CallOk.SN (As := [.int (nI (i / 4)), .int (nI (i % 4))]) (rest := [.ref qa]) F 2 q499 q360 q49 q361 cd_X1_beside rfl rfl (Nat.le_of_ble_eq_true rfl) (Nat.le_of_ble_eq_true rfl) dX10_forward_72) (m_X1_beside (kL K) X (i / 4) (i % 4) (by omega) (by omega)) rfl (Mr := [[(b0, ob 5 [.ref b1])], [(b1, zA X 144 (f))], [(h0, ob 4 [.ref h1])], [(h1, iA X 60 (fun k => nI (e k)))], [(q, ob 5 [.ref qa])], [(qa, zA X 144 (updB (fwN e f b i) i true))]]) [] [0, 1, 2, 3, 4, 5] rfl 6 rfl (by decide +kernel) rfl rfl (rc_T) (Nat.le_of_ble_eq_true rfl) (c2 := 2) (s2 := 145) (Nat.le_refl _) (Nat.le_refl _) rfl rfl (st1 := [.int (bsI (i / 4) (i % 4)), .ref qa]) rfl ?_
            refine g_top (v := nI (bsD (i / 4) (i % 4))) (bsI_nI hbn) ?_
            refine g_iconst 75 76 F (nI (4)) dX10_forward_75 rfl (by decide) ?_
            refine g_imul 76 77 F (v := nI ((bsD (i / 4) (i % 4)) * 4)) dX10_forward_76 rfl (pk_mul _ _) ?_
            refine g_iload 77 79 F dX10_forward_77 rfl 4 rfl ?_
            refine g_iconst 79 80 F (nI (4)) dX10_forward_79 rfl (by decide) ?_
            refine g_irem 80 81 F (v := nI (i % 4)) dX10_forward_80 rfl (by decide) (pk_rem (by omega) (by omega) (by omega)) ?_
            refine g_iadd 81 82 F (v := nI ((bsD (i / 4) (i % 4)) * 4 + (i % 4))) dX10_forward_81 rfl (nI_add _ _) ?_
            refine g_iconst 82 83 F (nI (1)) dX10_forward_82 rfl (by decide) ?_
            refine g_top (v := bI true) rfl ?_
            refine g_zast 83 84 F dX10_forward_83 rfl 5 (i := (bsD (i / 4) (i % 4)) * 4 + (i % 4)) rfl (Nat.le_of_ble_eq_true rfl) (by omega) (f' := fwN e f b (i + 1)) (fw_f hF hC hb0) (M' := [[(b0, ob 5 [.ref b1])], [(b1, zA X 144 (f))], [(h0, ob 4 [.ref h1])], [(h1, iA X 60 (fun k => nI (e k)))], [(q, ob 5 [.ref qa])], [(qa, zA X 144 (fwN e f b (i + 1)))]]) rfl ?_
            refine g_iinc 84 87 F (v := nI (i + 1)) [(4, .int (nI (i + 1))), (0, .ref b0), (1, .ref h0), (2, .int (bI (b))), (3, .ref q)] dX10_forward_84 rfl 4 rfl (nI_add _ _) (Nat.le_of_ble_eq_true rfl) rfl ?_
            refine g_goto 87 11 F dX10_forward_87 (by decide) ?_
            refine g_ls [(0, .ref b0), (1, .ref h0), (2, .int (bI (b))), (3, .ref q), (4, .int (nI (i + 1)))] [1, 2, 3, 4, 0] (rfl) ?_
            exact ih_i
        · rw [fw_no (e := e) (b := b) (by simp [c_4])]
          refine g_goto 45 84 F dX10_forward_45 (by decide) ?_
          refine g_iinc 84 87 F (v := nI (i + 1)) [(4, .int (nI (i + 1))), (0, .ref b0), (1, .ref h0), (2, .int (bI (b))), (3, .ref q)] dX10_forward_84 rfl 4 rfl (nI_add _ _) (Nat.le_of_ble_eq_true rfl) rfl ?_
          refine g_goto 87 11 F dX10_forward_87 (by decide) ?_
          refine g_ls [(0, .ref b0), (1, .ref h0), (2, .int (bI (b))), (3, .ref q), (4, .int (nI (i + 1)))] [1, 2, 3, 4, 0] (rfl) ?_
          exact ih_i

set_option maxHeartbeats 4000000 in
theorem m_X10_turned (l : Launch) (X : gk_X) (b0 b1 : Nat) (f : Nat → Bool) (r : Bool)  : Ct l X yX10_turned cX10_turned 4 (some (.object "Bumpward$Belief")) 4 2 145 [.ref b0, .int (bI (r))] [[(b0, ob 5 [.ref b1])], [(b1, zA X 144 (f))]] (fun v M' => ∃ q qa, v = some (.ref q) ∧ M' = [[(b0, ob 5 [.ref b1])], [(b1, zA X 144 (f))], [(q, ob 5 [.ref qa])], [(qa, zA X 144 (tuF f r))]]) := by
  refine Ct.of (by decide) (Nat.le_of_ble_eq_true rfl) "Bumpward$Belief" "turned" rfl rfl (fun K F eL R => ?_)
  subst eL
  show G K X 4 0 0 [[(b0, ob 5 [.ref b1])], [(b1, zA X 144 (f))]] [(0, .ref b0), (1, .int (bI (r)))] 0 []
  refine g_new 0 3 F in_X10 tyX10 tyX10_ok q484 q485 q73 (ci := 5) rfl (fs := [.null]) (fun j hj => match j, hj with | 0, _ => rfl | j + 1, hj => absurd hj (by omega)) dX10_turned_0 rfl (c2 := 1) (s2 := 1) (Nat.le_of_ble_eq_true rfl) (Nat.le_of_ble_eq_true rfl) rfl rfl (M' := fun q => [[(b0, ob 5 [.ref b1])], [(b1, zA X 144 (f))], [(q, ob 5 [.null])]]) (fun _ => rfl) (fun q => ?_)
  show G K X 4 1 1 [[(b0, ob 5 [.ref b1])], [(b1, zA X 144 (f))], [(q, ob 5 [.null])]] [(0, .ref b0), (1, .int (bI (r)))] 3 [.ref q]
  refine g_dup 3 4 F dX10_turned_3 rfl rfl ?_
  refine g_call 3 7 F (CallOk.I (b := q) (As := []) (rest := [.ref q]) F 0 q486 q487 q73 q488 rfl cd_X10_init rfl rfl (Nat.le_of_ble_eq_true rfl) (Nat.le_of_ble_eq_true rfl) dX10_turned_4) (m_X10_init (kL K) X q ) rfl (Mr := [[(b0, ob 5 [.ref b1])], [(b1, zA X 144 (f))]]) [2] [0, 1] rfl rfl rfl (rc_T) (Nat.le_of_ble_eq_true rfl) (c2 := 2) (s2 := 145) (Nat.le_refl _) (Nat.le_refl _) rfl rfl (fun v M1 hp => ?_)
  obtain ⟨qa, rfl, rfl⟩ := hp
  show G K X 4 2 145 [[(b0, ob 5 [.ref b1])], [(b1, zA X 144 (f))], [(q, ob 5 [.ref qa])], [(qa, zA X 144 (fun _ => false))]] [(0, .ref b0), (1, .int (bI (r)))] 7 [.ref q]
  refine g_astore_n 7 8 F [(2, .ref q), (0, .ref b0), (1, .int (bI (r)))] dX10_turned_7 rfl rfl (Nat.le_of_ble_eq_true rfl) rfl ?_
  refine g_iconst 8 9 F (nI (0)) dX10_turned_8 rfl (by decide) ?_
  refine g_istore_n 9 10 F [(3, .int (nI (0))), (2, .ref q), (0, .ref b0), (1, .int (bI (r)))] dX10_turned_9 rfl rfl (Nat.le_of_ble_eq_true rfl) rfl ?_
  refine g_ls [(0, .ref b0), (1, .int (bI (r))), (2, .ref q), (3, .int (nI (0)))] [2, 3, 1, 0] (rfl) ?_
  refine g_down (P := fun i => G K X 4 2 145 [[(b0, ob 5 [.ref b1])], [(b1, zA X 144 (f))], [(q, ob 5 [.ref qa])], [(qa, zA X 144 (tuN f r i))]] [(0, .ref b0), (1, .int (bI (r))), (2, .ref q), (3, .int (nI (i)))] 10 []) 144 0 (by omega) ?_ (fun i hl_i hi_i ih_i => ?_)
  · show G K X 4 2 145 [[(b0, ob 5 [.ref b1])], [(b1, zA X 144 (f))], [(q, ob 5 [.ref qa])], [(qa, zA X 144 (tuN f r 144))]] [(0, .ref b0), (1, .int (bI (r))), (2, .ref q), (3, .int (nI (144)))] 10 []
    refine g_iload_n 10 11 F dX10_turned_10 rfl rfl 3 rfl ?_
    refine g_sipush 11 14 F (nI (144)) dX10_turned_11 rfl (by decide) ?_
    refine g_icmpN_ge 14 17 43 F dX10_turned_14 rfl (by decide) (by omega) (by omega) (fun c_1 => ?_) (fun c_1 => ?_)
    · refine g_aload_n 43 44 F dX10_turned_43 rfl rfl 2 rfl ?_
      exact g_aret 44 F R dX10_turned_44 (Nat.le_refl _) (Nat.le_refl _) (Or.inl ⟨_, rfl⟩) (⟨q, qa, rfl, rfl⟩)
    · exact absurd c_1 (by omega)
  · show G K X 4 2 145 [[(b0, ob 5 [.ref b1])], [(b1, zA X 144 (f))], [(q, ob 5 [.ref qa])], [(qa, zA X 144 (tuN f r i))]] [(0, .ref b0), (1, .int (bI (r))), (2, .ref q), (3, .int (nI (i)))] 10 []
    have htl := tnD_lt hi_i r
    refine g_iload_n 10 11 F dX10_turned_10 rfl rfl 3 rfl ?_
    refine g_sipush 11 14 F (nI (144)) dX10_turned_11 rfl (by decide) ?_
    refine g_icmpN_ge 14 17 43 F dX10_turned_14 rfl (by decide) (by omega) (by omega) (fun c_2 => ?_) (fun c_2 => ?_)
    · exact absurd c_2 (by omega)
    · refine g_aload_n 17 18 F dX10_turned_17 rfl rfl 0 rfl ?_
      refine g_get 18 21 F (ci := 5) in_X10 rfl 0 (by decide) q490 (fun _ h => h) dX10_turned_18 rfl 0 rfl (v := .ref b1) rfl ?_
      refine g_iload_n 21 22 F dX10_turned_21 rfl rfl 3 rfl ?_
      refine g_zald 22 23 F dX10_turned_22 rfl 1 (i := i) rfl (Nat.le_of_ble_eq_true rfl) (by omega) ?_
      refine g_ifB_eq 23 26 37 F dX10_turned_23 rfl (by decide) (fun c_3 => ?_) (fun c_3 => ?_)
      · rw [tu_f (r := r) c_3]
        refine g_iinc 37 40 F (v := nI (i + 1)) [(3, .int (nI (i + 1))), (0, .ref b0), (1, .int (bI (r))), (2, .ref q)] dX10_turned_37 rfl 3 rfl (nI_add _ _) (Nat.le_of_ble_eq_true rfl) rfl ?_
        refine g_goto 40 10 F dX10_turned_40 (by decide) ?_
        refine g_ls [(0, .ref b0), (1, .int (bI (r))), (2, .ref q), (3, .int (nI (i + 1)))] [1, 2, 3, 0] (rfl) ?_
        exact ih_i
      · have hF := c_3
        refine g_aload_n 26 27 F dX10_turned_26 rfl rfl 2 rfl ?_
        refine g_get 27 30 F (ci := 5) in_X10 rfl 0 (by decide) q490 (fun _ h => h) dX10_turned_27 rfl 2 rfl (v := .ref qa) rfl ?_
        refine g_iload_n 30 31 F dX10_turned_30 rfl rfl 3 rfl ?_
        refine g_iload_n 31 32 F dX10_turned_31 rfl rfl 1 rfl ?_
        refine g_callP 3 35 F (CallOk.SN (As := [.int (nI (i)), .int (bI (r))]) (rest := [.ref qa]) F 2 q938 q932 q49 q933 cd_X1_turn_2 rfl rfl (Nat.le_of_ble_eq_true rfl) (Nat.le_of_ble_eq_true rfl) dX10_turned_32) (m_X1_turn_2 (kL K) X i r (by omega)) rfl (Mr := [[(b0, ob 5 [.ref b1])], [(b1, zA X 144 (f))], [(q, ob 5 [.ref qa])], [(qa, zA X 144 (tuN f r i))]]) [] [0, 1, 2, 3] rfl 4 rfl (by decide +kernel) rfl rfl (rc_T) (Nat.le_of_ble_eq_true rfl) (c2 := 2) (s2 := 145) (Nat.le_refl _) (Nat.le_refl _) rfl rfl (st1 := [.int (nI (tnD i r)), .ref qa]) rfl ?_
        refine g_iconst 35 36 F (nI (1)) dX10_turned_35 rfl (by decide) ?_
        refine g_top (v := bI true) rfl ?_
        refine g_zast 36 37 F dX10_turned_36 rfl 3 (i := tnD i r) rfl (Nat.le_of_ble_eq_true rfl) (by omega) (f' := tuN f r (i + 1)) (tu_t hF) (M' := [[(b0, ob 5 [.ref b1])], [(b1, zA X 144 (f))], [(q, ob 5 [.ref qa])], [(qa, zA X 144 (tuN f r (i + 1)))]]) rfl ?_
        refine g_iinc 37 40 F (v := nI (i + 1)) [(3, .int (nI (i + 1))), (0, .ref b0), (1, .int (bI (r))), (2, .ref q)] dX10_turned_37 rfl 3 rfl (nI_add _ _) (Nat.le_of_ble_eq_true rfl) rfl ?_
        refine g_goto 40 10 F dX10_turned_40 (by decide) ?_
        refine g_ls [(0, .ref b0), (1, .int (bI (r))), (2, .ref q), (3, .int (nI (i + 1)))] [1, 2, 3, 0] (rfl) ?_
        exact ih_i

set_option maxHeartbeats 4000000 in
theorem m_X10_cells (l : Launch) (X : gk_X) (b0 b1 : Nat) (f : Nat → Bool) (s : Nat) (hs : s < 4) : CtP l X yX10_cells cX10_cells 5 (some .long) 1 0 0 [.ref b0, .int (nI (s))] [[(b0, ob 5 [.ref b1])], [(b1, zA X 144 (f))]] (some (.long (clN f s 36))) := by
  unfold CtP
  refine Ct.of (by decide) (Nat.le_of_ble_eq_true rfl) "Bumpward$Belief" "cells" rfl rfl (fun K F eL R => ?_)
  subst eL
  show G K X 5 0 0 [[(b0, ob 5 [.ref b1])], [(b1, zA X 144 (f))]] [(0, .ref b0), (1, .int (nI (s)))] 0 []
  refine g_lconst 0 1 F 0 dX10_cells_0 rfl (by decide) ?_
  refine g_lstore_n 1 2 F [(2, .long (0)), (0, .ref b0), (1, .int (nI (s)))] dX10_cells_1 rfl rfl (Nat.le_of_ble_eq_true rfl) rfl ?_
  refine g_iconst 2 3 F (nI (0)) dX10_cells_2 rfl (by decide) ?_
  refine g_istore 3 5 F [(4, .int (nI (0))), (2, .long (0)), (0, .ref b0), (1, .int (nI (s)))] dX10_cells_3 rfl (Nat.le_of_ble_eq_true rfl) rfl ?_
  refine g_ls [(0, .ref b0), (1, .int (nI (s))), (2, .long (clN f s 0)), (4, .int (nI (0)))] [2, 3, 1, 0] (rfl) ?_
  refine g_down (P := fun i => G K X 5 0 0 [[(b0, ob 5 [.ref b1])], [(b1, zA X 144 (f))]] [(0, .ref b0), (1, .int (nI (s))), (2, .long (clN f s i)), (4, .int (nI (i)))] 5 []) 36 0 (by omega) ?_ (fun i hl_i hi_i ih_i => ?_)
  · show G K X 5 0 0 [[(b0, ob 5 [.ref b1])], [(b1, zA X 144 (f))]] [(0, .ref b0), (1, .int (nI (s))), (2, .long (clN f s 36)), (4, .int (nI (36)))] 5 []
    refine g_iload 5 7 F dX10_cells_5 rfl 3 rfl ?_
    refine g_bipush 7 9 F (nI (36)) dX10_cells_7 rfl (by decide) ?_
    refine g_icmpN_ge 9 12 39 F dX10_cells_9 rfl (by decide) (by omega) (by omega) (fun c_1 => ?_) (fun c_1 => ?_)
    · refine g_lload_n 39 40 F dX10_cells_39 rfl rfl 2 rfl ?_
      exact g_lret 40 F R dX10_cells_40 (Nat.zero_le _) (Nat.zero_le _) (⟨rfl, rfl⟩)
    · exact absurd c_1 (by omega)
  · show G K X 5 0 0 [[(b0, ob 5 [.ref b1])], [(b1, zA X 144 (f))]] [(0, .ref b0), (1, .int (nI (s))), (2, .long (clN f s i)), (4, .int (nI (i)))] 5 []
    refine g_iload 5 7 F dX10_cells_5 rfl 3 rfl ?_
    refine g_bipush 7 9 F (nI (36)) dX10_cells_7 rfl (by decide) ?_
    refine g_icmpN_ge 9 12 39 F dX10_cells_9 rfl (by decide) (by omega) (by omega) (fun c_2 => ?_) (fun c_2 => ?_)
    · exact absurd c_2 (by omega)
    · refine g_aload_n 12 13 F dX10_cells_12 rfl rfl 0 rfl ?_
      refine g_get 13 16 F (ci := 5) in_X10 rfl 0 (by decide) q490 (fun _ h => h) dX10_cells_13 rfl 0 rfl (v := .ref b1) rfl ?_
      refine g_iload 16 18 F dX10_cells_16 rfl 3 rfl ?_
      refine g_iconst 18 19 F (nI (4)) dX10_cells_18 rfl (by decide) ?_
      refine g_imul 19 20 F (v := nI (i * 4)) dX10_cells_19 rfl (pk_mul _ _) ?_
      refine g_iload_n 20 21 F dX10_cells_20 rfl rfl 1 rfl ?_
      refine g_iadd 21 22 F (v := nI (i * 4 + s)) dX10_cells_21 rfl (nI_add _ _) ?_
      refine g_zald 22 23 F dX10_cells_22 rfl 1 (i := i * 4 + s) rfl (Nat.le_of_ble_eq_true rfl) (by omega) ?_
      refine g_ifB_eq 23 26 33 F dX10_cells_23 rfl (by decide) (fun c_3 => ?_) (fun c_3 => ?_)
      · refine g_iinc 33 36 F (v := nI (i + 1)) [(4, .int (nI (i + 1))), (0, .ref b0), (1, .int (nI (s))), (2, .long (clN f s i))] dX10_cells_33 rfl 3 rfl (nI_add _ _) (Nat.le_of_ble_eq_true rfl) rfl ?_
        refine g_goto 36 5 F dX10_cells_36 (by decide) ?_
        refine g_ls [(0, .ref b0), (1, .int (nI (s))), (2, .long (clN f s (i + 1))), (4, .int (nI (i + 1)))] [1, 2, 3, 0] (by first | (rw [cl_f (by assumption)]; rfl) | (rw [cl_t (by assumption)]; rfl)) ?_
        exact ih_i
      · refine g_lload_n 26 27 F dX10_cells_26 rfl rfl 2 rfl ?_
        refine g_lconst 27 28 F 1 dX10_cells_27 rfl (by decide) ?_
        refine g_iload 28 30 F dX10_cells_28 rfl 3 rfl ?_
        refine g_lshl 30 31 F (v := 1 <<< ((nI (i)).toInt64 &&& 63)) dX10_cells_30 rfl (rfl) ?_
        refine g_lor 31 32 F (v := (clN f s i) ||| (1 <<< ((nI (i)).toInt64 &&& 63))) dX10_cells_31 rfl (rfl) ?_
        refine g_lstore_n 32 33 F [(2, .long ((clN f s i) ||| (1 <<< ((nI (i)).toInt64 &&& 63)))), (0, .ref b0), (1, .int (nI (s))), (4, .int (nI (i)))] dX10_cells_32 rfl rfl (Nat.le_of_ble_eq_true rfl) rfl ?_
        refine g_iinc 33 36 F (v := nI (i + 1)) [(4, .int (nI (i + 1))), (2, .long ((clN f s i) ||| (1 <<< ((nI (i)).toInt64 &&& 63)))), (0, .ref b0), (1, .int (nI (s)))] dX10_cells_33 rfl 3 rfl (nI_add _ _) (Nat.le_of_ble_eq_true rfl) rfl ?_
        refine g_goto 36 5 F dX10_cells_36 (by decide) ?_
        refine g_ls [(0, .ref b0), (1, .int (nI (s))), (2, .long (clN f s (i + 1))), (4, .int (nI (i + 1)))] [2, 3, 1, 0] (by first | (rw [cl_f (by assumption)]; rfl) | (rw [cl_t (by assumption)]; rfl)) ?_
        exact ih_i
