/-! BumpwardModel: a walker's ways and beliefs -/
theorem cdV_X11_sure : yX11_sure.cls = "BumpwardModel$Walker" ∧ yX11_sure.cls ≠ "java/lang/invoke/MethodHandle" ∧ yX11_sure.cls ≠ "java/lang/invoke/VarHandle" ∧ (parseMethodDescriptor yX11_sure.desc).map (fun d => d.parameters.length) = some 0 := by decide +kernel
theorem cd_X6_all : yX6_all.cls ≠ "java/lang/invoke/MethodHandle" ∧ yX6_all.cls ≠ "java/lang/invoke/VarHandle" ∧ (parseMethodDescriptor yX6_all.desc).map (fun d => d.parameters.length) = some 1 := by decide +kernel
theorem cdV_X6_costOf : yX6_costOf.cls = "BumpwardModel" ∧ yX6_costOf.cls ≠ "java/lang/invoke/MethodHandle" ∧ yX6_costOf.cls ≠ "java/lang/invoke/VarHandle" ∧ (parseMethodDescriptor yX6_costOf.desc).map (fun d => d.parameters.length) = some 1 := by decide +kernel
theorem cdV_X6_fars : yX6_fars.cls = "BumpwardModel" ∧ yX6_fars.cls ≠ "java/lang/invoke/MethodHandle" ∧ yX6_fars.cls ≠ "java/lang/invoke/VarHandle" ∧ (parseMethodDescriptor yX6_fars.desc).map (fun d => d.parameters.length) = some 2 := by decide +kernel
theorem cd_X6_feeling : yX6_feeling.cls ≠ "java/lang/invoke/MethodHandle" ∧ yX6_feeling.cls ≠ "java/lang/invoke/VarHandle" ∧ (parseMethodDescriptor yX6_feeling.desc).map (fun d => d.parameters.length) = some 2 := by decide +kernel
theorem cd_X6_fill : yX6_fill.cls ≠ "java/lang/invoke/MethodHandle" ∧ yX6_fill.cls ≠ "java/lang/invoke/VarHandle" ∧ (parseMethodDescriptor yX6_fill.desc).map (fun d => d.parameters.length) = some 1 := by decide +kernel
theorem cdV_X6_goalOf : yX6_goalOf.cls = "BumpwardModel" ∧ yX6_goalOf.cls ≠ "java/lang/invoke/MethodHandle" ∧ yX6_goalOf.cls ≠ "java/lang/invoke/VarHandle" ∧ (parseMethodDescriptor yX6_goalOf.desc).map (fun d => d.parameters.length) = some 1 := by decide +kernel
theorem cdV_X6_isSafe : yX6_isSafe.cls = "BumpwardModel" ∧ yX6_isSafe.cls ≠ "java/lang/invoke/MethodHandle" ∧ yX6_isSafe.cls ≠ "java/lang/invoke/VarHandle" ∧ (parseMethodDescriptor yX6_isSafe.desc).map (fun d => d.parameters.length) = some 1 := by decide +kernel
theorem cdV_X6_isWallNow : yX6_isWallNow.cls = "BumpwardModel" ∧ yX6_isWallNow.cls ≠ "java/lang/invoke/MethodHandle" ∧ yX6_isWallNow.cls ≠ "java/lang/invoke/VarHandle" ∧ (parseMethodDescriptor yX6_isWallNow.desc).map (fun d => d.parameters.length) = some 2 := by decide +kernel
theorem cd_X6_known : yX6_known.cls ≠ "java/lang/invoke/MethodHandle" ∧ yX6_known.cls ≠ "java/lang/invoke/VarHandle" ∧ (parseMethodDescriptor yX6_known.desc).map (fun d => d.parameters.length) = some 3 := by decide +kernel
theorem cdV_X6_returnOf : yX6_returnOf.cls = "BumpwardModel" ∧ yX6_returnOf.cls ≠ "java/lang/invoke/MethodHandle" ∧ yX6_returnOf.cls ≠ "java/lang/invoke/VarHandle" ∧ (parseMethodDescriptor yX6_returnOf.desc).map (fun d => d.parameters.length) = some 1 := by decide +kernel
theorem cd_X6_stepped : yX6_stepped.cls ≠ "java/lang/invoke/MethodHandle" ∧ yX6_stepped.cls ≠ "java/lang/invoke/VarHandle" ∧ (parseMethodDescriptor yX6_stepped.desc).map (fun d => d.parameters.length) = some 2 := by decide +kernel
theorem cdV_X6_worstNow : yX6_worstNow.cls = "BumpwardModel" ∧ yX6_worstNow.cls ≠ "java/lang/invoke/MethodHandle" ∧ yX6_worstNow.cls ≠ "java/lang/invoke/VarHandle" ∧ (parseMethodDescriptor yX6_worstNow.desc).map (fun d => d.parameters.length) = some 2 := by decide +kernel
set_option maxHeartbeats 4000000 in
theorem m_X6_fars (l : Launch) (X : gk_X) (mo : Nat) (w ma mg : Nat) (mr : Nat → Nat) (po ho : Nat) (ch lo ac bu sl : Int32) (e : Nat → Nat) (fr : Nat) (he : ∀ k, k < 60 → e k < 3) (hfr : fr < 36) : Ct l X yX6_fars cX6_fars 7 (some (.array .int)) 5 1 36 [.ref mo, .ref w, .int (nI (fr))] [[(w, ob 8 [.int (nI (po)), .int (nI (ho)), .int (ch), .ref ma, .ref mg, .int (lo), .int (ac), .int (bu), .int (sl)])], [(mg, oA X 5 36 (fun j => some (mr j)))], poolW 36 (fun j => [(mr j, iA X 2 (fun z => nI (mpN e j z)))])] (fun v M' => ∃ q, v = some (.ref q) ∧ M' = [[(w, ob 8 [.int (nI (po)), .int (nI (ho)), .int (ch), .ref ma, .ref mg, .int (lo), .int (ac), .int (bu), .int (sl)])], [(mg, oA X 5 36 (fun j => some (mr j)))], poolW 36 (fun j => [(mr j, iA X 2 (fun z => nI (mpN e j z)))]), [(q, iA X 36 (wyF e fr))]]) := by
  refine Ct.of (by decide) (Nat.le_of_ble_eq_true rfl) "BumpwardModel" "fars" rfl rfl (fun K F eL R => ?_)
  subst eL
  show G K X 7 0 0 [[(w, ob 8 [.int (nI (po)), .int (nI (ho)), .int (ch), .ref ma, .ref mg, .int (lo), .int (ac), .int (bu), .int (sl)])], [(mg, oA X 5 36 (fun j => some (mr j)))], poolW 36 (fun j => [(mr j, iA X 2 (fun z => nI (mpN e j z)))])] [(0, .ref mo), (1, .ref w), (2, .int (nI (fr)))] 0 []
  refine g_bipush 0 2 F (nI (36)) dX6_fars_0 rfl (by decide) ?_
  refine g_newI 2 4 F dX6_fars_2 rfl (n := 36) (Nat.le_of_ble_eq_true rfl) (c2 := 1) (s2 := 36) (Nat.le_refl _) (Nat.le_refl _) rfl rfl (M' := fun q => [[(w, ob 8 [.int (nI (po)), .int (nI (ho)), .int (ch), .ref ma, .ref mg, .int (lo), .int (ac), .int (bu), .int (sl)])], [(mg, oA X 5 36 (fun j => some (mr j)))], poolW 36 (fun j => [(mr j, iA X 2 (fun z => nI (mpN e j z)))]), [(q, iA X 36 (fun _ => 0))]]) (fun _ => rfl) (fun q => ?_)
  show G K X 7 1 36 [[(w, ob 8 [.int (nI (po)), .int (nI (ho)), .int (ch), .ref ma, .ref mg, .int (lo), .int (ac), .int (bu), .int (sl)])], [(mg, oA X 5 36 (fun j => some (mr j)))], poolW 36 (fun j => [(mr j, iA X 2 (fun z => nI (mpN e j z)))]), [(q, iA X 36 (fun _ => 0))]] [(0, .ref mo), (1, .ref w), (2, .int (nI (fr)))] 4 [.ref q]
  refine g_astore_n 4 5 F [(3, .ref q), (0, .ref mo), (1, .ref w), (2, .int (nI (fr)))] dX6_fars_4 rfl rfl (Nat.le_of_ble_eq_true rfl) rfl ?_
  refine g_iconst 5 6 F (nI (0)) dX6_fars_5 rfl (by decide) ?_
  refine g_istore 6 8 F [(4, .int (nI (0))), (3, .ref q), (0, .ref mo), (1, .ref w), (2, .int (nI (fr)))] dX6_fars_6 rfl (Nat.le_of_ble_eq_true rfl) rfl ?_
  refine g_ls [(0, .ref mo), (1, .ref w), (2, .int (nI (fr))), (3, .ref q), (4, .int (nI (0)))] [2, 3, 4, 1, 0] (rfl) ?_
  refine g_arr 3 rfl (g := fun j => if j < 0 then w0F fr j else (fun _ => 0) j) (fun j hj => by simp) rfl ?_
  refine g_down (P := fun i => G K X 7 1 36 [[(w, ob 8 [.int (nI (po)), .int (nI (ho)), .int (ch), .ref ma, .ref mg, .int (lo), .int (ac), .int (bu), .int (sl)])], [(mg, oA X 5 36 (fun j => some (mr j)))], poolW 36 (fun j => [(mr j, iA X 2 (fun z => nI (mpN e j z)))]), [(q, iA X 36 (fun j => if j < i then w0F fr j else (fun _ => 0) j))]] [(0, .ref mo), (1, .ref w), (2, .int (nI (fr))), (3, .ref q), (4, .int (nI (i)))] 8 []) 36 0 (by omega) ?_ (fun i hl_i hi_i ih_i => ?_)
  · show G K X 7 1 36 [[(w, ob 8 [.int (nI (po)), .int (nI (ho)), .int (ch), .ref ma, .ref mg, .int (lo), .int (ac), .int (bu), .int (sl)])], [(mg, oA X 5 36 (fun j => some (mr j)))], poolW 36 (fun j => [(mr j, iA X 2 (fun z => nI (mpN e j z)))]), [(q, iA X 36 (fun j => if j < 36 then w0F fr j else (fun _ => 0) j))]] [(0, .ref mo), (1, .ref w), (2, .int (nI (fr))), (3, .ref q), (4, .int (nI (36)))] 8 []
    refine g_iload 8 10 F dX6_fars_8 rfl 4 rfl ?_
    refine g_bipush 10 12 F (nI (36)) dX6_fars_10 rfl (by decide) ?_
    refine g_icmpN_ge 12 15 36 F dX6_fars_12 rfl (by decide) (by omega) (by omega) (fun c_1 => ?_) (fun c_1 => ?_)
    · refine g_iconst 36 37 F (nI (0)) dX6_fars_36 rfl (by decide) ?_
      refine g_istore 37 39 F [(4, .int (nI (0))), (0, .ref mo), (1, .ref w), (2, .int (nI (fr))), (3, .ref q)] dX6_fars_37 rfl (Nat.le_of_ble_eq_true rfl) rfl ?_
      refine g_ls [(0, .ref mo), (1, .ref w), (2, .int (nI (fr))), (3, .ref q), (4, .int (nI (0)))] [1, 2, 3, 4, 0] (rfl) ?_
      refine g_arr 3 rfl (g := woF e (w0F fr) 0) (fun j hj => by simp [woF, hj]) rfl ?_
      refine g_down (P := fun t => G K X 7 1 36 [[(w, ob 8 [.int (nI (po)), .int (nI (ho)), .int (ch), .ref ma, .ref mg, .int (lo), .int (ac), .int (bu), .int (sl)])], [(mg, oA X 5 36 (fun j => some (mr j)))], poolW 36 (fun j => [(mr j, iA X 2 (fun z => nI (mpN e j z)))]), [(q, iA X 36 (woF e (w0F fr) t))]] [(0, .ref mo), (1, .ref w), (2, .int (nI (fr))), (3, .ref q), (4, .int (nI (t)))] 39 []) 36 0 (by omega) ?_ (fun t hl_t hi_t ih_t => ?_)
      · show G K X 7 1 36 [[(w, ob 8 [.int (nI (po)), .int (nI (ho)), .int (ch), .ref ma, .ref mg, .int (lo), .int (ac), .int (bu), .int (sl)])], [(mg, oA X 5 36 (fun j => some (mr j)))], poolW 36 (fun j => [(mr j, iA X 2 (fun z => nI (mpN e j z)))]), [(q, iA X 36 (woF e (w0F fr) 36))]] [(0, .ref mo), (1, .ref w), (2, .int (nI (fr))), (3, .ref q), (4, .int (nI (36)))] 39 []
        refine g_iload 39 41 F dX6_fars_39 rfl 4 rfl ?_
        refine g_bipush 41 43 F (nI (36)) dX6_fars_41 rfl (by decide) ?_
        refine g_icmpN_ge 43 46 130 F dX6_fars_43 rfl (by decide) (by omega) (by omega) (fun c_2 => ?_) (fun c_2 => ?_)
        · refine g_aload_n 130 131 F dX6_fars_130 rfl rfl 3 rfl ?_
          exact g_aret 131 F R dX6_fars_131 (Nat.le_refl _) (Nat.le_refl _) (Or.inr ⟨_, rfl⟩) (⟨q, rfl, rfl⟩)
        · exact absurd c_2 (by omega)
      · show G K X 7 1 36 [[(w, ob 8 [.int (nI (po)), .int (nI (ho)), .int (ch), .ref ma, .ref mg, .int (lo), .int (ac), .int (bu), .int (sl)])], [(mg, oA X 5 36 (fun j => some (mr j)))], poolW 36 (fun j => [(mr j, iA X 2 (fun z => nI (mpN e j z)))]), [(q, iA X 36 (woF e (w0F fr) t))]] [(0, .ref mo), (1, .ref w), (2, .int (nI (fr))), (3, .ref q), (4, .int (nI (t)))] 39 []
        refine g_iload 39 41 F dX6_fars_39 rfl 4 rfl ?_
        refine g_bipush 41 43 F (nI (36)) dX6_fars_41 rfl (by decide) ?_
        refine g_icmpN_ge 43 46 130 F dX6_fars_43 rfl (by decide) (by omega) (by omega) (fun c_3 => ?_) (fun c_3 => ?_)
        · exact absurd c_3 (by omega)
        · refine g_iconst 46 47 F (nI (0)) dX6_fars_46 rfl (by decide) ?_
          refine g_istore 47 49 F [(5, .int (nI (0))), (0, .ref mo), (1, .ref w), (2, .int (nI (fr))), (3, .ref q), (4, .int (nI (t)))] dX6_fars_47 rfl (Nat.le_of_ble_eq_true rfl) rfl ?_
          refine g_ls [(0, .ref mo), (1, .ref w), (2, .int (nI (fr))), (3, .ref q), (4, .int (nI (t))), (5, .int (nI (0)))] [1, 2, 3, 4, 5, 0] (rfl) ?_
          refine g_down (P := fun k => G K X 7 1 36 [[(w, ob 8 [.int (nI (po)), .int (nI (ho)), .int (ch), .ref ma, .ref mg, .int (lo), .int (ac), .int (bu), .int (sl)])], [(mg, oA X 5 36 (fun j => some (mr j)))], poolW 36 (fun j => [(mr j, iA X 2 (fun z => nI (mpN e j z)))]), [(q, iA X 36 (wkF e t (woF e (w0F fr) t) k))]] [(0, .ref mo), (1, .ref w), (2, .int (nI (fr))), (3, .ref q), (4, .int (nI (t))), (5, .int (nI (k)))] 49 []) 36 0 (by omega) ?_ (fun k hl_k hi_k ih_k => ?_)
          · show G K X 7 1 36 [[(w, ob 8 [.int (nI (po)), .int (nI (ho)), .int (ch), .ref ma, .ref mg, .int (lo), .int (ac), .int (bu), .int (sl)])], [(mg, oA X 5 36 (fun j => some (mr j)))], poolW 36 (fun j => [(mr j, iA X 2 (fun z => nI (mpN e j z)))]), [(q, iA X 36 (wkF e t (woF e (w0F fr) t) 36))]] [(0, .ref mo), (1, .ref w), (2, .int (nI (fr))), (3, .ref q), (4, .int (nI (t))), (5, .int (nI (36)))] 49 []
            refine g_iload 49 51 F dX6_fars_49 rfl 5 rfl ?_
            refine g_bipush 51 53 F (nI (36)) dX6_fars_51 rfl (by decide) ?_
            refine g_icmpN_ge 53 56 124 F dX6_fars_53 rfl (by decide) (by omega) (by omega) (fun c_4 => ?_) (fun c_4 => ?_)
            · refine g_iinc 124 127 F (v := nI (t + 1)) [(4, .int (nI (t + 1))), (0, .ref mo), (1, .ref w), (2, .int (nI (fr))), (3, .ref q), (5, .int (nI (36)))] dX6_fars_124 rfl 4 rfl (nI_add _ _) (Nat.le_of_ble_eq_true rfl) rfl ?_
              refine g_goto 127 39 F dX6_fars_127 (by decide) ?_
              refine g_ls [(0, .ref mo), (1, .ref w), (2, .int (nI (fr))), (3, .ref q), (4, .int (nI (t + 1)))] [1, 2, 3, 4, 0] (rfl) ?_
              exact ih_t
            · exact absurd c_4 (by omega)
          · show G K X 7 1 36 [[(w, ob 8 [.int (nI (po)), .int (nI (ho)), .int (ch), .ref ma, .ref mg, .int (lo), .int (ac), .int (bu), .int (sl)])], [(mg, oA X 5 36 (fun j => some (mr j)))], poolW 36 (fun j => [(mr j, iA X 2 (fun z => nI (mpN e j z)))]), [(q, iA X 36 (wkF e t (woF e (w0F fr) t) k))]] [(0, .ref mo), (1, .ref w), (2, .int (nI (fr))), (3, .ref q), (4, .int (nI (t))), (5, .int (nI (k)))] 49 []
            refine g_iload 49 51 F dX6_fars_49 rfl 5 rfl ?_
            refine g_bipush 51 53 F (nI (36)) dX6_fars_51 rfl (by decide) ?_
            refine g_icmpN_ge 53 56 124 F dX6_fars_53 rfl (by decide) (by omega) (by omega) (fun c_5 => ?_) (fun c_5 => ?_)
            · exact absurd c_5 (by omega)
            · refine g_iconst 56 57 F (nI (0)) dX6_fars_56 rfl (by decide) ?_
              refine g_istore 57 59 F [(6, .int (nI (0))), (0, .ref mo), (1, .ref w), (2, .int (nI (fr))), (3, .ref q), (4, .int (nI (t))), (5, .int (nI (k)))] dX6_fars_57 rfl (Nat.le_of_ble_eq_true rfl) rfl ?_
              refine g_ls [(0, .ref mo), (1, .ref w), (2, .int (nI (fr))), (3, .ref q), (4, .int (nI (t))), (5, .int (nI (k))), (6, .int (nI (0)))] [1, 2, 3, 4, 5, 6, 0] (rfl) ?_
              refine g_arr 3 rfl (g := mkF e t (wkF e t (woF e (w0F fr) t) k) k 0) (fun j hj => by rw [mk_0]) rfl ?_
              refine g_down (P := fun s => G K X 7 1 36 [[(w, ob 8 [.int (nI (po)), .int (nI (ho)), .int (ch), .ref ma, .ref mg, .int (lo), .int (ac), .int (bu), .int (sl)])], [(mg, oA X 5 36 (fun j => some (mr j)))], poolW 36 (fun j => [(mr j, iA X 2 (fun z => nI (mpN e j z)))]), [(q, iA X 36 (mkF e t (wkF e t (woF e (w0F fr) t) k) k s))]] [(0, .ref mo), (1, .ref w), (2, .int (nI (fr))), (3, .ref q), (4, .int (nI (t))), (5, .int (nI (k))), (6, .int (nI (s)))] 59 []) 4 0 (by omega) ?_ (fun s hl_s hi_s ih_s => ?_)
              · show G K X 7 1 36 [[(w, ob 8 [.int (nI (po)), .int (nI (ho)), .int (ch), .ref ma, .ref mg, .int (lo), .int (ac), .int (bu), .int (sl)])], [(mg, oA X 5 36 (fun j => some (mr j)))], poolW 36 (fun j => [(mr j, iA X 2 (fun z => nI (mpN e j z)))]), [(q, iA X 36 (mkF e t (wkF e t (woF e (w0F fr) t) k) k 4))]] [(0, .ref mo), (1, .ref w), (2, .int (nI (fr))), (3, .ref q), (4, .int (nI (t))), (5, .int (nI (k))), (6, .int (nI (4)))] 59 []
                rw [mk_end]
                refine g_iload 59 61 F dX6_fars_59 rfl 6 rfl ?_
                refine g_iconst 61 62 F (nI (4)) dX6_fars_61 rfl (by decide) ?_
                refine g_icmpN_ge 62 65 118 F dX6_fars_62 rfl (by decide) (by omega) (by omega) (fun c_6 => ?_) (fun c_6 => ?_)
                · refine g_iinc 118 121 F (v := nI (k + 1)) [(5, .int (nI (k + 1))), (0, .ref mo), (1, .ref w), (2, .int (nI (fr))), (3, .ref q), (4, .int (nI (t))), (6, .int (nI (4)))] dX6_fars_118 rfl 5 rfl (nI_add _ _) (Nat.le_of_ble_eq_true rfl) rfl ?_
                  refine g_goto 121 49 F dX6_fars_121 (by decide) ?_
                  refine g_ls [(0, .ref mo), (1, .ref w), (2, .int (nI (fr))), (3, .ref q), (4, .int (nI (t))), (5, .int (nI (k + 1)))] [1, 2, 3, 4, 5, 0] (rfl) ?_
                  exact ih_k
                · exact absurd c_6 (by omega)
              · show G K X 7 1 36 [[(w, ob 8 [.int (nI (po)), .int (nI (ho)), .int (ch), .ref ma, .ref mg, .int (lo), .int (ac), .int (bu), .int (sl)])], [(mg, oA X 5 36 (fun j => some (mr j)))], poolW 36 (fun j => [(mr j, iA X 2 (fun z => nI (mpN e j z)))]), [(q, iA X 36 (mkF e t (wkF e t (woF e (w0F fr) t) k) k s))]] [(0, .ref mo), (1, .ref w), (2, .int (nI (fr))), (3, .ref q), (4, .int (nI (t))), (5, .int (nI (k))), (6, .int (nI (s)))] 59 []
                have hat := atN_lt he hi_k hi_s
                refine g_iload 59 61 F dX6_fars_59 rfl 6 rfl ?_
                refine g_iconst 61 62 F (nI (4)) dX6_fars_61 rfl (by decide) ?_
                refine g_icmpN_ge 62 65 118 F dX6_fars_62 rfl (by decide) (by omega) (by omega) (fun c_7 => ?_) (fun c_7 => ?_)
                · exact absurd c_7 (by omega)
                · refine g_aload_n 65 66 F dX6_fars_65 rfl rfl 3 rfl ?_
                  refine g_iload 66 68 F dX6_fars_66 rfl 5 rfl ?_
                  refine g_iald 68 69 F dX6_fars_68 rfl 3 (i := k) rfl (Nat.le_of_ble_eq_true rfl) (by omega) ?_
                  refine g_iload 69 71 F dX6_fars_69 rfl 4 rfl ?_
                  refine g_icmp_ne 71 74 118 F dX6_fars_71 rfl (by decide) (fun c_8 => ?_) (fun c_8 => ?_)
                  · rw [mk_miss (by omega) (by omega) c_8]
                    refine g_iinc 118 121 F (v := nI (k + 1)) [(5, .int (nI (k + 1))), (0, .ref mo), (1, .ref w), (2, .int (nI (fr))), (3, .ref q), (4, .int (nI (t))), (6, .int (nI (s)))] dX6_fars_118 rfl 5 rfl (nI_add _ _) (Nat.le_of_ble_eq_true rfl) rfl ?_
                    refine g_goto 121 49 F dX6_fars_121 (by decide) ?_
                    refine g_ls [(0, .ref mo), (1, .ref w), (2, .int (nI (fr))), (3, .ref q), (4, .int (nI (t))), (5, .int (nI (k + 1)))] [1, 2, 3, 4, 5, 0] (rfl) ?_
                    exact ih_k
                  · have hM := c_8
                    refine g_aload_n 74 75 F dX6_fars_74 rfl rfl 1 rfl ?_
                    refine g_iload 75 77 F dX6_fars_75 rfl 5 rfl ?_
                    refine g_iload 77 79 F dX6_fars_77 rfl 6 rfl ?_
                    refine g_callP 3 82 F (CallOk.S (As := [.ref w, .int (nI (k)), .int (nI (s))]) (rest := []) F 3 q1543 q1544 q58 q1545 cd_X6_known rfl rfl (Nat.le_of_ble_eq_true rfl) (Nat.le_of_ble_eq_true rfl) dX6_fars_79) (m_X6_known (kL K) X w ma mg mr po ho ch lo ac bu sl e k s (by omega) (by omega)) rfl (Mr := [[(q, iA X 36 (mkF e t (wkF e t (woF e (w0F fr) t) k) k s))]]) [0, 1, 2] [3] rfl 4 rfl (by decide +kernel) rfl rfl (rc_T) (Nat.le_of_ble_eq_true rfl) (c2 := 1) (s2 := 36) (Nat.le_refl _) (Nat.le_refl _) rfl rfl (st1 := [.int (nI (atN e k s))]) rfl ?_
                    refine g_iconst 82 83 F (nI (1)) dX6_fars_82 rfl (by decide) ?_
                    refine g_icmpN_ne 83 86 112 F dX6_fars_83 rfl (by decide) (by omega) (by omega) (fun c_9 => ?_) (fun c_9 => ?_)
                    · rw [mk_keep (fun h => c_9 h.1)]
                      refine g_iinc 112 115 F (v := nI (s + 1)) [(6, .int (nI (s + 1))), (0, .ref mo), (1, .ref w), (2, .int (nI (fr))), (3, .ref q), (4, .int (nI (t))), (5, .int (nI (k)))] dX6_fars_112 rfl 6 rfl (nI_add _ _) (Nat.le_of_ble_eq_true rfl) rfl ?_
                      refine g_goto 115 59 F dX6_fars_115 (by decide) ?_
                      refine g_ls [(0, .ref mo), (1, .ref w), (2, .int (nI (fr))), (3, .ref q), (4, .int (nI (t))), (5, .int (nI (k))), (6, .int (nI (s + 1)))] [1, 2, 3, 4, 5, 6, 0] (rfl) ?_
                      exact ih_s
                    · have hA := c_9
                      have hbn := atN_1 c_9
                      have hbl := bsD_lt hi_k hi_s
                      refine g_aload_n 86 87 F dX6_fars_86 rfl rfl 3 rfl ?_
                      refine g_iload 87 89 F dX6_fars_87 rfl 5 rfl ?_
                      refine g_iload 89 91 F dX6_fars_89 rfl 6 rfl ?_
                      refine g_callP 3 94 F (CallOk.S (As := [.int (nI (k)), .int (nI (s))]) (rest := [.ref q]) F 2 q1431 q1432 q58 q1433 cd_X6_beyond rfl rfl (Nat.le_of_ble_eq_true rfl) (Nat.le_of_ble_eq_true rfl) dX6_fars_91) (m_X6_beyond (kL K) X k s (by omega) (by omega)) rfl (Mr := [[(w, ob 8 [.int (nI (po)), .int (nI (ho)), .int (ch), .ref ma, .ref mg, .int (lo), .int (ac), .int (bu), .int (sl)])], [(mg, oA X 5 36 (fun j => some (mr j)))], poolW 36 (fun j => [(mr j, iA X 2 (fun z => nI (mpN e j z)))]), [(q, iA X 36 (mkF e t (wkF e t (woF e (w0F fr) t) k) k s))]]) [] [0, 1, 2, 3] rfl 4 rfl (by decide +kernel) rfl rfl (rc_T) (Nat.le_of_ble_eq_true rfl) (c2 := 1) (s2 := 36) (Nat.le_refl _) (Nat.le_refl _) rfl rfl (st1 := [.int (bsI k s), .ref q]) rfl ?_
                      refine g_top (v := nI (bsD k s)) (bsI_nI hbn) ?_
                      refine g_iald 94 95 F dX6_fars_94 rfl 3 (i := bsD k s) rfl (Nat.le_of_ble_eq_true rfl) (by omega) ?_
                      refine g_iconst 95 96 F (-1) dX6_fars_95 rfl (by decide) ?_
                      refine g_icmp_ne 96 99 112 F dX6_fars_96 rfl (by decide) (fun c_10 => ?_) (fun c_10 => ?_)
                      · rw [mk_keep (fun h => c_10 h.2)]
                        refine g_iinc 112 115 F (v := nI (s + 1)) [(6, .int (nI (s + 1))), (0, .ref mo), (1, .ref w), (2, .int (nI (fr))), (3, .ref q), (4, .int (nI (t))), (5, .int (nI (k)))] dX6_fars_112 rfl 6 rfl (nI_add _ _) (Nat.le_of_ble_eq_true rfl) rfl ?_
                        refine g_goto 115 59 F dX6_fars_115 (by decide) ?_
                        refine g_ls [(0, .ref mo), (1, .ref w), (2, .int (nI (fr))), (3, .ref q), (4, .int (nI (t))), (5, .int (nI (k))), (6, .int (nI (s + 1)))] [1, 2, 3, 4, 5, 6, 0] (rfl) ?_
                        exact ih_s
                      · have hB := c_10
                        refine g_aload_n 99 100 F dX6_fars_99 rfl rfl 3 rfl ?_
                        refine g_iload 100 102 F dX6_fars_100 rfl 5 rfl ?_
                        refine g_iload 102 104 F dX6_fars_102 rfl 6 rfl ?_
                        refine g_callP 3 107 F (CallOk.S (As := [.int (nI (k)), .int (nI (s))]) (rest := [.ref q]) F 2 q1431 q1432 q58 q1433 cd_X6_beyond rfl rfl (Nat.le_of_ble_eq_true rfl) (Nat.le_of_ble_eq_true rfl) dX6_fars_104) (m_X6_beyond (kL K) X k s (by omega) (by omega)) rfl (Mr := [[(w, ob 8 [.int (nI (po)), .int (nI (ho)), .int (ch), .ref ma, .ref mg, .int (lo), .int (ac), .int (bu), .int (sl)])], [(mg, oA X 5 36 (fun j => some (mr j)))], poolW 36 (fun j => [(mr j, iA X 2 (fun z => nI (mpN e j z)))]), [(q, iA X 36 (mkF e t (wkF e t (woF e (w0F fr) t) k) k s))]]) [] [0, 1, 2, 3] rfl 4 rfl (by decide +kernel) rfl rfl (rc_T) (Nat.le_of_ble_eq_true rfl) (c2 := 1) (s2 := 36) (Nat.le_refl _) (Nat.le_refl _) rfl rfl (st1 := [.int (bsI k s), .ref q]) rfl ?_
                        refine g_top (v := nI (bsD k s)) (bsI_nI hbn) ?_
                        refine g_iload 107 109 F dX6_fars_107 rfl 4 rfl ?_
                        refine g_iconst 109 110 F (nI (1)) dX6_fars_109 rfl (by decide) ?_
                        refine g_iadd 110 111 F (v := nI (t + 1)) dX6_fars_110 rfl (nI_add _ _) ?_
                        refine g_iast 111 112 F dX6_fars_111 rfl 3 (i := bsD k s) rfl (Nat.le_of_ble_eq_true rfl) (by omega) (f' := mkF e t (wkF e t (woF e (w0F fr) t) k) k (s + 1)) (mk_st hi_k hi_s hM hA hB) (M' := [[(w, ob 8 [.int (nI (po)), .int (nI (ho)), .int (ch), .ref ma, .ref mg, .int (lo), .int (ac), .int (bu), .int (sl)])], [(mg, oA X 5 36 (fun j => some (mr j)))], poolW 36 (fun j => [(mr j, iA X 2 (fun z => nI (mpN e j z)))]), [(q, iA X 36 (mkF e t (wkF e t (woF e (w0F fr) t) k) k (s + 1)))]]) rfl ?_
                        refine g_iinc 112 115 F (v := nI (s + 1)) [(6, .int (nI (s + 1))), (0, .ref mo), (1, .ref w), (2, .int (nI (fr))), (3, .ref q), (4, .int (nI (t))), (5, .int (nI (k)))] dX6_fars_112 rfl 6 rfl (nI_add _ _) (Nat.le_of_ble_eq_true rfl) rfl ?_
                        refine g_goto 115 59 F dX6_fars_115 (by decide) ?_
                        refine g_ls [(0, .ref mo), (1, .ref w), (2, .int (nI (fr))), (3, .ref q), (4, .int (nI (t))), (5, .int (nI (k))), (6, .int (nI (s + 1)))] [1, 2, 3, 4, 5, 6, 0] (rfl) ?_
                        exact ih_s
    · exact absurd c_1 (by omega)
  · show G K X 7 1 36 [[(w, ob 8 [.int (nI (po)), .int (nI (ho)), .int (ch), .ref ma, .ref mg, .int (lo), .int (ac), .int (bu), .int (sl)])], [(mg, oA X 5 36 (fun j => some (mr j)))], poolW 36 (fun j => [(mr j, iA X 2 (fun z => nI (mpN e j z)))]), [(q, iA X 36 (fun j => if j < i then w0F fr j else (fun _ => 0) j))]] [(0, .ref mo), (1, .ref w), (2, .int (nI (fr))), (3, .ref q), (4, .int (nI (i)))] 8 []
    refine g_iload 8 10 F dX6_fars_8 rfl 4 rfl ?_
    refine g_bipush 10 12 F (nI (36)) dX6_fars_10 rfl (by decide) ?_
    refine g_icmpN_ge 12 15 36 F dX6_fars_12 rfl (by decide) (by omega) (by omega) (fun c_11 => ?_) (fun c_11 => ?_)
    · exact absurd c_11 (by omega)
    · refine g_aload_n 15 16 F dX6_fars_15 rfl rfl 3 rfl ?_
      refine g_iload 16 18 F dX6_fars_16 rfl 4 rfl ?_
      refine g_iload 18 20 F dX6_fars_18 rfl 4 rfl ?_
      refine g_iload_n 20 21 F dX6_fars_20 rfl rfl 2 rfl ?_
      refine g_icmpN_ne 21 24 28 F dX6_fars_21 rfl (by decide) (by omega) (by omega) (fun c_12 => ?_) (fun c_12 => ?_)
      · refine g_iconst 28 29 F (-1) dX6_fars_28 rfl (by decide) ?_
        refine g_top (v := w0F fr i) (by simp [w0F, *]) ?_
        refine g_iast 29 30 F dX6_fars_29 rfl 3 (i := i) rfl (Nat.le_of_ble_eq_true rfl) (by omega) (f' := fun j => if j < i + 1 then w0F fr j else (fun _ => 0) j) (upd_lt (w0F fr) (fun _ => 0) i) (M' := [[(w, ob 8 [.int (nI (po)), .int (nI (ho)), .int (ch), .ref ma, .ref mg, .int (lo), .int (ac), .int (bu), .int (sl)])], [(mg, oA X 5 36 (fun j => some (mr j)))], poolW 36 (fun j => [(mr j, iA X 2 (fun z => nI (mpN e j z)))]), [(q, iA X 36 (fun j => if j < i + 1 then w0F fr j else (fun _ => 0) j))]]) rfl ?_
        refine g_iinc 30 33 F (v := nI (i + 1)) [(4, .int (nI (i + 1))), (0, .ref mo), (1, .ref w), (2, .int (nI (fr))), (3, .ref q)] dX6_fars_30 rfl 4 rfl (nI_add _ _) (Nat.le_of_ble_eq_true rfl) rfl ?_
        refine g_goto 33 8 F dX6_fars_33 (by decide) ?_
        refine g_ls [(0, .ref mo), (1, .ref w), (2, .int (nI (fr))), (3, .ref q), (4, .int (nI (i + 1)))] [1, 2, 3, 4, 0] (rfl) ?_
        exact ih_i
      · refine g_iconst 24 25 F (nI (0)) dX6_fars_24 rfl (by decide) ?_
        refine g_goto 25 29 F dX6_fars_25 (by decide) ?_
        refine g_top (v := w0F fr i) (by simp [w0F, *]) ?_
        refine g_iast 29 30 F dX6_fars_29 rfl 3 (i := i) rfl (Nat.le_of_ble_eq_true rfl) (by omega) (f' := fun j => if j < i + 1 then w0F fr j else (fun _ => 0) j) (upd_lt (w0F fr) (fun _ => 0) i) (M' := [[(w, ob 8 [.int (nI (po)), .int (nI (ho)), .int (ch), .ref ma, .ref mg, .int (lo), .int (ac), .int (bu), .int (sl)])], [(mg, oA X 5 36 (fun j => some (mr j)))], poolW 36 (fun j => [(mr j, iA X 2 (fun z => nI (mpN e j z)))]), [(q, iA X 36 (fun j => if j < i + 1 then w0F fr j else (fun _ => 0) j))]]) rfl ?_
        refine g_iinc 30 33 F (v := nI (i + 1)) [(4, .int (nI (i + 1))), (0, .ref mo), (1, .ref w), (2, .int (nI (fr))), (3, .ref q)] dX6_fars_30 rfl 4 rfl (nI_add _ _) (Nat.le_of_ble_eq_true rfl) rfl ?_
        refine g_goto 33 8 F dX6_fars_33 (by decide) ?_
        refine g_ls [(0, .ref mo), (1, .ref w), (2, .int (nI (fr))), (3, .ref q), (4, .int (nI (i + 1)))] [1, 2, 3, 4, 0] (rfl) ?_
        exact ih_i

set_option maxHeartbeats 4000000 in
theorem m_X6_returnOf (l : Launch) (X : gk_X) (mo kg hg ca ba al : Nat) (th : Nat) (mi dn dr mt dp rf : Int32) (w ma mg : Nat) (mr : Nat → Nat) (po ho : Nat) (ch lo ac bu sl : Int32) (f : Nat → Bool) (e : Nat → Nat)  (he : ∀ k, k < 60 → e k < 3) (hho : ho < 36) : CtP l X yX6_returnOf cX6_returnOf 2 (some .int) 6 1 36 [.ref mo, .ref w] [[(mo, ob 7 [.int (nI (th)), .int (mi), .int (dn), .int (dr), .int (mt), .int (dp), .int (rf), .ref kg, .ref hg, .ref ca, .ref ba, .ref al])], [(w, ob 8 [.int (nI (po)), .int (nI (ho)), .int (ch), .ref ma, .ref mg, .int (lo), .int (ac), .int (bu), .int (sl)])], [(ma, zA X 144 (f))], [(mg, oA X 5 36 (fun j => some (mr j)))], poolW 36 (fun j => [(mr j, iA X 2 (fun z => nI (mpN e j z)))])] (some (.int (chI e f ho))) := by
  unfold CtP
  refine Ct.of (by decide) (Nat.le_of_ble_eq_true rfl) "BumpwardModel" "returnOf" rfl rfl (fun K F eL R => ?_)
  subst eL
  show G K X 2 0 0 [[(mo, ob 7 [.int (nI (th)), .int (mi), .int (dn), .int (dr), .int (mt), .int (dp), .int (rf), .ref kg, .ref hg, .ref ca, .ref ba, .ref al])], [(w, ob 8 [.int (nI (po)), .int (nI (ho)), .int (ch), .ref ma, .ref mg, .int (lo), .int (ac), .int (bu), .int (sl)])], [(ma, zA X 144 (f))], [(mg, oA X 5 36 (fun j => some (mr j)))], poolW 36 (fun j => [(mr j, iA X 2 (fun z => nI (mpN e j z)))])] [(0, .ref mo), (1, .ref w)] 0 []
  have hfl := first_le f
  refine g_aload_n 0 1 F dX6_returnOf_0 rfl rfl 1 rfl ?_
  refine g_callP 3 4 F (CallOk.V (C := "BumpwardModel$Walker") (b := w) (As := []) (rest := []) F 0 q1515 q1516 q1517 q77 q1518 cdV_X11_sure rfl rfl (Nat.le_of_ble_eq_true rfl) (Nat.le_of_ble_eq_true rfl) dX6_returnOf_1) (m_X11_sure (kL K) X w ma mg po ho ch lo ac bu sl f ) rfl (Mr := [[(mo, ob 7 [.int (nI (th)), .int (mi), .int (dn), .int (dr), .int (mt), .int (dp), .int (rf), .ref kg, .ref hg, .ref ca, .ref ba, .ref al])], [(mg, oA X 5 36 (fun j => some (mr j)))], poolW 36 (fun j => [(mr j, iA X 2 (fun z => nI (mpN e j z)))])]) [1, 2] [0, 3, 4] rfl 5 rfl (by decide +kernel) rfl rfl (rc_of F 1 8 rfl rfl) (Nat.le_of_ble_eq_true rfl) (c2 := 0) (s2 := 0) (Nat.zero_le _) (Nat.zero_le _) rfl rfl (st1 := [.int (suI f)]) rfl ?_
  refine g_iconst 4 5 F (-1) dX6_returnOf_4 rfl (by decide) ?_
  refine g_icmp_ne 5 8 13 F dX6_returnOf_5 rfl (by decide) (fun c_1 => ?_) (fun c_1 => ?_)
  · have hS := su_yes c_1
    refine g_aload_n 13 14 F dX6_returnOf_13 rfl rfl 0 rfl ?_
    refine g_aload_n 14 15 F dX6_returnOf_14 rfl rfl 1 rfl ?_
    refine g_aload_n 15 16 F dX6_returnOf_15 rfl rfl 1 rfl ?_
    refine g_callP 3 19 F (CallOk.V (C := "BumpwardModel$Walker") (b := w) (As := []) (rest := [.ref w, .ref mo]) F 0 q1515 q1516 q1517 q77 q1518 cdV_X11_sure rfl rfl (Nat.le_of_ble_eq_true rfl) (Nat.le_of_ble_eq_true rfl) dX6_returnOf_16) (m_X11_sure (kL K) X w ma mg po ho ch lo ac bu sl f ) rfl (Mr := [[(mo, ob 7 [.int (nI (th)), .int (mi), .int (dn), .int (dr), .int (mt), .int (dp), .int (rf), .ref kg, .ref hg, .ref ca, .ref ba, .ref al])], [(mg, oA X 5 36 (fun j => some (mr j)))], poolW 36 (fun j => [(mr j, iA X 2 (fun z => nI (mpN e j z)))])]) [1, 2] [0, 3, 4] rfl 5 rfl (by decide +kernel) rfl rfl (rc_of F 1 8 rfl rfl) (Nat.le_of_ble_eq_true rfl) (c2 := 0) (s2 := 0) (Nat.zero_le _) (Nat.zero_le _) rfl rfl (st1 := [.int (suI f), .ref w, .ref mo]) rfl ?_
    refine g_top (v := nI (first f)) (su_nI hS) ?_
    refine g_iconst 19 20 F (nI (4)) dX6_returnOf_19 rfl (by decide) ?_
    refine g_idiv 20 21 F (v := nI ((first f) / 4)) dX6_returnOf_20 rfl (by decide) (pk_div (by omega) (by omega) (by omega)) ?_
    refine g_call 3 24 F (CallOk.V (C := "BumpwardModel") (b := mo) (As := [.ref w, .int (nI ((first f) / 4))]) (rest := []) F 2 q1539 q1541 qs32 q58 q1542 cdV_X6_fars rfl rfl (Nat.le_of_ble_eq_true rfl) (Nat.le_of_ble_eq_true rfl) dX6_returnOf_21) (m_X6_fars (kL K) X mo w ma mg mr po ho ch lo ac bu sl e ((first f) / 4) (by omega) (by omega)) rfl (Mr := [[(mo, ob 7 [.int (nI (th)), .int (mi), .int (dn), .int (dr), .int (mt), .int (dp), .int (rf), .ref kg, .ref hg, .ref ca, .ref ba, .ref al])], [(ma, zA X 144 (f))]]) [1, 3, 4] [0, 2] rfl rfl rfl (rc_of F 0 7 rfl rfl) (Nat.le_of_ble_eq_true rfl) (c2 := 1) (s2 := 36) (Nat.le_refl _) (Nat.le_refl _) rfl rfl (fun v M1 hp => ?_)
    obtain ⟨q_2, rfl, rfl⟩ := hp
    show G K X 2 1 36 [[(mo, ob 7 [.int (nI (th)), .int (mi), .int (dn), .int (dr), .int (mt), .int (dp), .int (rf), .ref kg, .ref hg, .ref ca, .ref ba, .ref al])], [(ma, zA X 144 (f))], [(w, ob 8 [.int (nI (po)), .int (nI (ho)), .int (ch), .ref ma, .ref mg, .int (lo), .int (ac), .int (bu), .int (sl)])], [(mg, oA X 5 36 (fun j => some (mr j)))], poolW 36 (fun j => [(mr j, iA X 2 (fun z => nI (mpN e j z)))]), [(q_2, iA X 36 (wyF e ((first f) / 4)))]] [(0, .ref mo), (1, .ref w)] 24 [.ref q_2]
    refine g_aload_n 24 25 F dX6_returnOf_24 rfl rfl 1 rfl ?_
    refine g_get 25 28 F (ci := 8) in_X11 rfl 1 (by decide) q1473 (fun _ h => h) dX6_returnOf_25 rfl 2 rfl (v := .int (nI (ho))) rfl ?_
    refine g_iald 28 29 F dX6_returnOf_28 rfl 5 (i := ho) rfl (Nat.le_of_ble_eq_true rfl) (by omega) ?_
    refine g_sel [[(mo, ob 7 [.int (nI (th)), .int (mi), .int (dn), .int (dr), .int (mt), .int (dp), .int (rf), .ref kg, .ref hg, .ref ca, .ref ba, .ref al])], [(w, ob 8 [.int (nI (po)), .int (nI (ho)), .int (ch), .ref ma, .ref mg, .int (lo), .int (ac), .int (bu), .int (sl)])], [(ma, zA X 144 (f))], [(mg, oA X 5 36 (fun j => some (mr j)))], poolW 36 (fun j => [(mr j, iA X 2 (fun z => nI (mpN e j z)))])] [0, 2, 1, 3, 4] rfl rfl ?_
    exact g_iret 29 F R dX6_returnOf_29 (Nat.le_refl _) (Nat.le_refl _) (⟨congrArg (fun z => some (Value.int z)) (by first | rw [chI, if_neg hN] | rw [chI, if_pos hS]), rfl⟩)
  · have hN := su_no c_1
    refine g_bipush 8 10 F (-2) dX6_returnOf_8 rfl (by decide) ?_
    refine g_goto 10 29 F dX6_returnOf_10 (by decide) ?_
    exact g_iret 29 F R dX6_returnOf_29 (Nat.zero_le _) (Nat.zero_le _) (⟨congrArg (fun z => some (Value.int z)) (by first | rw [chI, if_neg hN] | rw [chI, if_pos hS]), rfl⟩)

set_option maxHeartbeats 4000000 in
theorem m_X6_costOf (l : Launch) (X : gk_X) (mo kg hg ca ba al : Nat) (th : Nat) (mi dn dr mt dp rf : Int32) (w ma mg : Nat) (mr : Nat → Nat) (po ho : Nat) (ch lo ac bu sl : Int32) (f : Nat → Bool) (e : Nat → Nat)  (he : ∀ k, k < 60 → e k < 3) (hho : ho < 36) : CtP l X yX6_costOf cX6_costOf 2 (some .int) 7 2 72 [.ref mo, .ref w] [[(mo, ob 7 [.int (nI (th)), .int (mi), .int (dn), .int (dr), .int (mt), .int (dp), .int (rf), .ref kg, .ref hg, .ref ca, .ref ba, .ref al])], [(w, ob 8 [.int (nI (po)), .int (nI (ho)), .int (ch), .ref ma, .ref mg, .int (lo), .int (ac), .int (bu), .int (sl)])], [(ma, zA X 144 (f))], [(mg, oA X 5 36 (fun j => some (mr j)))], poolW 36 (fun j => [(mr j, iA X 2 (fun z => nI (mpN e j z)))])] (some (.int (coI e f ho))) := by
  unfold CtP
  refine Ct.of (by decide) (Nat.le_of_ble_eq_true rfl) "BumpwardModel" "costOf" rfl rfl (fun K F eL R => ?_)
  subst eL
  show G K X 2 0 0 [[(mo, ob 7 [.int (nI (th)), .int (mi), .int (dn), .int (dr), .int (mt), .int (dp), .int (rf), .ref kg, .ref hg, .ref ca, .ref ba, .ref al])], [(w, ob 8 [.int (nI (po)), .int (nI (ho)), .int (ch), .ref ma, .ref mg, .int (lo), .int (ac), .int (bu), .int (sl)])], [(ma, zA X 144 (f))], [(mg, oA X 5 36 (fun j => some (mr j)))], poolW 36 (fun j => [(mr j, iA X 2 (fun z => nI (mpN e j z)))])] [(0, .ref mo), (1, .ref w)] 0 []
  refine g_aload_n 0 1 F dX6_costOf_0 rfl rfl 0 rfl ?_
  refine g_aload_n 1 2 F dX6_costOf_1 rfl rfl 1 rfl ?_
  refine g_callP 3 5 F (CallOk.V (C := "BumpwardModel") (b := mo) (As := [.ref w]) (rest := []) F 1 q1535 q1537 qs31 q58 q1538 cdV_X6_returnOf rfl rfl (Nat.le_of_ble_eq_true rfl) (Nat.le_of_ble_eq_true rfl) dX6_costOf_2) (m_X6_returnOf (kL K) X mo kg hg ca ba al th mi dn dr mt dp rf w ma mg mr po ho ch lo ac bu sl f e (by omega) (by omega)) rfl (Mr := []) [0, 1, 2, 3, 4] [] rfl 5 rfl (by decide +kernel) rfl rfl (rc_of F 0 7 rfl rfl) (Nat.le_of_ble_eq_true rfl) (c2 := 1) (s2 := 36) (Nat.le_of_ble_eq_true rfl) (Nat.le_of_ble_eq_true rfl) rfl rfl (st1 := [.int (chI e f ho)]) rfl ?_
  refine g_if_ge 5 8 16 F dX6_costOf_5 rfl (by decide) (fun c_1 => ?_) (fun c_1 => ?_)
  · refine g_iconst 16 17 F (nI (2)) dX6_costOf_16 rfl (by decide) ?_
    refine g_aload_n 17 18 F dX6_costOf_17 rfl rfl 0 rfl ?_
    refine g_aload_n 18 19 F dX6_costOf_18 rfl rfl 1 rfl ?_
    refine g_callP 3 22 F (CallOk.V (C := "BumpwardModel") (b := mo) (As := [.ref w]) (rest := [.int (nI (2))]) F 1 q1535 q1537 qs31 q58 q1538 cdV_X6_returnOf rfl rfl (Nat.le_of_ble_eq_true rfl) (Nat.le_of_ble_eq_true rfl) dX6_costOf_19) (m_X6_returnOf (kL K) X mo kg hg ca ba al th mi dn dr mt dp rf w ma mg mr po ho ch lo ac bu sl f e (by omega) (by omega)) rfl (Mr := []) [0, 1, 2, 3, 4] [] rfl 5 rfl (by decide +kernel) rfl rfl (rc_of F 0 7 rfl rfl) (Nat.le_of_ble_eq_true rfl) (c2 := 2) (s2 := 72) (Nat.le_refl _) (Nat.le_refl _) rfl rfl (st1 := [.int (chI e f ho), .int (nI (2))]) rfl ?_
    refine g_imul 22 23 F (v := (nI (2)) * (chI e f ho)) dX6_costOf_22 rfl (rfl) ?_
    refine g_iconst 23 24 F (nI (2)) dX6_costOf_23 rfl (by decide) ?_
    refine g_iadd 24 25 F (v := ((nI (2)) * (chI e f ho)) + (nI (2))) dX6_costOf_24 rfl (rfl) ?_
    exact g_iret 25 F R dX6_costOf_25 (Nat.le_refl _) (Nat.le_refl _) (⟨congrArg (fun z => some (Value.int z)) (by first | rw [coI, if_pos (Int32.not_le.mp c_1)] | rw [coI, if_neg (Int32.not_lt.mpr c_1)] | rw [coI, if_pos c_1]), rfl⟩)
  · refine g_aload_n 8 9 F dX6_costOf_8 rfl rfl 0 rfl ?_
    refine g_aload_n 9 10 F dX6_costOf_9 rfl rfl 1 rfl ?_
    refine g_callP 3 13 F (CallOk.V (C := "BumpwardModel") (b := mo) (As := [.ref w]) (rest := []) F 1 q1535 q1537 qs31 q58 q1538 cdV_X6_returnOf rfl rfl (Nat.le_of_ble_eq_true rfl) (Nat.le_of_ble_eq_true rfl) dX6_costOf_10) (m_X6_returnOf (kL K) X mo kg hg ca ba al th mi dn dr mt dp rf w ma mg mr po ho ch lo ac bu sl f e (by omega) (by omega)) rfl (Mr := []) [0, 1, 2, 3, 4] [] rfl 5 rfl (by decide +kernel) rfl rfl (rc_of F 0 7 rfl rfl) (Nat.le_of_ble_eq_true rfl) (c2 := 2) (s2 := 72) (Nat.le_refl _) (Nat.le_refl _) rfl rfl (st1 := [.int (chI e f ho)]) rfl ?_
    refine g_goto 13 25 F dX6_costOf_13 (by decide) ?_
    exact g_iret 25 F R dX6_costOf_25 (Nat.le_refl _) (Nat.le_refl _) (⟨congrArg (fun z => some (Value.int z)) (by first | rw [coI, if_pos (Int32.not_le.mp c_1)] | rw [coI, if_neg (Int32.not_lt.mpr c_1)] | rw [coI, if_pos c_1]), rfl⟩)

set_option maxHeartbeats 4000000 in
theorem m_X6_isSafe (l : Launch) (X : gk_X) (mo kg hg ca ba al : Nat) (th : Nat) (mi dn dr mt dp rf : Int32) (w ma mg : Nat) (mr : Nat → Nat) (po ho : Nat) (ch lo ac bu sl : Int32) (f : Nat → Bool) (e : Nat → Nat)  (he : ∀ k, k < 60 → e k < 3) (hho : ho < 36) : CtP l X yX6_isSafe cX6_isSafe 2 (some .boolean) 8 4 144 [.ref mo, .ref w] [[(mo, ob 7 [.int (nI (th)), .int (mi), .int (dn), .int (dr), .int (mt), .int (dp), .int (rf), .ref kg, .ref hg, .ref ca, .ref ba, .ref al])], [(w, ob 8 [.int (nI (po)), .int (nI (ho)), .int (ch), .ref ma, .ref mg, .int (lo), .int (ac), .int (bu), .int (sl)])], [(ma, zA X 144 (f))], [(mg, oA X 5 36 (fun j => some (mr j)))], poolW 36 (fun j => [(mr j, iA X 2 (fun z => nI (mpN e j z)))])] (some (.int (bI (sfB e f ho ch)))) := by
  unfold CtP
  refine Ct.of (by decide) (Nat.le_of_ble_eq_true rfl) "BumpwardModel" "isSafe" rfl rfl (fun K F eL R => ?_)
  subst eL
  show G K X 2 0 0 [[(mo, ob 7 [.int (nI (th)), .int (mi), .int (dn), .int (dr), .int (mt), .int (dp), .int (rf), .ref kg, .ref hg, .ref ca, .ref ba, .ref al])], [(w, ob 8 [.int (nI (po)), .int (nI (ho)), .int (ch), .ref ma, .ref mg, .int (lo), .int (ac), .int (bu), .int (sl)])], [(ma, zA X 144 (f))], [(mg, oA X 5 36 (fun j => some (mr j)))], poolW 36 (fun j => [(mr j, iA X 2 (fun z => nI (mpN e j z)))])] [(0, .ref mo), (1, .ref w)] 0 []
  refine g_aload_n 0 1 F dX6_isSafe_0 rfl rfl 0 rfl ?_
  refine g_aload_n 1 2 F dX6_isSafe_1 rfl rfl 1 rfl ?_
  refine g_callP 3 5 F (CallOk.V (C := "BumpwardModel") (b := mo) (As := [.ref w]) (rest := []) F 1 q1531 q1533 qs30 q58 q1534 cdV_X6_costOf rfl rfl (Nat.le_of_ble_eq_true rfl) (Nat.le_of_ble_eq_true rfl) dX6_isSafe_2) (m_X6_costOf (kL K) X mo kg hg ca ba al th mi dn dr mt dp rf w ma mg mr po ho ch lo ac bu sl f e (by omega) (by omega)) rfl (Mr := []) [0, 1, 2, 3, 4] [] rfl 5 rfl (by decide +kernel) rfl rfl (rc_of F 0 7 rfl rfl) (Nat.le_of_ble_eq_true rfl) (c2 := 2) (s2 := 72) (Nat.le_of_ble_eq_true rfl) (Nat.le_of_ble_eq_true rfl) rfl rfl (st1 := [.int (coI e f ho)]) rfl ?_
  refine g_if_ge 5 8 25 F dX6_isSafe_5 rfl (by decide) (fun c_1 => ?_) (fun c_1 => ?_)
  · refine g_aload_n 25 26 F dX6_isSafe_25 rfl rfl 1 rfl ?_
    refine g_get 26 29 F (ci := 8) in_X11 rfl 2 (by decide) q1474 (fun _ h => h) dX6_isSafe_26 rfl 1 rfl (v := .int (ch)) rfl ?_
    refine g_iconst 29 30 F (nI (1)) dX6_isSafe_29 rfl (by decide) ?_
    refine g_isub 30 31 F (v := ch - (nI (1))) dX6_isSafe_30 rfl (rfl) ?_
    refine g_aload_n 31 32 F dX6_isSafe_31 rfl rfl 0 rfl ?_
    refine g_aload_n 32 33 F dX6_isSafe_32 rfl rfl 1 rfl ?_
    refine g_callP 3 36 F (CallOk.V (C := "BumpwardModel") (b := mo) (As := [.ref w]) (rest := [.int (ch - (nI (1)))]) F 1 q1531 q1533 qs30 q58 q1534 cdV_X6_costOf rfl rfl (Nat.le_of_ble_eq_true rfl) (Nat.le_of_ble_eq_true rfl) dX6_isSafe_33) (m_X6_costOf (kL K) X mo kg hg ca ba al th mi dn dr mt dp rf w ma mg mr po ho ch lo ac bu sl f e (by omega) (by omega)) rfl (Mr := []) [0, 1, 2, 3, 4] [] rfl 5 rfl (by decide +kernel) rfl rfl (rc_of F 0 7 rfl rfl) (Nat.le_of_ble_eq_true rfl) (c2 := 4) (s2 := 144) (Nat.le_refl _) (Nat.le_refl _) rfl rfl (st1 := [.int (coI e f ho), .int (ch - (nI (1)))]) rfl ?_
    refine g_dia_lt 36 43 44 F dX6_isSafe_36 (by decide) dX6_isSafe_39 dX6_isSafe_40 (by decide) dX6_isSafe_43 rfl ?_
    exact g_bret 44 F R dX6_isSafe_44 (Nat.le_refl _) (Nat.le_refl _) (⟨congrArg (fun z => some (Value.int z)) (by first | rw [sfB, if_pos c_1] | (rw [sfB, if_neg c_1, decide_eq_false (Int32.not_lt.mpr c_2)]; rfl) | (rw [sfB, if_neg c_1, decide_eq_true (Int32.not_le.mp c_2)]; rfl)), rfl⟩)
  · refine g_aload_n 8 9 F dX6_isSafe_8 rfl rfl 1 rfl ?_
    refine g_get 9 12 F (ci := 8) in_X11 rfl 2 (by decide) q1474 (fun _ h => h) dX6_isSafe_9 rfl 1 rfl (v := .int (ch)) rfl ?_
    refine g_bipush 12 14 F (nI (20)) dX6_isSafe_12 rfl (by decide) ?_
    refine g_icmp_le 14 17 21 F dX6_isSafe_14 rfl (by decide) (fun c_2 => ?_) (fun c_2 => ?_)
    · refine g_iconst 21 22 F (nI (0)) dX6_isSafe_21 rfl (by decide) ?_
      refine g_goto 22 44 F dX6_isSafe_22 (by decide) ?_
      exact g_zret 44 F R dX6_isSafe_44 (Nat.le_of_ble_eq_true rfl) (Nat.le_of_ble_eq_true rfl) (by decide) (⟨congrArg (fun z => some (Value.int z)) (by first | rw [sfB, if_pos c_1] | (rw [sfB, if_neg c_1, decide_eq_false (Int32.not_lt.mpr c_2)]; rfl) | (rw [sfB, if_neg c_1, decide_eq_true (Int32.not_le.mp c_2)]; rfl)), rfl⟩)
    · refine g_iconst 17 18 F (nI (1)) dX6_isSafe_17 rfl (by decide) ?_
      refine g_goto 18 44 F dX6_isSafe_18 (by decide) ?_
      exact g_zret 44 F R dX6_isSafe_44 (Nat.le_of_ble_eq_true rfl) (Nat.le_of_ble_eq_true rfl) (by decide) (⟨congrArg (fun z => some (Value.int z)) (by first | rw [sfB, if_pos c_1] | (rw [sfB, if_neg c_1, decide_eq_false (Int32.not_lt.mpr c_2)]; rfl) | (rw [sfB, if_neg c_1, decide_eq_true (Int32.not_le.mp c_2)]; rfl)), rfl⟩)

set_option maxHeartbeats 4000000 in
theorem m_X6_isRefused (l : Launch) (X : gk_X) (mo kg hg ca ba al : Nat) (th : Nat) (mi dn dr mt dp rf : Int32) (w ma mg : Nat) (mr : Nat → Nat) (po ho : Nat) (ch lo ac bu sl : Int32) (f : Nat → Bool) (e : Nat → Nat) (b : Bool) (he : ∀ k, k < 60 → e k < 3) (hho : ho < 36) : CtP l X yX6_isRefused cX6_isRefused 3 (some .boolean) 9 4 144 [.ref mo, .ref w, .int (bI (b))] [[(mo, ob 7 [.int (nI (th)), .int (mi), .int (dn), .int (dr), .int (mt), .int (dp), .int (rf), .ref kg, .ref hg, .ref ca, .ref ba, .ref al])], [(w, ob 8 [.int (nI (po)), .int (nI (ho)), .int (ch), .ref ma, .ref mg, .int (lo), .int (ac), .int (bu), .int (sl)])], [(ma, zA X 144 (f))], [(mg, oA X 5 36 (fun j => some (mr j)))], poolW 36 (fun j => [(mr j, iA X 2 (fun z => nI (mpN e j z)))])] (some (.int (bI (rfB e f ho ch b mi)))) := by
  unfold CtP
  refine Ct.of (by decide) (Nat.le_of_ble_eq_true rfl) "BumpwardModel" "isRefused" rfl rfl (fun K F eL R => ?_)
  subst eL
  show G K X 3 0 0 [[(mo, ob 7 [.int (nI (th)), .int (mi), .int (dn), .int (dr), .int (mt), .int (dp), .int (rf), .ref kg, .ref hg, .ref ca, .ref ba, .ref al])], [(w, ob 8 [.int (nI (po)), .int (nI (ho)), .int (ch), .ref ma, .ref mg, .int (lo), .int (ac), .int (bu), .int (sl)])], [(ma, zA X 144 (f))], [(mg, oA X 5 36 (fun j => some (mr j)))], poolW 36 (fun j => [(mr j, iA X 2 (fun z => nI (mpN e j z)))])] [(0, .ref mo), (1, .ref w), (2, .int (bI (b)))] 0 []
  refine g_aload_n 0 1 F dX6_isRefused_0 rfl rfl 1 rfl ?_
  refine g_get 1 4 F (ci := 8) in_X11 rfl 2 (by decide) q1474 (fun _ h => h) dX6_isRefused_1 rfl 1 rfl (v := .int (ch)) rfl ?_
  refine g_if_eq 4 7 29 F dX6_isRefused_4 rfl (by decide) (fun c_1 => ?_) (fun c_1 => ?_)
  · refine g_iconst 29 30 F (nI (1)) dX6_isRefused_29 rfl (by decide) ?_
    refine g_goto 30 34 F dX6_isRefused_30 (by decide) ?_
    exact g_zret 34 F R dX6_isRefused_34 (Nat.zero_le _) (Nat.zero_le _) (by decide) (⟨congrArg (fun z => some (Value.int z)) (by simp [rfB, *, nI_0, bI_t, bI_f]; try rfl), rfl⟩)
  · refine g_iload_n 7 8 F dX6_isRefused_7 rfl rfl 2 rfl ?_
    refine g_ifB_ne 8 11 19 F dX6_isRefused_8 rfl (by decide) (fun c_2 => ?_) (fun c_2 => ?_)
    · refine g_aload_n 19 20 F dX6_isRefused_19 rfl rfl 0 rfl ?_
      refine g_get 20 23 F (ci := 7) in_X6 rfl 1 (by decide) q1370 (fun _ h => h) dX6_isRefused_20 rfl 0 rfl (v := .int (mi)) rfl ?_
      refine g_sipush 23 26 F (nI (3000)) dX6_isRefused_23 rfl (by decide) ?_
      refine g_dia_ne 26 33 34 F dX6_isRefused_26 (by decide) dX6_isRefused_29 dX6_isRefused_30 (by decide) dX6_isRefused_33 rfl ?_
      exact g_bret 34 F R dX6_isRefused_34 (Nat.zero_le _) (Nat.zero_le _) (⟨congrArg (fun z => some (Value.int z)) (by simp [rfB, *, nI_0, bI_t, bI_f]; try rfl), rfl⟩)
    · refine g_aload_n 11 12 F dX6_isRefused_11 rfl rfl 0 rfl ?_
      refine g_aload_n 12 13 F dX6_isRefused_12 rfl rfl 1 rfl ?_
      refine g_callP 3 16 F (CallOk.V (C := "BumpwardModel") (b := mo) (As := [.ref w]) (rest := []) F 1 q1527 q1529 qs29 q58 q1530 cdV_X6_isSafe rfl rfl (Nat.le_of_ble_eq_true rfl) (Nat.le_of_ble_eq_true rfl) dX6_isRefused_13) (m_X6_isSafe (kL K) X mo kg hg ca ba al th mi dn dr mt dp rf w ma mg mr po ho ch lo ac bu sl f e (by omega) (by omega)) rfl (Mr := []) [0, 1, 2, 3, 4] [] rfl 5 rfl (by decide +kernel) rfl rfl (rc_of F 0 7 rfl rfl) (Nat.le_of_ble_eq_true rfl) (c2 := 4) (s2 := 144) (Nat.le_refl _) (Nat.le_refl _) rfl rfl (st1 := [.int (bI (sfB e f ho ch))]) rfl ?_
      refine g_ifB_eq 16 19 29 F dX6_isRefused_16 rfl (by decide) (fun c_3 => ?_) (fun c_3 => ?_)
      · refine g_iconst 29 30 F (nI (1)) dX6_isRefused_29 rfl (by decide) ?_
        refine g_goto 30 34 F dX6_isRefused_30 (by decide) ?_
        exact g_zret 34 F R dX6_isRefused_34 (Nat.le_refl _) (Nat.le_refl _) (by decide) (⟨congrArg (fun z => some (Value.int z)) (by simp [rfB, *, nI_0, bI_t, bI_f]; try rfl), rfl⟩)
      · refine g_aload_n 19 20 F dX6_isRefused_19 rfl rfl 0 rfl ?_
        refine g_get 20 23 F (ci := 7) in_X6 rfl 1 (by decide) q1370 (fun _ h => h) dX6_isRefused_20 rfl 0 rfl (v := .int (mi)) rfl ?_
        refine g_sipush 23 26 F (nI (3000)) dX6_isRefused_23 rfl (by decide) ?_
        refine g_dia_ne 26 33 34 F dX6_isRefused_26 (by decide) dX6_isRefused_29 dX6_isRefused_30 (by decide) dX6_isRefused_33 rfl ?_
        exact g_bret 34 F R dX6_isRefused_34 (Nat.le_refl _) (Nat.le_refl _) (⟨congrArg (fun z => some (Value.int z)) (by simp [rfB, *, nI_0, bI_t, bI_f]; try rfl), rfl⟩)

set_option maxHeartbeats 4000000 in
theorem m_X6_act (l : Launch) (X : gk_X) (mo kg hg ca ba al : Nat) (th : Nat) (mi dn dr mt dp rf : Int32) (w ma mg : Nat) (po ho : Nat) (ch lo ac bu sl : Int32)  : Ct l X yX6_act cX6_act 2 none 1 0 0 [.ref mo, .ref w] [[(mo, ob 7 [.int (nI (th)), .int (mi), .int (dn), .int (dr), .int (mt), .int (dp), .int (rf), .ref kg, .ref hg, .ref ca, .ref ba, .ref al])], [(w, ob 8 [.int (nI (po)), .int (nI (ho)), .int (ch), .ref ma, .ref mg, .int (lo), .int (ac), .int (bu), .int (sl)])]] (fun v M' => v = none ∧ M' = [[(mo, ob 7 [.int (nI (th)), .int (mi + nI 1), .int (dn), .int (dr), .int (mt), .int (dp), .int (rf), .ref kg, .ref hg, .ref ca, .ref ba, .ref al])], [(w, ob 8 [.int (nI (po)), .int (nI (ho)), .int (ch - nI 1), .ref ma, .ref mg, .int (lo), .int (ac + nI 1), .int (bu), .int (sl)])]]) := by
  refine Ct.of (by decide) (Nat.le_of_ble_eq_true rfl) "BumpwardModel" "act" rfl rfl (fun K F eL R => ?_)
  subst eL
  show G K X 2 0 0 [[(mo, ob 7 [.int (nI (th)), .int (mi), .int (dn), .int (dr), .int (mt), .int (dp), .int (rf), .ref kg, .ref hg, .ref ca, .ref ba, .ref al])], [(w, ob 8 [.int (nI (po)), .int (nI (ho)), .int (ch), .ref ma, .ref mg, .int (lo), .int (ac), .int (bu), .int (sl)])]] [(0, .ref mo), (1, .ref w)] 0 []
  refine g_aload_n 0 1 F dX6_act_0 rfl rfl 1 rfl ?_
  refine g_dup 1 2 F dX6_act_1 rfl rfl ?_
  refine g_get 2 5 F (ci := 8) in_X11 rfl 6 (by decide) q1480 (fun _ h => h) dX6_act_2 rfl 1 rfl (v := .int (ac)) rfl ?_
  refine g_iconst 5 6 F (nI (1)) dX6_act_5 rfl (by decide) ?_
  refine g_iadd 6 7 F (v := ac + nI 1) dX6_act_6 rfl (rfl) ?_
  refine g_put 7 10 F (ci := 8) in_X11 tyX11 tyX11_ok nmX11 rfl 6 (by decide) q1480 (fun _ h => h) rfl dX6_act_7 rfl 1 (rfl) (rfl) (Nat.le_of_ble_eq_true rfl) rfl (M' := [[(mo, ob 7 [.int (nI (th)), .int (mi), .int (dn), .int (dr), .int (mt), .int (dp), .int (rf), .ref kg, .ref hg, .ref ca, .ref ba, .ref al])], [(w, ob 8 [.int (nI (po)), .int (nI (ho)), .int (ch), .ref ma, .ref mg, .int (lo), .int (ac + nI 1), .int (bu), .int (sl)])]]) rfl ?_
  refine g_aload_n 10 11 F dX6_act_10 rfl rfl 1 rfl ?_
  refine g_dup 11 12 F dX6_act_11 rfl rfl ?_
  refine g_get 12 15 F (ci := 8) in_X11 rfl 2 (by decide) q1474 (fun _ h => h) dX6_act_12 rfl 1 rfl (v := .int (ch)) rfl ?_
  refine g_iconst 15 16 F (nI (1)) dX6_act_15 rfl (by decide) ?_
  refine g_isub 16 17 F (v := ch - nI 1) dX6_act_16 rfl (rfl) ?_
  refine g_put 17 20 F (ci := 8) in_X11 tyX11 tyX11_ok nmX11 rfl 2 (by decide) q1474 (fun _ h => h) rfl dX6_act_17 rfl 1 (rfl) (rfl) (Nat.le_of_ble_eq_true rfl) rfl (M' := [[(mo, ob 7 [.int (nI (th)), .int (mi), .int (dn), .int (dr), .int (mt), .int (dp), .int (rf), .ref kg, .ref hg, .ref ca, .ref ba, .ref al])], [(w, ob 8 [.int (nI (po)), .int (nI (ho)), .int (ch - nI 1), .ref ma, .ref mg, .int (lo), .int (ac + nI 1), .int (bu), .int (sl)])]]) rfl ?_
  refine g_aload_n 20 21 F dX6_act_20 rfl rfl 0 rfl ?_
  refine g_dup 21 22 F dX6_act_21 rfl rfl ?_
  refine g_get 22 25 F (ci := 7) in_X6 rfl 1 (by decide) q1370 (fun _ h => h) dX6_act_22 rfl 0 rfl (v := .int (mi)) rfl ?_
  refine g_iconst 25 26 F (nI (1)) dX6_act_25 rfl (by decide) ?_
  refine g_iadd 26 27 F (v := mi + nI 1) dX6_act_26 rfl (rfl) ?_
  refine g_put 27 30 F (ci := 7) in_X6 tyX6 tyX6_ok nmX6 rfl 1 (by decide) q1370 (fun _ h => h) rfl dX6_act_27 rfl 0 (rfl) (rfl) (Nat.le_of_ble_eq_true rfl) rfl (M' := [[(mo, ob 7 [.int (nI (th)), .int (mi + nI 1), .int (dn), .int (dr), .int (mt), .int (dp), .int (rf), .ref kg, .ref hg, .ref ca, .ref ba, .ref al])], [(w, ob 8 [.int (nI (po)), .int (nI (ho)), .int (ch - nI 1), .ref ma, .ref mg, .int (lo), .int (ac + nI 1), .int (bu), .int (sl)])]]) rfl ?_
  exact g_vret 30 F R dX6_act_30 (Nat.zero_le _) (Nat.zero_le _) (⟨rfl, rfl⟩)

set_option maxHeartbeats 4000000 in
theorem m_X6_take (l : Launch) (X : gk_X) (w ma mg : Nat) (po ho : Nat) (ch lo ac bu sl : Int32) (na : Nat) (g : Nat → Bool)  : Ct l X yX6_take cX6_take 2 none 3 0 0 [.ref w, .ref na] [[(w, ob 8 [.int (nI (po)), .int (nI (ho)), .int (ch), .ref ma, .ref mg, .int (lo), .int (ac), .int (bu), .int (sl)])], [(na, zA X 144 (g))]] (fun v M' => v = none ∧ M' = [[(w, ob 8 [.int (nI (po)), .int (nI (ho)), .int (ch), .ref na, .ref mg, .int (loI g lo), .int (ac), .int (bu), .int (sl)])], [(na, zA X 144 (blF g))]]) := by
  refine Ct.of (by decide) (Nat.le_of_ble_eq_true rfl) "BumpwardModel" "take" rfl rfl (fun K F eL R => ?_)
  subst eL
  show G K X 2 0 0 [[(w, ob 8 [.int (nI (po)), .int (nI (ho)), .int (ch), .ref ma, .ref mg, .int (lo), .int (ac), .int (bu), .int (sl)])], [(na, zA X 144 (g))]] [(0, .ref w), (1, .ref na)] 0 []
  have hcn := cnt_le g 144
  refine g_aload_n 0 1 F dX6_take_0 rfl rfl 0 rfl ?_
  refine g_aload_n 1 2 F dX6_take_1 rfl rfl 1 rfl ?_
  refine g_put 2 5 F (ci := 8) in_X11 tyX11 tyX11_ok nmX11 rfl 3 (by decide) q1476 (fun _ h => h) rfl dX6_take_2 rfl 0 (rfl) (rfl) (Nat.le_of_ble_eq_true rfl) rfl (M' := [[(w, ob 8 [.int (nI (po)), .int (nI (ho)), .int (ch), .ref na, .ref mg, .int (lo), .int (ac), .int (bu), .int (sl)])], [(na, zA X 144 (g))]]) rfl ?_
  refine g_aload_n 5 6 F dX6_take_5 rfl rfl 0 rfl ?_
  refine g_callP 3 9 F (CallOk.V (C := "BumpwardModel$Walker") (b := w) (As := []) (rest := []) F 0 q1571 q1520 q1521 q77 q1522 cdV_X11_many rfl rfl (Nat.le_of_ble_eq_true rfl) (Nat.le_of_ble_eq_true rfl) dX6_take_6) (m_X11_many (kL K) X w na mg po ho ch lo ac bu sl g ) rfl (Mr := []) [0, 1] [] rfl 2 rfl (by decide +kernel) rfl rfl (rc_of F 0 8 rfl rfl) (Nat.le_of_ble_eq_true rfl) (c2 := 0) (s2 := 0) (Nat.zero_le _) (Nat.zero_le _) rfl rfl (st1 := [.int (nI (cnt g 144))]) rfl ?_
  refine g_ifN_le 9 12 13 F dX6_take_9 rfl (by decide) (by omega) (fun c_1 => ?_) (fun c_1 => ?_)
  · refine g_aload_n 13 14 F dX6_take_13 rfl rfl 0 rfl ?_
    refine g_call 3 17 F (CallOk.S (As := [.ref w]) (rest := []) F 1 q1502 q1503 q58 q1504 cd_X6_fill rfl rfl (Nat.le_of_ble_eq_true rfl) (Nat.le_of_ble_eq_true rfl) dX6_take_14) (m_X6_fill (kL K) X w na mg po ho ch lo ac bu sl g ) rfl (Mr := []) [0, 1] [] rfl rfl rfl (rc_T) (Nat.le_of_ble_eq_true rfl) (c2 := 0) (s2 := 0) (Nat.zero_le _) (Nat.zero_le _) rfl rfl (fun v M1 hp => ?_)
    obtain ⟨rfl, rfl⟩ := hp
    show G K X 2 0 0 [[(w, ob 8 [.int (nI (po)), .int (nI (ho)), .int (ch), .ref na, .ref mg, .int (lo), .int (ac), .int (bu), .int (sl)])], [(na, zA X 144 (fun _ => true))]] [(0, .ref w), (1, .ref na)] 17 []
    refine g_aload_n 17 18 F dX6_take_17 rfl rfl 0 rfl ?_
    refine g_dup 18 19 F dX6_take_18 rfl rfl ?_
    refine g_get 19 22 F (ci := 8) in_X11 rfl 5 (by decide) q1479 (fun _ h => h) dX6_take_19 rfl 0 rfl (v := .int (lo)) rfl ?_
    refine g_iconst 22 23 F (nI (1)) dX6_take_22 rfl (by decide) ?_
    refine g_iadd 23 24 F (v := lo + nI 1) dX6_take_23 rfl (rfl) ?_
    refine g_put 24 27 F (ci := 8) in_X11 tyX11 tyX11_ok nmX11 rfl 5 (by decide) q1479 (fun _ h => h) rfl dX6_take_24 rfl 0 (rfl) (rfl) (Nat.le_of_ble_eq_true rfl) rfl (M' := [[(w, ob 8 [.int (nI (po)), .int (nI (ho)), .int (ch), .ref na, .ref mg, .int (lo + nI 1), .int (ac), .int (bu), .int (sl)])], [(na, zA X 144 (fun _ => true))]]) rfl ?_
    exact g_vret 27 F R dX6_take_27 (Nat.zero_le _) (Nat.zero_le _) (by first | (rw [blF_0 (by omega), loI_0 (by omega)]; exact ⟨rfl, rfl⟩) | (rw [blF_p (by omega), loI_p (by omega)]; exact ⟨rfl, rfl⟩))
  · exact g_vret 12 F R dX6_take_12 (Nat.zero_le _) (Nat.zero_le _) (by first | (rw [blF_0 (by omega), loI_0 (by omega)]; exact ⟨rfl, rfl⟩) | (rw [blF_p (by omega), loI_p (by omega)]; exact ⟨rfl, rfl⟩))

set_option maxHeartbeats 4000000 in
theorem m_X6_stepped (l : Launch) (X : gk_X) (w ma mg : Nat) (mr : Nat → Nat) (po ho : Nat) (ch lo ac bu sl : Int32) (f : Nat → Bool) (e : Nat → Nat) (b : Bool) (he : ∀ k, k < 60 → e k < 3) : Ct l X yX6_stepped cX6_stepped 5 (some (.array .boolean)) 5 1 144 [.ref w, .int (bI (b))] [[(w, ob 8 [.int (nI (po)), .int (nI (ho)), .int (ch), .ref ma, .ref mg, .int (lo), .int (ac), .int (bu), .int (sl)])], [(ma, zA X 144 (f))], [(mg, oA X 5 36 (fun j => some (mr j)))], poolW 36 (fun j => [(mr j, iA X 2 (fun z => nI (mpN e j z)))])] (fun v M' => ∃ q, v = some (.ref q) ∧ M' = [[(w, ob 8 [.int (nI (po)), .int (nI (ho)), .int (ch), .ref ma, .ref mg, .int (lo), .int (ac), .int (bu), .int (sl)])], [(ma, zA X 144 (f))], [(mg, oA X 5 36 (fun j => some (mr j)))], poolW 36 (fun j => [(mr j, iA X 2 (fun z => nI (mpN e j z)))]), [(q, zA X 144 (fwF e f b))]]) := by
  refine Ct.of (by decide) (Nat.le_of_ble_eq_true rfl) "BumpwardModel" "stepped" rfl rfl (fun K F eL R => ?_)
  subst eL
  show G K X 5 0 0 [[(w, ob 8 [.int (nI (po)), .int (nI (ho)), .int (ch), .ref ma, .ref mg, .int (lo), .int (ac), .int (bu), .int (sl)])], [(ma, zA X 144 (f))], [(mg, oA X 5 36 (fun j => some (mr j)))], poolW 36 (fun j => [(mr j, iA X 2 (fun z => nI (mpN e j z)))])] [(0, .ref w), (1, .int (bI (b)))] 0 []
  refine g_sipush 0 3 F (nI (144)) dX6_stepped_0 rfl (by decide) ?_
  refine g_newZ 3 5 F dX6_stepped_3 rfl (n := 144) (Nat.le_of_ble_eq_true rfl) (c2 := 1) (s2 := 144) (Nat.le_refl _) (Nat.le_refl _) rfl rfl (M' := fun q => [[(w, ob 8 [.int (nI (po)), .int (nI (ho)), .int (ch), .ref ma, .ref mg, .int (lo), .int (ac), .int (bu), .int (sl)])], [(ma, zA X 144 (f))], [(mg, oA X 5 36 (fun j => some (mr j)))], poolW 36 (fun j => [(mr j, iA X 2 (fun z => nI (mpN e j z)))]), [(q, zA X 144 (fun _ => false))]]) (fun _ => rfl) (fun q => ?_)
  show G K X 5 1 144 [[(w, ob 8 [.int (nI (po)), .int (nI (ho)), .int (ch), .ref ma, .ref mg, .int (lo), .int (ac), .int (bu), .int (sl)])], [(ma, zA X 144 (f))], [(mg, oA X 5 36 (fun j => some (mr j)))], poolW 36 (fun j => [(mr j, iA X 2 (fun z => nI (mpN e j z)))]), [(q, zA X 144 (fun _ => false))]] [(0, .ref w), (1, .int (bI (b)))] 5 [.ref q]
  refine g_astore_n 5 6 F [(2, .ref q), (0, .ref w), (1, .int (bI (b)))] dX6_stepped_5 rfl rfl (Nat.le_of_ble_eq_true rfl) rfl ?_
  refine g_iconst 6 7 F (nI (0)) dX6_stepped_6 rfl (by decide) ?_
  refine g_istore_n 7 8 F [(3, .int (nI (0))), (2, .ref q), (0, .ref w), (1, .int (bI (b)))] dX6_stepped_7 rfl rfl (Nat.le_of_ble_eq_true rfl) rfl ?_
  refine g_ls [(0, .ref w), (1, .int (bI (b))), (2, .ref q), (3, .int (nI (0)))] [2, 3, 1, 0] (rfl) ?_
  refine g_down (P := fun i => G K X 5 1 144 [[(w, ob 8 [.int (nI (po)), .int (nI (ho)), .int (ch), .ref ma, .ref mg, .int (lo), .int (ac), .int (bu), .int (sl)])], [(ma, zA X 144 (f))], [(mg, oA X 5 36 (fun j => some (mr j)))], poolW 36 (fun j => [(mr j, iA X 2 (fun z => nI (mpN e j z)))]), [(q, zA X 144 (fwN e f b i))]] [(0, .ref w), (1, .int (bI (b))), (2, .ref q), (3, .int (nI (i)))] 8 []) 144 0 (by omega) ?_ (fun i hl_i hi_i ih_i => ?_)
  · show G K X 5 1 144 [[(w, ob 8 [.int (nI (po)), .int (nI (ho)), .int (ch), .ref ma, .ref mg, .int (lo), .int (ac), .int (bu), .int (sl)])], [(ma, zA X 144 (f))], [(mg, oA X 5 36 (fun j => some (mr j)))], poolW 36 (fun j => [(mr j, iA X 2 (fun z => nI (mpN e j z)))]), [(q, zA X 144 (fwN e f b 144))]] [(0, .ref w), (1, .int (bI (b))), (2, .ref q), (3, .int (nI (144)))] 8 []
    refine g_iload_n 8 9 F dX6_stepped_8 rfl rfl 3 rfl ?_
    refine g_sipush 9 12 F (nI (144)) dX6_stepped_9 rfl (by decide) ?_
    refine g_icmpN_ge 12 15 97 F dX6_stepped_12 rfl (by decide) (by omega) (by omega) (fun c_1 => ?_) (fun c_1 => ?_)
    · refine g_aload_n 97 98 F dX6_stepped_97 rfl rfl 2 rfl ?_
      exact g_aret 98 F R dX6_stepped_98 (Nat.le_refl _) (Nat.le_refl _) (Or.inr ⟨_, rfl⟩) (⟨q, rfl, rfl⟩)
    · exact absurd c_1 (by omega)
  · show G K X 5 1 144 [[(w, ob 8 [.int (nI (po)), .int (nI (ho)), .int (ch), .ref ma, .ref mg, .int (lo), .int (ac), .int (bu), .int (sl)])], [(ma, zA X 144 (f))], [(mg, oA X 5 36 (fun j => some (mr j)))], poolW 36 (fun j => [(mr j, iA X 2 (fun z => nI (mpN e j z)))]), [(q, zA X 144 (fwN e f b i))]] [(0, .ref w), (1, .int (bI (b))), (2, .ref q), (3, .int (nI (i)))] 8 []
    have hat := atN_lt (c := i / 4) (s := i % 4) he (by omega) (by omega)
    refine g_iload_n 8 9 F dX6_stepped_8 rfl rfl 3 rfl ?_
    refine g_sipush 9 12 F (nI (144)) dX6_stepped_9 rfl (by decide) ?_
    refine g_icmpN_ge 12 15 97 F dX6_stepped_12 rfl (by decide) (by omega) (by omega) (fun c_2 => ?_) (fun c_2 => ?_)
    · exact absurd c_2 (by omega)
    · refine g_aload_n 15 16 F dX6_stepped_15 rfl rfl 0 rfl ?_
      refine g_get 16 19 F (ci := 8) in_X11 rfl 3 (by decide) q1476 (fun _ h => h) dX6_stepped_16 rfl 0 rfl (v := .ref ma) rfl ?_
      refine g_iload_n 19 20 F dX6_stepped_19 rfl rfl 3 rfl ?_
      refine g_zald 20 21 F dX6_stepped_20 rfl 1 (i := i) rfl (Nat.le_of_ble_eq_true rfl) (by omega) ?_
      refine g_ifB_ne 21 24 27 F dX6_stepped_21 rfl (by decide) (fun c_3 => ?_) (fun c_3 => ?_)
      · have hF := c_3
        refine g_aload_n 27 28 F dX6_stepped_27 rfl rfl 0 rfl ?_
        refine g_iload_n 28 29 F dX6_stepped_28 rfl rfl 3 rfl ?_
        refine g_iconst 29 30 F (nI (4)) dX6_stepped_29 rfl (by decide) ?_
        refine g_idiv 30 31 F (v := nI (i / 4)) dX6_stepped_30 rfl (by decide) (pk_div (by omega) (by omega) (by omega)) ?_
        refine g_iload_n 31 32 F dX6_stepped_31 rfl rfl 3 rfl ?_
        refine g_iconst 32 33 F (nI (4)) dX6_stepped_32 rfl (by decide) ?_
        refine g_irem 33 34 F (v := nI (i % 4)) dX6_stepped_33 rfl (by decide) (pk_rem (by omega) (by omega) (by omega)) ?_
        refine g_callP 3 37 F (CallOk.S (As := [.ref w, .int (nI (i / 4)), .int (nI (i % 4))]) (rest := []) F 3 q1543 q1544 q58 q1545 cd_X6_known rfl rfl (Nat.le_of_ble_eq_true rfl) (Nat.le_of_ble_eq_true rfl) dX6_stepped_34) (m_X6_known (kL K) X w ma mg mr po ho ch lo ac bu sl e (i / 4) (i % 4) (by omega) (by omega)) rfl (Mr := [[(ma, zA X 144 (f))], [(q, zA X 144 (fwN e f b i))]]) [0, 2, 3] [1, 4] rfl 5 rfl (by decide +kernel) rfl rfl (rc_T) (Nat.le_of_ble_eq_true rfl) (c2 := 1) (s2 := 144) (Nat.le_refl _) (Nat.le_refl _) rfl rfl (st1 := [.int (nI (atN e (i / 4) (i % 4)))]) rfl ?_
        refine g_istore 37 39 F [(4, .int (nI (atN e (i / 4) (i % 4)))), (0, .ref w), (1, .int (bI (b))), (2, .ref q), (3, .int (nI (i)))] dX6_stepped_37 rfl (Nat.le_of_ble_eq_true rfl) rfl ?_
        refine g_iload_n 39 40 F dX6_stepped_39 rfl rfl 2 rfl ?_
        refine g_ifB_eq 40 43 63 F dX6_stepped_40 rfl (by decide) (fun c_4 => ?_) (fun c_4 => ?_)
        · have hb := c_4
          refine g_iload 63 65 F dX6_stepped_63 rfl 0 rfl ?_
          refine g_iconst 65 66 F (nI (2)) dX6_stepped_65 rfl (by decide) ?_
          refine g_icmpN_eq 66 69 91 F dX6_stepped_66 rfl (by decide) (by omega) (by omega) (fun c_5 => ?_) (fun c_5 => ?_)
          · rw [show fwN e f b i = fwN e f b (i + 1) by rw [hb]; exact fw_2 c_5]
            refine g_iinc 91 94 F (v := nI (i + 1)) [(3, .int (nI (i + 1))), (4, .int (nI (atN e (i / 4) (i % 4)))), (0, .ref w), (1, .int (bI (b))), (2, .ref q)] dX6_stepped_91 rfl 4 rfl (nI_add _ _) (Nat.le_of_ble_eq_true rfl) rfl ?_
            refine g_goto 94 8 F dX6_stepped_94 (by decide) ?_
            refine g_ls [(0, .ref w), (1, .int (bI (b))), (2, .ref q), (3, .int (nI (i + 1)))] [2, 3, 4, 0] (rfl) ?_
            exact ih_i
          · have hC := c_5
            have hbn := at_in c_5
            have hbl := bsD_lt (c := i / 4) (s := i % 4) (by omega) (by omega)
            refine g_aload_n 69 70 F dX6_stepped_69 rfl rfl 3 rfl ?_
            refine g_iload_n 70 71 F dX6_stepped_70 rfl rfl 4 rfl ?_
            refine g_iconst 71 72 F (nI (1)) dX6_stepped_71 rfl (by decide) ?_
            refine g_top (v := bI true) rfl ?_
            refine g_zast 72 73 F dX6_stepped_72 rfl 4 (i := i) rfl (Nat.le_of_ble_eq_true rfl) (by omega) (f' := updB (fwN e f b i) i true) (rfl) (M' := [[(w, ob 8 [.int (nI (po)), .int (nI (ho)), .int (ch), .ref ma, .ref mg, .int (lo), .int (ac), .int (bu), .int (sl)])], [(ma, zA X 144 (f))], [(mg, oA X 5 36 (fun j => some (mr j)))], poolW 36 (fun j => [(mr j, iA X 2 (fun z => nI (mpN e j z)))]), [(q, zA X 144 (updB (fwN e f b i) i true))]]) rfl ?_
            refine g_aload_n 73 74 F dX6_stepped_73 rfl rfl 3 rfl ?_
            refine g_iconst 74 75 F (nI (4)) dX6_stepped_74 rfl (by decide) ?_
            refine g_iload_n 75 76 F dX6_stepped_75 rfl rfl 4 rfl ?_
            refine g_iconst 76 77 F (nI (4)) dX6_stepped_76 rfl (by decide) ?_
            refine g_idiv 77 78 F (v := nI (i / 4)) dX6_stepped_77 rfl (by decide) (pk_div (by omega) (by omega) (by omega)) ?_
            refine g_iload_n 78 79 F dX6_stepped_78 rfl rfl 4 rfl ?_
            refine g_iconst 79 80 F (nI (4)) dX6_stepped_79 rfl (by decide) ?_
            refine g_irem 80 81 F (v := nI (i % 4)) dX6_stepped_80 rfl (by decide) (pk_rem (by omega) (by omega) (by omega)) ?_
            refine g_callP 3 84 F (CallOk.S (As := [.int (nI (i / 4)), .int (nI (i % 4))]) (rest := [.int (nI (4)), .ref q]) F 2 q1431 q1432 q58 q1433 cd_X6_beyond rfl rfl (Nat.le_of_ble_eq_true rfl) (Nat.le_of_ble_eq_true rfl) dX6_stepped_81) (m_X6_beyond (kL K) X (i / 4) (i % 4) (by omega) (by omega)) rfl (Mr := [[(w, ob 8 [.int (nI (po)), .int (nI (ho)), .int (ch), .ref ma, .ref mg, .int (lo), .int (ac), .int (bu), .int (sl)])], [(ma, zA X 144 (f))], [(mg, oA X 5 36 (fun j => some (mr j)))], poolW 36 (fun j => [(mr j, iA X 2 (fun z => nI (mpN e j z)))]), [(q, zA X 144 (updB (fwN e f b i) i true))]]) [] [0, 1, 2, 3, 4] rfl 5 rfl (by decide +kernel) rfl rfl (rc_T) (Nat.le_of_ble_eq_true rfl) (c2 := 1) (s2 := 144) (Nat.le_refl _) (Nat.le_refl _) rfl rfl (st1 := [.int (bsI (i / 4) (i % 4)), .int (nI (4)), .ref q]) rfl ?_
            refine g_top (v := nI (bsD (i / 4) (i % 4))) (bsI_nI hbn) ?_
            refine g_imul 84 85 F (v := nI (4 * (bsD (i / 4) (i % 4)))) dX6_stepped_84 rfl (pk_mul _ _) ?_
            refine g_iload_n 85 86 F dX6_stepped_85 rfl rfl 4 rfl ?_
            refine g_iconst 86 87 F (nI (4)) dX6_stepped_86 rfl (by decide) ?_
            refine g_irem 87 88 F (v := nI (i % 4)) dX6_stepped_87 rfl (by decide) (pk_rem (by omega) (by omega) (by omega)) ?_
            refine g_iadd 88 89 F (v := nI (4 * (bsD (i / 4) (i % 4)) + (i % 4))) dX6_stepped_88 rfl (nI_add _ _) ?_
            refine g_iconst 89 90 F (nI (1)) dX6_stepped_89 rfl (by decide) ?_
            refine g_top (v := bI true) rfl ?_
            refine g_zast 90 91 F dX6_stepped_90 rfl 4 (i := 4 * (bsD (i / 4) (i % 4)) + (i % 4)) rfl (Nat.le_of_ble_eq_true rfl) (by omega) (f' := fwN e f b (i + 1)) (by rw [hb]; exact fw_f2 hF hC) (M' := [[(w, ob 8 [.int (nI (po)), .int (nI (ho)), .int (ch), .ref ma, .ref mg, .int (lo), .int (ac), .int (bu), .int (sl)])], [(ma, zA X 144 (f))], [(mg, oA X 5 36 (fun j => some (mr j)))], poolW 36 (fun j => [(mr j, iA X 2 (fun z => nI (mpN e j z)))]), [(q, zA X 144 (fwN e f b (i + 1)))]]) rfl ?_
            refine g_iinc 91 94 F (v := nI (i + 1)) [(3, .int (nI (i + 1))), (4, .int (nI (atN e (i / 4) (i % 4)))), (0, .ref w), (1, .int (bI (b))), (2, .ref q)] dX6_stepped_91 rfl 4 rfl (nI_add _ _) (Nat.le_of_ble_eq_true rfl) rfl ?_
            refine g_goto 94 8 F dX6_stepped_94 (by decide) ?_
            refine g_ls [(0, .ref w), (1, .int (bI (b))), (2, .ref q), (3, .int (nI (i + 1)))] [2, 3, 4, 0] (rfl) ?_
            exact ih_i
        · have hb := c_4
          refine g_aload_n 43 44 F dX6_stepped_43 rfl rfl 3 rfl ?_
          refine g_iload_n 44 45 F dX6_stepped_44 rfl rfl 4 rfl ?_
          refine g_dup2 45 46 F dX6_stepped_45 rfl rfl rfl ?_
          refine g_zald 46 47 F dX6_stepped_46 rfl 4 (i := i) rfl (Nat.le_of_ble_eq_true rfl) (by omega) ?_
          refine g_iload 47 49 F dX6_stepped_47 rfl 0 rfl ?_
          refine g_iconst 49 50 F (nI (1)) dX6_stepped_49 rfl (by decide) ?_
          refine g_diaN_eq 50 57 58 F dX6_stepped_50 (by decide) dX6_stepped_53 dX6_stepped_54 (by decide) dX6_stepped_57 rfl (by omega) (by omega) ?_
          refine g_ior 58 59 F (v := bI (((fwN e f b i) i) || (decide (¬ (atN e (i / 4) (i % 4)) = 1)))) dX6_stepped_58 rfl (bI_or _ _) ?_
          refine g_zast 59 60 F dX6_stepped_59 rfl 4 (i := i) rfl (Nat.le_of_ble_eq_true rfl) (by omega) (f' := fwN e f b (i + 1)) (by rw [hb]; exact fw_or hF) (M' := [[(w, ob 8 [.int (nI (po)), .int (nI (ho)), .int (ch), .ref ma, .ref mg, .int (lo), .int (ac), .int (bu), .int (sl)])], [(ma, zA X 144 (f))], [(mg, oA X 5 36 (fun j => some (mr j)))], poolW 36 (fun j => [(mr j, iA X 2 (fun z => nI (mpN e j z)))]), [(q, zA X 144 (fwN e f b (i + 1)))]]) rfl ?_
          refine g_goto 60 91 F dX6_stepped_60 (by decide) ?_
          refine g_iinc 91 94 F (v := nI (i + 1)) [(3, .int (nI (i + 1))), (4, .int (nI (atN e (i / 4) (i % 4)))), (0, .ref w), (1, .int (bI (b))), (2, .ref q)] dX6_stepped_91 rfl 4 rfl (nI_add _ _) (Nat.le_of_ble_eq_true rfl) rfl ?_
          refine g_goto 94 8 F dX6_stepped_94 (by decide) ?_
          refine g_ls [(0, .ref w), (1, .int (bI (b))), (2, .ref q), (3, .int (nI (i + 1)))] [2, 3, 4, 0] (rfl) ?_
          exact ih_i
      · rw [fw_no (e := e) (b := b) (by simp [c_3])]
        refine g_goto 24 91 F dX6_stepped_24 (by decide) ?_
        refine g_iinc 91 94 F (v := nI (i + 1)) [(3, .int (nI (i + 1))), (0, .ref w), (1, .int (bI (b))), (2, .ref q)] dX6_stepped_91 rfl 3 rfl (nI_add _ _) (Nat.le_of_ble_eq_true rfl) rfl ?_
        refine g_goto 94 8 F dX6_stepped_94 (by decide) ?_
        refine g_ls [(0, .ref w), (1, .int (bI (b))), (2, .ref q), (3, .int (nI (i + 1)))] [1, 2, 3, 0] (rfl) ?_
        exact ih_i

set_option maxHeartbeats 4000000 in
theorem m_X6_feeling (l : Launch) (X : gk_X) (w ma mg : Nat) (mr : Nat → Nat) (po ho : Nat) (ch lo ac bu sl : Int32) (f : Nat → Bool) (e : Nat → Nat) (a : Nat) (he : ∀ k, k < 60 → e k < 3) (ha : a < 8) : Ct l X yX6_feeling cX6_feeling 6 (some (.array .boolean)) 5 1 144 [.ref w, .int (nI (a))] [[(w, ob 8 [.int (nI (po)), .int (nI (ho)), .int (ch), .ref ma, .ref mg, .int (lo), .int (ac), .int (bu), .int (sl)])], [(ma, zA X 144 (f))], [(mg, oA X 5 36 (fun j => some (mr j)))], poolW 36 (fun j => [(mr j, iA X 2 (fun z => nI (mpN e j z)))])] (fun v M' => ∃ q, v = some (.ref q) ∧ M' = [[(w, ob 8 [.int (nI (po)), .int (nI (ho)), .int (ch), .ref ma, .ref mg, .int (lo), .int (ac), .int (bu), .int (sl)])], [(ma, zA X 144 (f))], [(mg, oA X 5 36 (fun j => some (mr j)))], poolW 36 (fun j => [(mr j, iA X 2 (fun z => nI (mpN e j z)))]), [(q, zA X 144 (ftF e f a))]]) := by
  refine Ct.of (by decide) (Nat.le_of_ble_eq_true rfl) "BumpwardModel" "feeling" rfl rfl (fun K F eL R => ?_)
  subst eL
  show G K X 6 0 0 [[(w, ob 8 [.int (nI (po)), .int (nI (ho)), .int (ch), .ref ma, .ref mg, .int (lo), .int (ac), .int (bu), .int (sl)])], [(ma, zA X 144 (f))], [(mg, oA X 5 36 (fun j => some (mr j)))], poolW 36 (fun j => [(mr j, iA X 2 (fun z => nI (mpN e j z)))])] [(0, .ref w), (1, .int (nI (a)))] 0 []
  refine g_sipush 0 3 F (nI (144)) dX6_feeling_0 rfl (by decide) ?_
  refine g_newZ 3 5 F dX6_feeling_3 rfl (n := 144) (Nat.le_of_ble_eq_true rfl) (c2 := 1) (s2 := 144) (Nat.le_refl _) (Nat.le_refl _) rfl rfl (M' := fun q => [[(w, ob 8 [.int (nI (po)), .int (nI (ho)), .int (ch), .ref ma, .ref mg, .int (lo), .int (ac), .int (bu), .int (sl)])], [(ma, zA X 144 (f))], [(mg, oA X 5 36 (fun j => some (mr j)))], poolW 36 (fun j => [(mr j, iA X 2 (fun z => nI (mpN e j z)))]), [(q, zA X 144 (fun _ => false))]]) (fun _ => rfl) (fun q => ?_)
  show G K X 6 1 144 [[(w, ob 8 [.int (nI (po)), .int (nI (ho)), .int (ch), .ref ma, .ref mg, .int (lo), .int (ac), .int (bu), .int (sl)])], [(ma, zA X 144 (f))], [(mg, oA X 5 36 (fun j => some (mr j)))], poolW 36 (fun j => [(mr j, iA X 2 (fun z => nI (mpN e j z)))]), [(q, zA X 144 (fun _ => false))]] [(0, .ref w), (1, .int (nI (a)))] 5 [.ref q]
  refine g_astore_n 5 6 F [(2, .ref q), (0, .ref w), (1, .int (nI (a)))] dX6_feeling_5 rfl rfl (Nat.le_of_ble_eq_true rfl) rfl ?_
  refine g_iconst 6 7 F (nI (0)) dX6_feeling_6 rfl (by decide) ?_
  refine g_istore_n 7 8 F [(3, .int (nI (0))), (2, .ref q), (0, .ref w), (1, .int (nI (a)))] dX6_feeling_7 rfl rfl (Nat.le_of_ble_eq_true rfl) rfl ?_
  refine g_ls [(0, .ref w), (1, .int (nI (a))), (2, .ref q), (3, .int (nI (0)))] [2, 3, 1, 0] (rfl) ?_
  refine g_arrZ 4 rfl (g := fun j => decide (j < 0) && ftF e f a j) (fun j hj => by simp) rfl ?_
  refine g_down (P := fun i => G K X 6 1 144 [[(w, ob 8 [.int (nI (po)), .int (nI (ho)), .int (ch), .ref ma, .ref mg, .int (lo), .int (ac), .int (bu), .int (sl)])], [(ma, zA X 144 (f))], [(mg, oA X 5 36 (fun j => some (mr j)))], poolW 36 (fun j => [(mr j, iA X 2 (fun z => nI (mpN e j z)))]), [(q, zA X 144 (fun j => decide (j < i) && ftF e f a j))]] [(0, .ref w), (1, .int (nI (a))), (2, .ref q), (3, .int (nI (i)))] 8 []) 144 0 (by omega) ?_ (fun i hl_i hi_i ih_i => ?_)
  · show G K X 6 1 144 [[(w, ob 8 [.int (nI (po)), .int (nI (ho)), .int (ch), .ref ma, .ref mg, .int (lo), .int (ac), .int (bu), .int (sl)])], [(ma, zA X 144 (f))], [(mg, oA X 5 36 (fun j => some (mr j)))], poolW 36 (fun j => [(mr j, iA X 2 (fun z => nI (mpN e j z)))]), [(q, zA X 144 (fun j => decide (j < 144) && ftF e f a j))]] [(0, .ref w), (1, .int (nI (a))), (2, .ref q), (3, .int (nI (144)))] 8 []
    refine g_iload_n 8 9 F dX6_feeling_8 rfl rfl 3 rfl ?_
    refine g_sipush 9 12 F (nI (144)) dX6_feeling_9 rfl (by decide) ?_
    refine g_icmpN_ge 12 15 107 F dX6_feeling_12 rfl (by decide) (by omega) (by omega) (fun c_1 => ?_) (fun c_1 => ?_)
    · refine g_aload_n 107 108 F dX6_feeling_107 rfl rfl 2 rfl ?_
      refine g_arrZ 4 rfl (g := ftF e f a) (fun j hj => by simp [hj]) rfl ?_
      exact g_aret 108 F R dX6_feeling_108 (Nat.le_refl _) (Nat.le_refl _) (Or.inr ⟨_, rfl⟩) (⟨q, rfl, rfl⟩)
    · exact absurd c_1 (by omega)
  · show G K X 6 1 144 [[(w, ob 8 [.int (nI (po)), .int (nI (ho)), .int (ch), .ref ma, .ref mg, .int (lo), .int (ac), .int (bu), .int (sl)])], [(ma, zA X 144 (f))], [(mg, oA X 5 36 (fun j => some (mr j)))], poolW 36 (fun j => [(mr j, iA X 2 (fun z => nI (mpN e j z)))]), [(q, zA X 144 (fun j => decide (j < i) && ftF e f a j))]] [(0, .ref w), (1, .int (nI (a))), (2, .ref q), (3, .int (nI (i)))] 8 []
    refine g_iload_n 8 9 F dX6_feeling_8 rfl rfl 3 rfl ?_
    refine g_sipush 9 12 F (nI (144)) dX6_feeling_9 rfl (by decide) ?_
    refine g_icmpN_ge 12 15 107 F dX6_feeling_12 rfl (by decide) (by omega) (by omega) (fun c_2 => ?_) (fun c_2 => ?_)
    · exact absurd c_2 (by omega)
    · refine g_aload_n 15 16 F dX6_feeling_15 rfl rfl 2 rfl ?_
      refine g_iload_n 16 17 F dX6_feeling_16 rfl rfl 3 rfl ?_
      refine g_aload_n 17 18 F dX6_feeling_17 rfl rfl 0 rfl ?_
      refine g_get 18 21 F (ci := 8) in_X11 rfl 3 (by decide) q1476 (fun _ h => h) dX6_feeling_18 rfl 0 rfl (v := .ref ma) rfl ?_
      refine g_iload_n 21 22 F dX6_feeling_21 rfl rfl 3 rfl ?_
      refine g_zald 22 23 F dX6_feeling_22 rfl 1 (i := i) rfl (Nat.le_of_ble_eq_true rfl) (by omega) ?_
      refine g_zast 23 24 F dX6_feeling_23 rfl 4 (i := i) rfl (Nat.le_of_ble_eq_true rfl) (by omega) (f' := mfF e f a i 0) (mf_0 e f a i) (M' := [[(w, ob 8 [.int (nI (po)), .int (nI (ho)), .int (ch), .ref ma, .ref mg, .int (lo), .int (ac), .int (bu), .int (sl)])], [(ma, zA X 144 (f))], [(mg, oA X 5 36 (fun j => some (mr j)))], poolW 36 (fun j => [(mr j, iA X 2 (fun z => nI (mpN e j z)))]), [(q, zA X 144 (mfF e f a i 0))]]) rfl ?_
      refine g_iconst 24 25 F (nI (0)) dX6_feeling_24 rfl (by decide) ?_
      refine g_istore 25 27 F [(4, .int (nI (0))), (0, .ref w), (1, .int (nI (a))), (2, .ref q), (3, .int (nI (i)))] dX6_feeling_25 rfl (Nat.le_of_ble_eq_true rfl) rfl ?_
      refine g_ls [(0, .ref w), (1, .int (nI (a))), (2, .ref q), (3, .int (nI (i))), (4, .int (nI (0)))] [1, 2, 3, 4, 0] (rfl) ?_
      refine g_down (P := fun k => G K X 6 1 144 [[(w, ob 8 [.int (nI (po)), .int (nI (ho)), .int (ch), .ref ma, .ref mg, .int (lo), .int (ac), .int (bu), .int (sl)])], [(ma, zA X 144 (f))], [(mg, oA X 5 36 (fun j => some (mr j)))], poolW 36 (fun j => [(mr j, iA X 2 (fun z => nI (mpN e j z)))]), [(q, zA X 144 (mfF e f a i k))]] [(0, .ref w), (1, .int (nI (a))), (2, .ref q), (3, .int (nI (i))), (4, .int (nI (k)))] 27 []) 3 0 (by omega) ?_ (fun k hl_k hi_k ih_k => ?_)
      · show G K X 6 1 144 [[(w, ob 8 [.int (nI (po)), .int (nI (ho)), .int (ch), .ref ma, .ref mg, .int (lo), .int (ac), .int (bu), .int (sl)])], [(ma, zA X 144 (f))], [(mg, oA X 5 36 (fun j => some (mr j)))], poolW 36 (fun j => [(mr j, iA X 2 (fun z => nI (mpN e j z)))]), [(q, zA X 144 (mfF e f a i 3))]] [(0, .ref w), (1, .int (nI (a))), (2, .ref q), (3, .int (nI (i))), (4, .int (nI (3)))] 27 []
        rw [mf_3]
        refine g_iload 27 29 F dX6_feeling_27 rfl 4 rfl ?_
        refine g_iconst 29 30 F (nI (3)) dX6_feeling_29 rfl (by decide) ?_
        refine g_icmpN_ge 30 33 101 F dX6_feeling_30 rfl (by decide) (by omega) (by omega) (fun c_3 => ?_) (fun c_3 => ?_)
        · refine g_iinc 101 104 F (v := nI (i + 1)) [(3, .int (nI (i + 1))), (0, .ref w), (1, .int (nI (a))), (2, .ref q), (4, .int (nI (3)))] dX6_feeling_101 rfl 3 rfl (nI_add _ _) (Nat.le_of_ble_eq_true rfl) rfl ?_
          refine g_goto 104 8 F dX6_feeling_104 (by decide) ?_
          refine g_ls [(0, .ref w), (1, .int (nI (a))), (2, .ref q), (3, .int (nI (i + 1)))] [1, 2, 3, 0] (rfl) ?_
          exact ih_i
        · exact absurd c_3 (by omega)
      · show G K X 6 1 144 [[(w, ob 8 [.int (nI (po)), .int (nI (ho)), .int (ch), .ref ma, .ref mg, .int (lo), .int (ac), .int (bu), .int (sl)])], [(ma, zA X 144 (f))], [(mg, oA X 5 36 (fun j => some (mr j)))], poolW 36 (fun j => [(mr j, iA X 2 (fun z => nI (mpN e j z)))]), [(q, zA X 144 (mfF e f a i k))]] [(0, .ref w), (1, .int (nI (a))), (2, .ref q), (3, .int (nI (i))), (4, .int (nI (k)))] 27 []
        have hat := atN_lt (c := i / 4) (s := (i + k + 3) % 4) he (by omega) (by omega)
        have hbt := btN_lt a k
        refine g_iload 27 29 F dX6_feeling_27 rfl 4 rfl ?_
        refine g_iconst 29 30 F (nI (3)) dX6_feeling_29 rfl (by decide) ?_
        refine g_icmpN_ge 30 33 101 F dX6_feeling_30 rfl (by decide) (by omega) (by omega) (fun c_4 => ?_) (fun c_4 => ?_)
        · exact absurd c_4 (by omega)
        · refine g_aload_n 33 34 F dX6_feeling_33 rfl rfl 0 rfl ?_
          refine g_iload_n 34 35 F dX6_feeling_34 rfl rfl 3 rfl ?_
          refine g_iconst 35 36 F (nI (4)) dX6_feeling_35 rfl (by decide) ?_
          refine g_idiv 36 37 F (v := nI (i / 4)) dX6_feeling_36 rfl (by decide) (pk_div (by omega) (by omega) (by omega)) ?_
          refine g_iload_n 37 38 F dX6_feeling_37 rfl rfl 3 rfl ?_
          refine g_iconst 38 39 F (nI (3)) dX6_feeling_38 rfl (by decide) ?_
          refine g_iadd 39 40 F (v := nI (i + 3)) dX6_feeling_39 rfl (nI_add _ _) ?_
          refine g_iload 40 42 F dX6_feeling_40 rfl 4 rfl ?_
          refine g_iadd 42 43 F (v := nI (i + 3 + k)) dX6_feeling_42 rfl (nI_add _ _) ?_
          refine g_iconst 43 44 F (nI (4)) dX6_feeling_43 rfl (by decide) ?_
          refine g_irem 44 45 F (v := nI ((i + 3 + k) % 4)) dX6_feeling_44 rfl (by decide) (pk_rem (by omega) (by omega) (by omega)) ?_
          refine g_top (v := nI ((i + k + 3) % 4)) (by rw [Nat.add_right_comm]) ?_
          refine g_callP 3 48 F (CallOk.S (As := [.ref w, .int (nI (i / 4)), .int (nI ((i + k + 3) % 4))]) (rest := []) F 3 q1543 q1544 q58 q1545 cd_X6_known rfl rfl (Nat.le_of_ble_eq_true rfl) (Nat.le_of_ble_eq_true rfl) dX6_feeling_45) (m_X6_known (kL K) X w ma mg mr po ho ch lo ac bu sl e (i / 4) ((i + k + 3) % 4) (by omega) (by omega)) rfl (Mr := [[(ma, zA X 144 (f))], [(q, zA X 144 (mfF e f a i k))]]) [0, 2, 3] [1, 4] rfl 5 rfl (by decide +kernel) rfl rfl (rc_T) (Nat.le_of_ble_eq_true rfl) (c2 := 1) (s2 := 144) (Nat.le_refl _) (Nat.le_refl _) rfl rfl (st1 := [.int (nI (atN e (i / 4) ((i + k + 3) % 4)))]) rfl ?_
          refine g_istore 48 50 F [(5, .int (nI (atN e (i / 4) ((i + k + 3) % 4)))), (0, .ref w), (1, .int (nI (a))), (2, .ref q), (3, .int (nI (i))), (4, .int (nI (k)))] dX6_feeling_48 rfl (Nat.le_of_ble_eq_true rfl) rfl ?_
          refine g_aload_n 50 51 F dX6_feeling_50 rfl rfl 3 rfl ?_
          refine g_iload_n 51 52 F dX6_feeling_51 rfl rfl 4 rfl ?_
          refine g_dup2 52 53 F dX6_feeling_52 rfl rfl rfl ?_
          refine g_zald 53 54 F dX6_feeling_53 rfl 4 (i := i) rfl (Nat.le_of_ble_eq_true rfl) (by omega) ?_
          have J_5 : G K X 6 1 144 [[(w, ob 8 [.int (nI (po)), .int (nI (ho)), .int (ch), .ref ma, .ref mg, .int (lo), .int (ac), .int (bu), .int (sl)])], [(ma, zA X 144 (f))], [(mg, oA X 5 36 (fun j => some (mr j)))], poolW 36 (fun j => [(mr j, iA X 2 (fun z => nI (mpN e j z)))]), [(q, zA X 144 (mfF e f a i k))]] [(5, .int (nI (atN e (i / 4) ((i + k + 3) % 4)))), (0, .ref w), (1, .int (nI (a))), (2, .ref q), (3, .int (nI (i))), (4, .int (nI (k)))] 93 [.int (bI (cbB e (i / 4) ((i + k + 3) % 4) (decide (btN a k = 1)))), .int (bI ((mfF e f a i k) i)), .int (nI (i)), .ref q] := by
            refine g_iand 93 94 F (v := bI (((mfF e f a i k) i) && (cbB e (i / 4) ((i + k + 3) % 4) (decide (btN a k = 1))))) dX6_feeling_93 rfl (bI_and _ _) ?_
            refine g_zast 94 95 F dX6_feeling_94 rfl 4 (i := i) rfl (Nat.le_of_ble_eq_true rfl) (by omega) (f' := mfF e f a i (k + 1)) (mf_k rfl) (M' := [[(w, ob 8 [.int (nI (po)), .int (nI (ho)), .int (ch), .ref ma, .ref mg, .int (lo), .int (ac), .int (bu), .int (sl)])], [(ma, zA X 144 (f))], [(mg, oA X 5 36 (fun j => some (mr j)))], poolW 36 (fun j => [(mr j, iA X 2 (fun z => nI (mpN e j z)))]), [(q, zA X 144 (mfF e f a i (k + 1)))]]) rfl ?_
            refine g_iinc 95 98 F (v := nI (k + 1)) [(4, .int (nI (k + 1))), (5, .int (nI (atN e (i / 4) ((i + k + 3) % 4)))), (0, .ref w), (1, .int (nI (a))), (2, .ref q), (3, .int (nI (i)))] dX6_feeling_95 rfl 5 rfl (nI_add _ _) (Nat.le_of_ble_eq_true rfl) rfl ?_
            refine g_goto 98 27 F dX6_feeling_98 (by decide) ?_
            refine g_ls [(0, .ref w), (1, .int (nI (a))), (2, .ref q), (3, .int (nI (i))), (4, .int (nI (k + 1)))] [2, 3, 4, 5, 0] (rfl) ?_
            exact ih_k
          refine g_iload 54 56 F dX6_feeling_54 rfl 0 rfl ?_
          refine g_ifN_eq 56 59 88 F dX6_feeling_56 rfl (by decide) (by omega) (fun c_6 => ?_) (fun c_6 => ?_)
          · refine g_iconst 88 89 F (nI (1)) dX6_feeling_88 rfl (by decide) ?_
            refine g_goto 89 93 F dX6_feeling_89 (by decide) ?_
            refine g_top (v := bI (cbB e (i / 4) ((i + k + 3) % 4) (decide (btN a k = 1)))) (by first | exact cb_0 (by assumption) | exact cb_n hat (by assumption)) ?_
            exact J_5
          · refine g_iload 59 61 F dX6_feeling_59 rfl 0 rfl ?_
            refine g_iconst 61 62 F (nI (2)) dX6_feeling_61 rfl (by decide) ?_
            refine g_diaN_ne 62 69 70 F dX6_feeling_62 (by decide) dX6_feeling_65 dX6_feeling_66 (by decide) dX6_feeling_69 rfl (by omega) (by omega) ?_
            refine g_iload_n 70 71 F dX6_feeling_70 rfl rfl 2 rfl ?_
            refine g_iload 71 73 F dX6_feeling_71 rfl 5 rfl ?_
            refine g_ishr 73 74 F (v := (nI (a)) >>> ((nI (k)) &&& 31)) dX6_feeling_73 rfl (rfl) ?_
            refine g_iconst 74 75 F (nI (1)) dX6_feeling_74 rfl (by decide) ?_
            refine g_iand 75 76 F (v := nI (btN a k)) dX6_feeling_75 rfl (bt_and ha hi_k) ?_
            refine g_iconst 76 77 F (nI (1)) dX6_feeling_76 rfl (by decide) ?_
            refine g_diaN_ne 77 84 85 F dX6_feeling_77 (by decide) dX6_feeling_80 dX6_feeling_81 (by decide) dX6_feeling_84 rfl (by omega) (by omega) ?_
            refine g_dia_ne 85 92 93 F dX6_feeling_85 (by decide) dX6_feeling_88 dX6_feeling_89 (by decide) dX6_feeling_92 rfl ?_
            refine g_top (v := bI (cbB e (i / 4) ((i + k + 3) % 4) (decide (btN a k = 1)))) (by first | exact cb_0 (by assumption) | exact cb_n hat (by assumption)) ?_
            exact J_5

set_option maxHeartbeats 4000000 in
theorem m_X6_felt (l : Launch) (X : gk_X) (mo kg hg ca ba al : Nat) (th : Nat) (mi dn dr mt dp rf : Int32) (kr hs : Nat → Nat) (kd : Nat → Nat) (hr : Nat → Int32) (c s : Nat) (hkd : ∀ k, k < 60 → kd k < 3) (hc : c < 36) (hsd : s < 4) : CtP l X yX6_felt cX6_felt 5 (some .int) 5 0 0 [.ref mo, .int (nI (c)), .int (nI (s))] [[(mo, ob 7 [.int (nI (th)), .int (mi), .int (dn), .int (dr), .int (mt), .int (dp), .int (rf), .ref kg, .ref hg, .ref ca, .ref ba, .ref al])], [(kg, oA X 5 36 (fun j => some (kr j)))], poolW 36 (fun j => [(kr j, iA X 2 (fun z => nI (mpN kd j z)))]), [(hg, oA X 5 36 (fun j => some (hs j)))], poolW 36 (fun j => [(hs j, iA X 2 (fun z => hgI hr j z))])] (some (.int (nI (feN (swB kd hr mi) c s 3)))) := by
  unfold CtP
  refine Ct.of (by decide) (Nat.le_of_ble_eq_true rfl) "BumpwardModel" "felt" rfl rfl (fun K F eL R => ?_)
  subst eL
  show G K X 5 0 0 [[(mo, ob 7 [.int (nI (th)), .int (mi), .int (dn), .int (dr), .int (mt), .int (dp), .int (rf), .ref kg, .ref hg, .ref ca, .ref ba, .ref al])], [(kg, oA X 5 36 (fun j => some (kr j)))], poolW 36 (fun j => [(kr j, iA X 2 (fun z => nI (mpN kd j z)))]), [(hg, oA X 5 36 (fun j => some (hs j)))], poolW 36 (fun j => [(hs j, iA X 2 (fun z => hgI hr j z))])] [(0, .ref mo), (1, .int (nI (c))), (2, .int (nI (s)))] 0 []
  refine g_iconst 0 1 F (nI (0)) dX6_felt_0 rfl (by decide) ?_
  refine g_istore_n 1 2 F [(3, .int (nI (0))), (0, .ref mo), (1, .int (nI (c))), (2, .int (nI (s)))] dX6_felt_1 rfl rfl (Nat.le_of_ble_eq_true rfl) rfl ?_
  refine g_iconst 2 3 F (nI (0)) dX6_felt_2 rfl (by decide) ?_
  refine g_istore 3 5 F [(4, .int (nI (0))), (3, .int (nI (0))), (0, .ref mo), (1, .int (nI (c))), (2, .int (nI (s)))] dX6_felt_3 rfl (Nat.le_of_ble_eq_true rfl) rfl ?_
  refine g_ls [(0, .ref mo), (1, .int (nI (c))), (2, .int (nI (s))), (3, .int (nI (feN (swB kd hr mi) c s 0))), (4, .int (nI (0)))] [2, 3, 4, 1, 0] (rfl) ?_
  refine g_down (P := fun k => G K X 5 0 0 [[(mo, ob 7 [.int (nI (th)), .int (mi), .int (dn), .int (dr), .int (mt), .int (dp), .int (rf), .ref kg, .ref hg, .ref ca, .ref ba, .ref al])], [(kg, oA X 5 36 (fun j => some (kr j)))], poolW 36 (fun j => [(kr j, iA X 2 (fun z => nI (mpN kd j z)))]), [(hg, oA X 5 36 (fun j => some (hs j)))], poolW 36 (fun j => [(hs j, iA X 2 (fun z => hgI hr j z))])] [(0, .ref mo), (1, .int (nI (c))), (2, .int (nI (s))), (3, .int (nI (feN (swB kd hr mi) c s k))), (4, .int (nI (k)))] 5 []) 3 0 (by omega) ?_ (fun k hl_k hi_k ih_k => ?_)
  · show G K X 5 0 0 [[(mo, ob 7 [.int (nI (th)), .int (mi), .int (dn), .int (dr), .int (mt), .int (dp), .int (rf), .ref kg, .ref hg, .ref ca, .ref ba, .ref al])], [(kg, oA X 5 36 (fun j => some (kr j)))], poolW 36 (fun j => [(kr j, iA X 2 (fun z => nI (mpN kd j z)))]), [(hg, oA X 5 36 (fun j => some (hs j)))], poolW 36 (fun j => [(hs j, iA X 2 (fun z => hgI hr j z))])] [(0, .ref mo), (1, .int (nI (c))), (2, .int (nI (s))), (3, .int (nI (feN (swB kd hr mi) c s 3))), (4, .int (nI (3)))] 5 []
    refine g_iload 5 7 F dX6_felt_5 rfl 4 rfl ?_
    refine g_iconst 7 8 F (nI (3)) dX6_felt_7 rfl (by decide) ?_
    refine g_icmpN_ge 8 11 44 F dX6_felt_8 rfl (by decide) (by omega) (by omega) (fun c_1 => ?_) (fun c_1 => ?_)
    · refine g_iload_n 44 45 F dX6_felt_44 rfl rfl 3 rfl ?_
      exact g_iret 45 F R dX6_felt_45 (Nat.zero_le _) (Nat.zero_le _) (⟨rfl, rfl⟩)
    · exact absurd c_1 (by omega)
  · show G K X 5 0 0 [[(mo, ob 7 [.int (nI (th)), .int (mi), .int (dn), .int (dr), .int (mt), .int (dp), .int (rf), .ref kg, .ref hg, .ref ca, .ref ba, .ref al])], [(kg, oA X 5 36 (fun j => some (kr j)))], poolW 36 (fun j => [(kr j, iA X 2 (fun z => nI (mpN kd j z)))]), [(hg, oA X 5 36 (fun j => some (hs j)))], poolW 36 (fun j => [(hs j, iA X 2 (fun z => hgI hr j z))])] [(0, .ref mo), (1, .int (nI (c))), (2, .int (nI (s))), (3, .int (nI (feN (swB kd hr mi) c s k))), (4, .int (nI (k)))] 5 []
    refine g_iload 5 7 F dX6_felt_5 rfl 4 rfl ?_
    refine g_iconst 7 8 F (nI (3)) dX6_felt_7 rfl (by decide) ?_
    refine g_icmpN_ge 8 11 44 F dX6_felt_8 rfl (by decide) (by omega) (by omega) (fun c_2 => ?_) (fun c_2 => ?_)
    · exact absurd c_2 (by omega)
    · refine g_iload_n 11 12 F dX6_felt_11 rfl rfl 3 rfl ?_
      refine g_aload_n 12 13 F dX6_felt_12 rfl rfl 0 rfl ?_
      refine g_iload_n 13 14 F dX6_felt_13 rfl rfl 1 rfl ?_
      refine g_iload_n 14 15 F dX6_felt_14 rfl rfl 2 rfl ?_
      refine g_iconst 15 16 F (nI (3)) dX6_felt_15 rfl (by decide) ?_
      refine g_iadd 16 17 F (v := nI (s + 3)) dX6_felt_16 rfl (nI_add _ _) ?_
      refine g_iload 17 19 F dX6_felt_17 rfl 4 rfl ?_
      refine g_iadd 19 20 F (v := nI (s + 3 + k)) dX6_felt_19 rfl (nI_add _ _) ?_
      refine g_iconst 20 21 F (nI (4)) dX6_felt_20 rfl (by decide) ?_
      refine g_irem 21 22 F (v := nI ((s + 3 + k) % 4)) dX6_felt_21 rfl (by decide) (pk_rem (by omega) (by omega) (by omega)) ?_
      refine g_callP 3 25 F (CallOk.V (C := "BumpwardModel") (b := mo) (As := [.int (nI (c)), .int (nI ((s + 3 + k) % 4))]) (rest := [.int (nI (feN (swB kd hr mi) c s k))]) F 2 q1550 q1552 qs33 q58 q1553 cdV_X6_isWallNow rfl rfl (Nat.le_of_ble_eq_true rfl) (Nat.le_of_ble_eq_true rfl) dX6_felt_22) (m_X6_isWallNow (kL K) X mo kg hg ca ba al th mi dn dr mt dp rf kr hs kd hr c ((s + 3 + k) % 4) (by omega) (by omega) (by omega)) rfl (Mr := []) [0, 1, 2, 3, 4] [] rfl 5 rfl (by decide +kernel) rfl rfl (rc_of F 0 7 rfl rfl) (Nat.le_of_ble_eq_true rfl) (c2 := 0) (s2 := 0) (Nat.zero_le _) (Nat.zero_le _) rfl rfl (st1 := [.int (bI (swB kd hr mi c ((s + 3 + k) % 4))), .int (nI (feN (swB kd hr mi) c s k))]) rfl ?_
      have J_3 : G K X 5 0 0 [[(mo, ob 7 [.int (nI (th)), .int (mi), .int (dn), .int (dr), .int (mt), .int (dp), .int (rf), .ref kg, .ref hg, .ref ca, .ref ba, .ref al])], [(kg, oA X 5 36 (fun j => some (kr j)))], poolW 36 (fun j => [(kr j, iA X 2 (fun z => nI (mpN kd j z)))]), [(hg, oA X 5 36 (fun j => some (hs j)))], poolW 36 (fun j => [(hs j, iA X 2 (fun z => hgI hr j z))])] [(0, .ref mo), (1, .int (nI (c))), (2, .int (nI (s))), (3, .int (nI (feN (swB kd hr mi) c s k))), (4, .int (nI (k)))] 36 [.int (if swB kd hr mi c ((s + 3 + k) % 4) = true then nI 1 <<< (nI k &&& 31) else nI 0), .int (nI (feN (swB kd hr mi) c s k))] := by
        refine g_ior 36 37 F (v := nI (feN (swB kd hr mi) c s (k + 1))) dX6_felt_36 rfl (fe_or hi_k (feN_lt _ _ _ _) _) ?_
        refine g_istore_n 37 38 F [(3, .int (nI (feN (swB kd hr mi) c s (k + 1)))), (0, .ref mo), (1, .int (nI (c))), (2, .int (nI (s))), (4, .int (nI (k)))] dX6_felt_37 rfl rfl (Nat.le_of_ble_eq_true rfl) rfl ?_
        refine g_iinc 38 41 F (v := nI (k + 1)) [(4, .int (nI (k + 1))), (3, .int (nI (feN (swB kd hr mi) c s (k + 1)))), (0, .ref mo), (1, .int (nI (c))), (2, .int (nI (s)))] dX6_felt_38 rfl 4 rfl (nI_add _ _) (Nat.le_of_ble_eq_true rfl) rfl ?_
        refine g_goto 41 5 F dX6_felt_41 (by decide) ?_
        refine g_ls [(0, .ref mo), (1, .int (nI (c))), (2, .int (nI (s))), (3, .int (nI (feN (swB kd hr mi) c s (k + 1)))), (4, .int (nI (k + 1)))] [2, 3, 4, 1, 0] (rfl) ?_
        exact ih_k
      refine g_ifB_eq 25 28 35 F dX6_felt_25 rfl (by decide) (fun c_4 => ?_) (fun c_4 => ?_)
      · refine g_iconst 35 36 F (nI (0)) dX6_felt_35 rfl (by decide) ?_
        refine g_top (v := if swB kd hr mi c ((s + 3 + k) % 4) = true then nI 1 <<< (nI k &&& 31) else nI 0) (by first | exact ifb_t (by assumption) | exact ifb_f (by assumption)) ?_
        exact J_3
      · refine g_iconst 28 29 F (nI (1)) dX6_felt_28 rfl (by decide) ?_
        refine g_iload 29 31 F dX6_felt_29 rfl 4 rfl ?_
        refine g_ishl 31 32 F (v := (nI (1)) <<< ((nI (k)) &&& 31)) dX6_felt_31 rfl (rfl) ?_
        refine g_goto 32 36 F dX6_felt_32 (by decide) ?_
        refine g_top (v := if swB kd hr mi c ((s + 3 + k) % 4) = true then nI 1 <<< (nI k &&& 31) else nI 0) (by first | exact ifb_t (by assumption) | exact ifb_f (by assumption)) ?_
        exact J_3

set_option maxHeartbeats 4000000 in
theorem m_X6_whereNow (l : Launch) (X : gk_X) (mo : Nat) (w ma mg : Nat) (po ho : Nat) (ch lo ac bu sl : Int32) (f : Nat → Bool) (s : Nat) (hsd : s < 4) : CtP l X yX6_whereNow cX6_whereNow 6 (some .long) 1 0 0 [.ref mo, .ref w, .int (nI (s))] [[(w, ob 8 [.int (nI (po)), .int (nI (ho)), .int (ch), .ref ma, .ref mg, .int (lo), .int (ac), .int (bu), .int (sl)])], [(ma, zA X 144 (f))]] (some (.long (clN f s 36))) := by
  unfold CtP
  refine Ct.of (by decide) (Nat.le_of_ble_eq_true rfl) "BumpwardModel" "whereNow" rfl rfl (fun K F eL R => ?_)
  subst eL
  show G K X 6 0 0 [[(w, ob 8 [.int (nI (po)), .int (nI (ho)), .int (ch), .ref ma, .ref mg, .int (lo), .int (ac), .int (bu), .int (sl)])], [(ma, zA X 144 (f))]] [(0, .ref mo), (1, .ref w), (2, .int (nI (s)))] 0 []
  refine g_lconst 0 1 F 0 dX6_whereNow_0 rfl (by decide) ?_
  refine g_lstore_n 1 2 F [(3, .long (0)), (0, .ref mo), (1, .ref w), (2, .int (nI (s)))] dX6_whereNow_1 rfl rfl (Nat.le_of_ble_eq_true rfl) rfl ?_
  refine g_iconst 2 3 F (nI (0)) dX6_whereNow_2 rfl (by decide) ?_
  refine g_istore 3 5 F [(5, .int (nI (0))), (3, .long (0)), (0, .ref mo), (1, .ref w), (2, .int (nI (s)))] dX6_whereNow_3 rfl (Nat.le_of_ble_eq_true rfl) rfl ?_
  refine g_ls [(0, .ref mo), (1, .ref w), (2, .int (nI (s))), (3, .long (clN f s 0)), (5, .int (nI (0)))] [2, 3, 4, 1, 0] (rfl) ?_
  refine g_down (P := fun i => G K X 6 0 0 [[(w, ob 8 [.int (nI (po)), .int (nI (ho)), .int (ch), .ref ma, .ref mg, .int (lo), .int (ac), .int (bu), .int (sl)])], [(ma, zA X 144 (f))]] [(0, .ref mo), (1, .ref w), (2, .int (nI (s))), (3, .long (clN f s i)), (5, .int (nI (i)))] 5 []) 36 0 (by omega) ?_ (fun i hl_i hi_i ih_i => ?_)
  · show G K X 6 0 0 [[(w, ob 8 [.int (nI (po)), .int (nI (ho)), .int (ch), .ref ma, .ref mg, .int (lo), .int (ac), .int (bu), .int (sl)])], [(ma, zA X 144 (f))]] [(0, .ref mo), (1, .ref w), (2, .int (nI (s))), (3, .long (clN f s 36)), (5, .int (nI (36)))] 5 []
    refine g_iload 5 7 F dX6_whereNow_5 rfl 4 rfl ?_
    refine g_bipush 7 9 F (nI (36)) dX6_whereNow_7 rfl (by decide) ?_
    refine g_icmpN_ge 9 12 43 F dX6_whereNow_9 rfl (by decide) (by omega) (by omega) (fun c_1 => ?_) (fun c_1 => ?_)
    · refine g_lload_n 43 44 F dX6_whereNow_43 rfl rfl 3 rfl ?_
      exact g_lret 44 F R dX6_whereNow_44 (Nat.zero_le _) (Nat.zero_le _) (⟨rfl, rfl⟩)
    · exact absurd c_1 (by omega)
  · show G K X 6 0 0 [[(w, ob 8 [.int (nI (po)), .int (nI (ho)), .int (ch), .ref ma, .ref mg, .int (lo), .int (ac), .int (bu), .int (sl)])], [(ma, zA X 144 (f))]] [(0, .ref mo), (1, .ref w), (2, .int (nI (s))), (3, .long (clN f s i)), (5, .int (nI (i)))] 5 []
    refine g_iload 5 7 F dX6_whereNow_5 rfl 4 rfl ?_
    refine g_bipush 7 9 F (nI (36)) dX6_whereNow_7 rfl (by decide) ?_
    refine g_icmpN_ge 9 12 43 F dX6_whereNow_9 rfl (by decide) (by omega) (by omega) (fun c_2 => ?_) (fun c_2 => ?_)
    · exact absurd c_2 (by omega)
    · refine g_lload_n 12 13 F dX6_whereNow_12 rfl rfl 3 rfl ?_
      refine g_aload_n 13 14 F dX6_whereNow_13 rfl rfl 1 rfl ?_
      refine g_get 14 17 F (ci := 8) in_X11 rfl 3 (by decide) q1476 (fun _ h => h) dX6_whereNow_14 rfl 0 rfl (v := .ref ma) rfl ?_
      refine g_iconst 17 18 F (nI (4)) dX6_whereNow_17 rfl (by decide) ?_
      refine g_iload 18 20 F dX6_whereNow_18 rfl 4 rfl ?_
      refine g_imul 20 21 F (v := nI (4 * i)) dX6_whereNow_20 rfl (pk_mul _ _) ?_
      refine g_iload_n 21 22 F dX6_whereNow_21 rfl rfl 2 rfl ?_
      refine g_iadd 22 23 F (v := nI (4 * i + s)) dX6_whereNow_22 rfl (nI_add _ _) ?_
      refine g_zald 23 24 F dX6_whereNow_23 rfl 1 (i := 4 * i + s) rfl (Nat.le_of_ble_eq_true rfl) (by omega) ?_
      have J_3 : G K X 6 0 0 [[(w, ob 8 [.int (nI (po)), .int (nI (ho)), .int (ch), .ref ma, .ref mg, .int (lo), .int (ac), .int (bu), .int (sl)])], [(ma, zA X 144 (f))]] [(0, .ref mo), (1, .ref w), (2, .int (nI (s))), (3, .long (clN f s i)), (5, .int (nI (i)))] 35 [.long (if f (4 * i + s) = true then 1 <<< ((nI i).toInt64 &&& 63) else 0), .long (clN f s i)] := by
        refine g_lor 35 36 F (v := clN f s (i + 1)) dX6_whereNow_35 rfl (cl_or) ?_
        refine g_lstore_n 36 37 F [(3, .long (clN f s (i + 1))), (0, .ref mo), (1, .ref w), (2, .int (nI (s))), (5, .int (nI (i)))] dX6_whereNow_36 rfl rfl (Nat.le_of_ble_eq_true rfl) rfl ?_
        refine g_iinc 37 40 F (v := nI (i + 1)) [(5, .int (nI (i + 1))), (3, .long (clN f s (i + 1))), (0, .ref mo), (1, .ref w), (2, .int (nI (s)))] dX6_whereNow_37 rfl 4 rfl (nI_add _ _) (Nat.le_of_ble_eq_true rfl) rfl ?_
        refine g_goto 40 5 F dX6_whereNow_40 (by decide) ?_
        refine g_ls [(0, .ref mo), (1, .ref w), (2, .int (nI (s))), (3, .long (clN f s (i + 1))), (5, .int (nI (i + 1)))] [2, 3, 4, 1, 0] (rfl) ?_
        exact ih_i
      refine g_ifB_eq 24 27 34 F dX6_whereNow_24 rfl (by decide) (fun c_4 => ?_) (fun c_4 => ?_)
      · refine g_lconst 34 35 F 0 dX6_whereNow_34 rfl (by decide) ?_
        refine g_topL (v := if f (4 * i + s) = true then 1 <<< ((nI i).toInt64 &&& 63) else 0) (by first | exact ifb_t (by assumption) | exact ifb_f (by assumption)) ?_
        exact J_3
      · refine g_lconst 27 28 F 1 dX6_whereNow_27 rfl (by decide) ?_
        refine g_iload 28 30 F dX6_whereNow_28 rfl 4 rfl ?_
        refine g_lshl 30 31 F (v := 1 <<< ((nI (i)).toInt64 &&& 63)) dX6_whereNow_30 rfl (rfl) ?_
        refine g_goto 31 35 F dX6_whereNow_31 (by decide) ?_
        refine g_topL (v := if f (4 * i + s) = true then 1 <<< ((nI i).toInt64 &&& 63) else 0) (by first | exact ifb_t (by assumption) | exact ifb_f (by assumption)) ?_
        exact J_3

set_option maxHeartbeats 4000000 in
theorem m_X6_goalOf (l : Launch) (X : gk_X) (mo kg hg ca ba al : Nat) (th : Nat) (mi dn dr mt dp rf : Int32) (w ma mg : Nat) (mr : Nat → Nat) (po ho : Nat) (ch lo ac bu sl : Int32) (f : Nat → Bool) (e : Nat → Nat)  (he : ∀ k, k < 60 → e k < 3) (hho : ho < 36) : CtP l X yX6_goalOf cX6_goalOf 7 (some .int) 6 1 36 [.ref mo, .ref w] [[(mo, ob 7 [.int (nI (th)), .int (mi), .int (dn), .int (dr), .int (mt), .int (dp), .int (rf), .ref kg, .ref hg, .ref ca, .ref ba, .ref al])], [(w, ob 8 [.int (nI (po)), .int (nI (ho)), .int (ch), .ref ma, .ref mg, .int (lo), .int (ac), .int (bu), .int (sl)])], [(ma, zA X 144 (f))], [(mg, oA X 5 36 (fun j => some (mr j)))], poolW 36 (fun j => [(mr j, iA X 2 (fun z => nI (mpN e j z)))])] (some (.int (goI e f))) := by
  unfold CtP
  refine Ct.of (by decide) (Nat.le_of_ble_eq_true rfl) "BumpwardModel" "goalOf" rfl rfl (fun K F eL R => ?_)
  subst eL
  show G K X 7 0 0 [[(mo, ob 7 [.int (nI (th)), .int (mi), .int (dn), .int (dr), .int (mt), .int (dp), .int (rf), .ref kg, .ref hg, .ref ca, .ref ba, .ref al])], [(w, ob 8 [.int (nI (po)), .int (nI (ho)), .int (ch), .ref ma, .ref mg, .int (lo), .int (ac), .int (bu), .int (sl)])], [(ma, zA X 144 (f))], [(mg, oA X 5 36 (fun j => some (mr j)))], poolW 36 (fun j => [(mr j, iA X 2 (fun z => nI (mpN e j z)))])] [(0, .ref mo), (1, .ref w)] 0 []
  have hfl := first_le f
  refine g_aload_n 0 1 F dX6_goalOf_0 rfl rfl 1 rfl ?_
  refine g_callP 3 4 F (CallOk.V (C := "BumpwardModel$Walker") (b := w) (As := []) (rest := []) F 0 q1515 q1516 q1517 q77 q1518 cdV_X11_sure rfl rfl (Nat.le_of_ble_eq_true rfl) (Nat.le_of_ble_eq_true rfl) dX6_goalOf_1) (m_X11_sure (kL K) X w ma mg po ho ch lo ac bu sl f ) rfl (Mr := [[(mo, ob 7 [.int (nI (th)), .int (mi), .int (dn), .int (dr), .int (mt), .int (dp), .int (rf), .ref kg, .ref hg, .ref ca, .ref ba, .ref al])], [(mg, oA X 5 36 (fun j => some (mr j)))], poolW 36 (fun j => [(mr j, iA X 2 (fun z => nI (mpN e j z)))])]) [1, 2] [0, 3, 4] rfl 5 rfl (by decide +kernel) rfl rfl (rc_of F 1 8 rfl rfl) (Nat.le_of_ble_eq_true rfl) (c2 := 0) (s2 := 0) (Nat.zero_le _) (Nat.zero_le _) rfl rfl (st1 := [.int (suI f)]) rfl ?_
  refine g_iconst 4 5 F (-1) dX6_goalOf_4 rfl (by decide) ?_
  refine g_icmp_ne 5 8 11 F dX6_goalOf_5 rfl (by decide) (fun c_1 => ?_) (fun c_1 => ?_)
  · have hS := su_yes c_1
    refine g_aload_n 11 12 F dX6_goalOf_11 rfl rfl 0 rfl ?_
    refine g_aload_n 12 13 F dX6_goalOf_12 rfl rfl 1 rfl ?_
    refine g_aload_n 13 14 F dX6_goalOf_13 rfl rfl 1 rfl ?_
    refine g_callP 3 17 F (CallOk.V (C := "BumpwardModel$Walker") (b := w) (As := []) (rest := [.ref w, .ref mo]) F 0 q1515 q1516 q1517 q77 q1518 cdV_X11_sure rfl rfl (Nat.le_of_ble_eq_true rfl) (Nat.le_of_ble_eq_true rfl) dX6_goalOf_14) (m_X11_sure (kL K) X w ma mg po ho ch lo ac bu sl f ) rfl (Mr := [[(mo, ob 7 [.int (nI (th)), .int (mi), .int (dn), .int (dr), .int (mt), .int (dp), .int (rf), .ref kg, .ref hg, .ref ca, .ref ba, .ref al])], [(mg, oA X 5 36 (fun j => some (mr j)))], poolW 36 (fun j => [(mr j, iA X 2 (fun z => nI (mpN e j z)))])]) [1, 2] [0, 3, 4] rfl 5 rfl (by decide +kernel) rfl rfl (rc_of F 1 8 rfl rfl) (Nat.le_of_ble_eq_true rfl) (c2 := 0) (s2 := 0) (Nat.zero_le _) (Nat.zero_le _) rfl rfl (st1 := [.int (suI f), .ref w, .ref mo]) rfl ?_
    refine g_top (v := nI (first f)) (su_nI hS) ?_
    refine g_iconst 17 18 F (nI (4)) dX6_goalOf_17 rfl (by decide) ?_
    refine g_idiv 18 19 F (v := nI ((first f) / 4)) dX6_goalOf_18 rfl (by decide) (pk_div (by omega) (by omega) (by omega)) ?_
    refine g_call 3 22 F (CallOk.V (C := "BumpwardModel") (b := mo) (As := [.ref w, .int (nI ((first f) / 4))]) (rest := []) F 2 q1539 q1541 qs32 q58 q1542 cdV_X6_fars rfl rfl (Nat.le_of_ble_eq_true rfl) (Nat.le_of_ble_eq_true rfl) dX6_goalOf_19) (m_X6_fars (kL K) X mo w ma mg mr po ho ch lo ac bu sl e ((first f) / 4) (by omega) (by omega)) rfl (Mr := [[(mo, ob 7 [.int (nI (th)), .int (mi), .int (dn), .int (dr), .int (mt), .int (dp), .int (rf), .ref kg, .ref hg, .ref ca, .ref ba, .ref al])], [(ma, zA X 144 (f))]]) [1, 3, 4] [0, 2] rfl rfl rfl (rc_of F 0 7 rfl rfl) (Nat.le_of_ble_eq_true rfl) (c2 := 1) (s2 := 36) (Nat.le_refl _) (Nat.le_refl _) rfl rfl (fun v M1 hp => ?_)
    obtain ⟨q_2, rfl, rfl⟩ := hp
    show G K X 7 1 36 [[(mo, ob 7 [.int (nI (th)), .int (mi), .int (dn), .int (dr), .int (mt), .int (dp), .int (rf), .ref kg, .ref hg, .ref ca, .ref ba, .ref al])], [(ma, zA X 144 (f))], [(w, ob 8 [.int (nI (po)), .int (nI (ho)), .int (ch), .ref ma, .ref mg, .int (lo), .int (ac), .int (bu), .int (sl)])], [(mg, oA X 5 36 (fun j => some (mr j)))], poolW 36 (fun j => [(mr j, iA X 2 (fun z => nI (mpN e j z)))]), [(q_2, iA X 36 (wyF e ((first f) / 4)))]] [(0, .ref mo), (1, .ref w)] 22 [.ref q_2]
    refine g_astore_n 22 23 F [(2, .ref q_2), (0, .ref mo), (1, .ref w)] dX6_goalOf_22 rfl rfl (Nat.le_of_ble_eq_true rfl) rfl ?_
    refine g_iconst 23 24 F (-1) dX6_goalOf_23 rfl (by decide) ?_
    refine g_istore_n 24 25 F [(3, .int (-1)), (2, .ref q_2), (0, .ref mo), (1, .ref w)] dX6_goalOf_24 rfl rfl (Nat.le_of_ble_eq_true rfl) rfl ?_
    refine g_iconst 25 26 F (nI (0)) dX6_goalOf_25 rfl (by decide) ?_
    refine g_istore 26 28 F [(4, .int (nI (0))), (3, .int (-1)), (2, .ref q_2), (0, .ref mo), (1, .ref w)] dX6_goalOf_26 rfl (Nat.le_of_ble_eq_true rfl) rfl ?_
    refine g_ls [(0, .ref mo), (1, .ref w), (2, .ref q_2), (3, .int (gI (glN (wyF e (first f / 4)) e 0))), (4, .int (nI (0)))] [3, 4, 2, 1, 0] (rfl) ?_
    refine g_down (P := fun k => G K X 7 1 36 [[(mo, ob 7 [.int (nI (th)), .int (mi), .int (dn), .int (dr), .int (mt), .int (dp), .int (rf), .ref kg, .ref hg, .ref ca, .ref ba, .ref al])], [(ma, zA X 144 (f))], [(w, ob 8 [.int (nI (po)), .int (nI (ho)), .int (ch), .ref ma, .ref mg, .int (lo), .int (ac), .int (bu), .int (sl)])], [(mg, oA X 5 36 (fun j => some (mr j)))], poolW 36 (fun j => [(mr j, iA X 2 (fun z => nI (mpN e j z)))]), [(q_2, iA X 36 (wyF e ((first f) / 4)))]] [(0, .ref mo), (1, .ref w), (2, .ref q_2), (3, .int (gI (glN (wyF e (first f / 4)) e k))), (4, .int (nI (k)))] 28 []) 36 0 (by omega) ?_ (fun k hl_k hi_k ih_k => ?_)
    · show G K X 7 1 36 [[(mo, ob 7 [.int (nI (th)), .int (mi), .int (dn), .int (dr), .int (mt), .int (dp), .int (rf), .ref kg, .ref hg, .ref ca, .ref ba, .ref al])], [(ma, zA X 144 (f))], [(w, ob 8 [.int (nI (po)), .int (nI (ho)), .int (ch), .ref ma, .ref mg, .int (lo), .int (ac), .int (bu), .int (sl)])], [(mg, oA X 5 36 (fun j => some (mr j)))], poolW 36 (fun j => [(mr j, iA X 2 (fun z => nI (mpN e j z)))]), [(q_2, iA X 36 (wyF e ((first f) / 4)))]] [(0, .ref mo), (1, .ref w), (2, .ref q_2), (3, .int (gI (glN (wyF e (first f / 4)) e 36))), (4, .int (nI (36)))] 28 []
      refine g_iload 28 30 F dX6_goalOf_28 rfl 4 rfl ?_
      refine g_bipush 30 32 F (nI (36)) dX6_goalOf_30 rfl (by decide) ?_
      refine g_icmpN_ge 32 35 111 F dX6_goalOf_32 rfl (by decide) (by omega) (by omega) (fun c_3 => ?_) (fun c_3 => ?_)
      · refine g_iload_n 111 112 F dX6_goalOf_111 rfl rfl 3 rfl ?_
        refine g_sel [[(mo, ob 7 [.int (nI (th)), .int (mi), .int (dn), .int (dr), .int (mt), .int (dp), .int (rf), .ref kg, .ref hg, .ref ca, .ref ba, .ref al])], [(w, ob 8 [.int (nI (po)), .int (nI (ho)), .int (ch), .ref ma, .ref mg, .int (lo), .int (ac), .int (bu), .int (sl)])], [(ma, zA X 144 (f))], [(mg, oA X 5 36 (fun j => some (mr j)))], poolW 36 (fun j => [(mr j, iA X 2 (fun z => nI (mpN e j z)))])] [0, 2, 1, 3, 4] rfl rfl ?_
        exact g_iret 112 F R dX6_goalOf_112 (Nat.le_refl _) (Nat.le_refl _) (⟨congrArg (fun z => some (Value.int z)) (by first | rw [goI, if_neg hN] | rw [goI, if_pos hS]), rfl⟩)
      · exact absurd c_3 (by omega)
    · show G K X 7 1 36 [[(mo, ob 7 [.int (nI (th)), .int (mi), .int (dn), .int (dr), .int (mt), .int (dp), .int (rf), .ref kg, .ref hg, .ref ca, .ref ba, .ref al])], [(ma, zA X 144 (f))], [(w, ob 8 [.int (nI (po)), .int (nI (ho)), .int (ch), .ref ma, .ref mg, .int (lo), .int (ac), .int (bu), .int (sl)])], [(mg, oA X 5 36 (fun j => some (mr j)))], poolW 36 (fun j => [(mr j, iA X 2 (fun z => nI (mpN e j z)))]), [(q_2, iA X 36 (wyF e ((first f) / 4)))]] [(0, .ref mo), (1, .ref w), (2, .ref q_2), (3, .int (gI (glN (wyF e (first f / 4)) e k))), (4, .int (nI (k)))] 28 []
      have hgl := glN_lt (wyF e (first f / 4)) e k (by omega)
      refine g_iload 28 30 F dX6_goalOf_28 rfl 4 rfl ?_
      refine g_bipush 30 32 F (nI (36)) dX6_goalOf_30 rfl (by decide) ?_
      refine g_icmpN_ge 32 35 111 F dX6_goalOf_32 rfl (by decide) (by omega) (by omega) (fun c_4 => ?_) (fun c_4 => ?_)
      · exact absurd c_4 (by omega)
      · refine g_iconst 35 36 F (nI (0)) dX6_goalOf_35 rfl (by decide) ?_
        refine g_istore 36 38 F [(5, .int (nI (0))), (0, .ref mo), (1, .ref w), (2, .ref q_2), (3, .int (gI (glN (wyF e (first f / 4)) e k))), (4, .int (nI (k)))] dX6_goalOf_36 rfl (Nat.le_of_ble_eq_true rfl) rfl ?_
        refine g_iconst 38 39 F (nI (0)) dX6_goalOf_38 rfl (by decide) ?_
        refine g_istore 39 41 F [(6, .int (nI (0))), (5, .int (nI (0))), (0, .ref mo), (1, .ref w), (2, .ref q_2), (3, .int (gI (glN (wyF e (first f / 4)) e k))), (4, .int (nI (k)))] dX6_goalOf_39 rfl (Nat.le_of_ble_eq_true rfl) rfl ?_
        refine g_ls [(0, .ref mo), (1, .ref w), (2, .ref q_2), (3, .int (gI (glN (wyF e (first f / 4)) e k))), (4, .int (nI (k))), (5, .int (bI (oeN e k 0))), (6, .int (nI (0)))] [2, 3, 4, 5, 6, 1, 0] (rfl) ?_
        refine g_down (P := fun s => G K X 7 1 36 [[(mo, ob 7 [.int (nI (th)), .int (mi), .int (dn), .int (dr), .int (mt), .int (dp), .int (rf), .ref kg, .ref hg, .ref ca, .ref ba, .ref al])], [(ma, zA X 144 (f))], [(w, ob 8 [.int (nI (po)), .int (nI (ho)), .int (ch), .ref ma, .ref mg, .int (lo), .int (ac), .int (bu), .int (sl)])], [(mg, oA X 5 36 (fun j => some (mr j)))], poolW 36 (fun j => [(mr j, iA X 2 (fun z => nI (mpN e j z)))]), [(q_2, iA X 36 (wyF e ((first f) / 4)))]] [(0, .ref mo), (1, .ref w), (2, .ref q_2), (3, .int (gI (glN (wyF e (first f / 4)) e k))), (4, .int (nI (k))), (5, .int (bI (oeN e k s))), (6, .int (nI (s)))] 41 []) 4 0 (by omega) ?_ (fun s hl_s hi_s ih_s => ?_)
        · show G K X 7 1 36 [[(mo, ob 7 [.int (nI (th)), .int (mi), .int (dn), .int (dr), .int (mt), .int (dp), .int (rf), .ref kg, .ref hg, .ref ca, .ref ba, .ref al])], [(ma, zA X 144 (f))], [(w, ob 8 [.int (nI (po)), .int (nI (ho)), .int (ch), .ref ma, .ref mg, .int (lo), .int (ac), .int (bu), .int (sl)])], [(mg, oA X 5 36 (fun j => some (mr j)))], poolW 36 (fun j => [(mr j, iA X 2 (fun z => nI (mpN e j z)))]), [(q_2, iA X 36 (wyF e ((first f) / 4)))]] [(0, .ref mo), (1, .ref w), (2, .ref q_2), (3, .int (gI (glN (wyF e (first f / 4)) e k))), (4, .int (nI (k))), (5, .int (bI (oeN e k 4))), (6, .int (nI (4)))] 41 []
          refine g_iload 41 43 F dX6_goalOf_41 rfl 6 rfl ?_
          refine g_iconst 43 44 F (nI (4)) dX6_goalOf_43 rfl (by decide) ?_
          refine g_icmpN_ge 44 47 74 F dX6_goalOf_44 rfl (by decide) (by omega) (by omega) (fun c_5 => ?_) (fun c_5 => ?_)
          · refine g_iload 74 76 F dX6_goalOf_74 rfl 5 rfl ?_
            refine g_ifB_eq 76 79 105 F dX6_goalOf_76 rfl (by decide) (fun c_6 => ?_) (fun c_6 => ?_)
            · have hcond : ¬ glC (wyF e (first f / 4)) e k := fun h => by rw [glC, c_6] at h; exact absurd h.2.1 (by decide)
              refine g_iinc 105 108 F (v := nI (k + 1)) [(4, .int (nI (k + 1))), (0, .ref mo), (1, .ref w), (2, .ref q_2), (3, .int (gI (glN (wyF e (first f / 4)) e k))), (5, .int (bI (oeN e k 4))), (6, .int (nI (4)))] dX6_goalOf_105 rfl 4 rfl (nI_add _ _) (Nat.le_of_ble_eq_true rfl) rfl ?_
              refine g_goto 108 28 F dX6_goalOf_108 (by decide) ?_
              refine g_ls [(0, .ref mo), (1, .ref w), (2, .ref q_2), (3, .int (gI (glN (wyF e (first f / 4)) e (k + 1)))), (4, .int (nI (k + 1)))] [1, 2, 3, 4, 0] (by first | (rw [gl_take hi_k hcond]; rfl) | (rw [gl_keep hcond]; rfl)) ?_
              exact ih_k
            · have hO := c_6
              refine g_aload_n 79 80 F dX6_goalOf_79 rfl rfl 2 rfl ?_
              refine g_iload 80 82 F dX6_goalOf_80 rfl 4 rfl ?_
              refine g_iald 82 83 F dX6_goalOf_82 rfl 5 (i := k) rfl (Nat.le_of_ble_eq_true rfl) (by omega) ?_
              refine g_iconst 83 84 F (-1) dX6_goalOf_83 rfl (by decide) ?_
              refine g_icmp_eq 84 87 105 F dX6_goalOf_84 rfl (by decide) (fun c_7 => ?_) (fun c_7 => ?_)
              · have hcond : ¬ glC (wyF e (first f / 4)) e k := fun h => h.1 c_7
                refine g_iinc 105 108 F (v := nI (k + 1)) [(4, .int (nI (k + 1))), (0, .ref mo), (1, .ref w), (2, .ref q_2), (3, .int (gI (glN (wyF e (first f / 4)) e k))), (5, .int (bI (oeN e k 4))), (6, .int (nI (4)))] dX6_goalOf_105 rfl 4 rfl (nI_add _ _) (Nat.le_of_ble_eq_true rfl) rfl ?_
                refine g_goto 108 28 F dX6_goalOf_108 (by decide) ?_
                refine g_ls [(0, .ref mo), (1, .ref w), (2, .ref q_2), (3, .int (gI (glN (wyF e (first f / 4)) e (k + 1)))), (4, .int (nI (k + 1)))] [1, 2, 3, 4, 0] (by first | (rw [gl_take hi_k hcond]; rfl) | (rw [gl_keep hcond]; rfl)) ?_
                exact ih_k
              · have hA := c_7
                refine g_iload_n 87 88 F dX6_goalOf_87 rfl rfl 3 rfl ?_
                refine g_iconst 88 89 F (-1) dX6_goalOf_88 rfl (by decide) ?_
                refine g_icmp_eq 89 92 102 F dX6_goalOf_89 rfl (by decide) (fun c_8 => ?_) (fun c_8 => ?_)
                · have hcond : glC (wyF e (first f / 4)) e k := ⟨hA, hO, Or.inl ((gI_no (by omega)).mp c_8)⟩
                  refine g_iload 102 104 F dX6_goalOf_102 rfl 4 rfl ?_
                  refine g_istore_n 104 105 F [(3, .int (nI (k))), (0, .ref mo), (1, .ref w), (2, .ref q_2), (4, .int (nI (k))), (5, .int (bI (oeN e k 4))), (6, .int (nI (4)))] dX6_goalOf_104 rfl rfl (Nat.le_of_ble_eq_true rfl) rfl ?_
                  refine g_iinc 105 108 F (v := nI (k + 1)) [(4, .int (nI (k + 1))), (3, .int (nI (k))), (0, .ref mo), (1, .ref w), (2, .ref q_2), (5, .int (bI (oeN e k 4))), (6, .int (nI (4)))] dX6_goalOf_105 rfl 4 rfl (nI_add _ _) (Nat.le_of_ble_eq_true rfl) rfl ?_
                  refine g_goto 108 28 F dX6_goalOf_108 (by decide) ?_
                  refine g_ls [(0, .ref mo), (1, .ref w), (2, .ref q_2), (3, .int (gI (glN (wyF e (first f / 4)) e (k + 1)))), (4, .int (nI (k + 1)))] [2, 3, 4, 1, 0] (by first | (rw [gl_take hi_k hcond]; rfl) | (rw [gl_keep hcond]; rfl)) ?_
                  exact ih_k
                · have hB : ¬ glN (wyF e (first f / 4)) e k = 36 := fun q => c_8 (by rw [q]; rfl)
                  refine g_aload_n 92 93 F dX6_goalOf_92 rfl rfl 2 rfl ?_
                  refine g_iload 93 95 F dX6_goalOf_93 rfl 4 rfl ?_
                  refine g_iald 95 96 F dX6_goalOf_95 rfl 5 (i := k) rfl (Nat.le_of_ble_eq_true rfl) (by omega) ?_
                  refine g_aload_n 96 97 F dX6_goalOf_96 rfl rfl 2 rfl ?_
                  refine g_iload_n 97 98 F dX6_goalOf_97 rfl rfl 3 rfl ?_
                  refine g_top (v := nI (glN (wyF e (first f / 4)) e k)) (gI_nI hB) ?_
                  refine g_iald 98 99 F dX6_goalOf_98 rfl 5 (i := glN (wyF e (first f / 4)) e k) rfl (Nat.le_of_ble_eq_true rfl) (by omega) ?_
                  refine g_icmp_ge 99 102 105 F dX6_goalOf_99 rfl (by decide) (fun c_9 => ?_) (fun c_9 => ?_)
                  · have hcond : ¬ glC (wyF e (first f / 4)) e k := fun h => h.2.2.elim (fun q => hB q) (fun q => absurd q (Int32.not_lt.mpr c_9))
                    refine g_iinc 105 108 F (v := nI (k + 1)) [(4, .int (nI (k + 1))), (0, .ref mo), (1, .ref w), (2, .ref q_2), (3, .int (gI (glN (wyF e (first f / 4)) e k))), (5, .int (bI (oeN e k 4))), (6, .int (nI (4)))] dX6_goalOf_105 rfl 4 rfl (nI_add _ _) (Nat.le_of_ble_eq_true rfl) rfl ?_
                    refine g_goto 108 28 F dX6_goalOf_108 (by decide) ?_
                    refine g_ls [(0, .ref mo), (1, .ref w), (2, .ref q_2), (3, .int (gI (glN (wyF e (first f / 4)) e (k + 1)))), (4, .int (nI (k + 1)))] [1, 2, 3, 4, 0] (by first | (rw [gl_take hi_k hcond]; rfl) | (rw [gl_keep hcond]; rfl)) ?_
                    exact ih_k
                  · have hcond : glC (wyF e (first f / 4)) e k := ⟨hA, hO, Or.inr (Int32.not_le.mp c_9)⟩
                    refine g_iload 102 104 F dX6_goalOf_102 rfl 4 rfl ?_
                    refine g_istore_n 104 105 F [(3, .int (nI (k))), (0, .ref mo), (1, .ref w), (2, .ref q_2), (4, .int (nI (k))), (5, .int (bI (oeN e k 4))), (6, .int (nI (4)))] dX6_goalOf_104 rfl rfl (Nat.le_of_ble_eq_true rfl) rfl ?_
                    refine g_iinc 105 108 F (v := nI (k + 1)) [(4, .int (nI (k + 1))), (3, .int (nI (k))), (0, .ref mo), (1, .ref w), (2, .ref q_2), (5, .int (bI (oeN e k 4))), (6, .int (nI (4)))] dX6_goalOf_105 rfl 4 rfl (nI_add _ _) (Nat.le_of_ble_eq_true rfl) rfl ?_
                    refine g_goto 108 28 F dX6_goalOf_108 (by decide) ?_
                    refine g_ls [(0, .ref mo), (1, .ref w), (2, .ref q_2), (3, .int (gI (glN (wyF e (first f / 4)) e (k + 1)))), (4, .int (nI (k + 1)))] [2, 3, 4, 1, 0] (by first | (rw [gl_take hi_k hcond]; rfl) | (rw [gl_keep hcond]; rfl)) ?_
                    exact ih_k
          · exact absurd c_5 (by omega)
        · show G K X 7 1 36 [[(mo, ob 7 [.int (nI (th)), .int (mi), .int (dn), .int (dr), .int (mt), .int (dp), .int (rf), .ref kg, .ref hg, .ref ca, .ref ba, .ref al])], [(ma, zA X 144 (f))], [(w, ob 8 [.int (nI (po)), .int (nI (ho)), .int (ch), .ref ma, .ref mg, .int (lo), .int (ac), .int (bu), .int (sl)])], [(mg, oA X 5 36 (fun j => some (mr j)))], poolW 36 (fun j => [(mr j, iA X 2 (fun z => nI (mpN e j z)))]), [(q_2, iA X 36 (wyF e ((first f) / 4)))]] [(0, .ref mo), (1, .ref w), (2, .ref q_2), (3, .int (gI (glN (wyF e (first f / 4)) e k))), (4, .int (nI (k))), (5, .int (bI (oeN e k s))), (6, .int (nI (s)))] 41 []
          have hat := atN_lt he hi_k hi_s
          refine g_iload 41 43 F dX6_goalOf_41 rfl 6 rfl ?_
          refine g_iconst 43 44 F (nI (4)) dX6_goalOf_43 rfl (by decide) ?_
          refine g_icmpN_ge 44 47 74 F dX6_goalOf_44 rfl (by decide) (by omega) (by omega) (fun c_10 => ?_) (fun c_10 => ?_)
          · exact absurd c_10 (by omega)
          · refine g_iload 47 49 F dX6_goalOf_47 rfl 5 rfl ?_
            refine g_aload_n 49 50 F dX6_goalOf_49 rfl rfl 1 rfl ?_
            refine g_iload 50 52 F dX6_goalOf_50 rfl 4 rfl ?_
            refine g_iload 52 54 F dX6_goalOf_52 rfl 6 rfl ?_
            refine g_callP 3 57 F (CallOk.S (As := [.ref w, .int (nI (k)), .int (nI (s))]) (rest := [.int (bI (oeN e k s))]) F 3 q1543 q1544 q58 q1545 cd_X6_known rfl rfl (Nat.le_of_ble_eq_true rfl) (Nat.le_of_ble_eq_true rfl) dX6_goalOf_54) (m_X6_known (kL K) X w ma mg mr po ho ch lo ac bu sl e k s (by omega) (by omega)) rfl (Mr := [[(mo, ob 7 [.int (nI (th)), .int (mi), .int (dn), .int (dr), .int (mt), .int (dp), .int (rf), .ref kg, .ref hg, .ref ca, .ref ba, .ref al])], [(ma, zA X 144 (f))], [(q_2, iA X 36 (wyF e ((first f) / 4)))]]) [2, 3, 4] [0, 1, 5] rfl 6 rfl (by decide +kernel) rfl rfl (rc_T) (Nat.le_of_ble_eq_true rfl) (c2 := 1) (s2 := 36) (Nat.le_refl _) (Nat.le_refl _) rfl rfl (st1 := [.int (nI (atN e k s)), .int (bI (oeN e k s))]) rfl ?_
            refine g_diaZN_ne 57 64 65 F dX6_goalOf_57 (by decide) dX6_goalOf_60 dX6_goalOf_61 (by decide) dX6_goalOf_64 rfl (by omega) ?_
            refine g_ior 65 66 F (v := bI ((oeN e k s) || (decide ((atN e k s) = 0)))) dX6_goalOf_65 rfl (bI_or _ _) ?_
            refine g_istore 66 68 F [(5, .int (bI ((oeN e k s) || (decide ((atN e k s) = 0))))), (0, .ref mo), (1, .ref w), (2, .ref q_2), (3, .int (gI (glN (wyF e (first f / 4)) e k))), (4, .int (nI (k))), (6, .int (nI (s)))] dX6_goalOf_66 rfl (Nat.le_of_ble_eq_true rfl) rfl ?_
            refine g_iinc 68 71 F (v := nI (s + 1)) [(6, .int (nI (s + 1))), (5, .int (bI ((oeN e k s) || (decide ((atN e k s) = 0))))), (0, .ref mo), (1, .ref w), (2, .ref q_2), (3, .int (gI (glN (wyF e (first f / 4)) e k))), (4, .int (nI (k)))] dX6_goalOf_68 rfl 6 rfl (nI_add _ _) (Nat.le_of_ble_eq_true rfl) rfl ?_
            refine g_goto 71 41 F dX6_goalOf_71 (by decide) ?_
            refine g_ls [(0, .ref mo), (1, .ref w), (2, .ref q_2), (3, .int (gI (glN (wyF e (first f / 4)) e k))), (4, .int (nI (k))), (5, .int (bI (oeN e k (s + 1)))), (6, .int (nI (s + 1)))] [2, 3, 4, 5, 6, 1, 0] (rfl) ?_
            exact ih_s
  · have hN := su_no c_1
    refine g_bipush 8 10 F (-2) dX6_goalOf_8 rfl (by decide) ?_
    exact g_iret 10 F R dX6_goalOf_10 (Nat.zero_le _) (Nat.zero_le _) (⟨congrArg (fun z => some (Value.int z)) (by first | rw [goI, if_neg hN] | rw [goI, if_pos hS]), rfl⟩)

set_option maxHeartbeats 4000000 in
theorem m_X6_safetyNow (l : Launch) (X : gk_X) (mo kg hg ca ba al : Nat) (th : Nat) (mi dn dr mt dp rf : Int32) (w ma mg : Nat) (mr : Nat → Nat) (po ho : Nat) (ch lo ac bu sl : Int32) (f : Nat → Bool) (e : Nat → Nat) (x : Nat) (he : ∀ k, k < 60 → e k < 3) (hho : ho < 36) (hx : x < 4) : CtP l X yX6_safetyNow cX6_safetyNow 3 (some .int) 9 4 144 [.ref mo, .ref w, .int (nI (x))] [[(mo, ob 7 [.int (nI (th)), .int (mi), .int (dn), .int (dr), .int (mt), .int (dp), .int (rf), .ref kg, .ref hg, .ref ca, .ref ba, .ref al])], [(w, ob 8 [.int (nI (po)), .int (nI (ho)), .int (ch), .ref ma, .ref mg, .int (lo), .int (ac), .int (bu), .int (sl)])], [(ma, zA X 144 (f))], [(mg, oA X 5 36 (fun j => some (mr j)))], poolW 36 (fun j => [(mr j, iA X 2 (fun z => nI (mpN e j z)))])] (some (.int (sfI e f ho ch x))) := by
  unfold CtP
  refine Ct.of (by decide) (Nat.le_of_ble_eq_true rfl) "BumpwardModel" "safetyNow" rfl rfl (fun K F eL R => ?_)
  subst eL
  show G K X 3 0 0 [[(mo, ob 7 [.int (nI (th)), .int (mi), .int (dn), .int (dr), .int (mt), .int (dp), .int (rf), .ref kg, .ref hg, .ref ca, .ref ba, .ref al])], [(w, ob 8 [.int (nI (po)), .int (nI (ho)), .int (ch), .ref ma, .ref mg, .int (lo), .int (ac), .int (bu), .int (sl)])], [(ma, zA X 144 (f))], [(mg, oA X 5 36 (fun j => some (mr j)))], poolW 36 (fun j => [(mr j, iA X 2 (fun z => nI (mpN e j z)))])] [(0, .ref mo), (1, .ref w), (2, .int (nI (x)))] 0 []
  refine g_iload_n 0 1 F dX6_safetyNow_0 rfl rfl 2 rfl ?_
  refine g_ifN_ne 1 4 12 F dX6_safetyNow_1 rfl (by decide) (by omega) (fun c_1 => ?_) (fun c_1 => ?_)
  · refine g_iload_n 12 13 F dX6_safetyNow_12 rfl rfl 2 rfl ?_
    refine g_iconst 13 14 F (nI (1)) dX6_safetyNow_13 rfl (by decide) ?_
    refine g_icmpN_ne 14 17 25 F dX6_safetyNow_14 rfl (by decide) (by omega) (by omega) (fun c_2 => ?_) (fun c_2 => ?_)
    · refine g_iload_n 25 26 F dX6_safetyNow_25 rfl rfl 2 rfl ?_
      refine g_iconst 26 27 F (nI (2)) dX6_safetyNow_26 rfl (by decide) ?_
      refine g_icmpN_ne 27 30 46 F dX6_safetyNow_27 rfl (by decide) (by omega) (by omega) (fun c_3 => ?_) (fun c_3 => ?_)
      · refine g_aload_n 46 47 F dX6_safetyNow_46 rfl rfl 0 rfl ?_
        refine g_aload_n 47 48 F dX6_safetyNow_47 rfl rfl 1 rfl ?_
        refine g_callP 3 51 F (CallOk.V (C := "BumpwardModel") (b := mo) (As := [.ref w]) (rest := []) F 1 q1719 q1721 qs43 q58 q1722 cdV_X6_goalOf rfl rfl (Nat.le_of_ble_eq_true rfl) (Nat.le_of_ble_eq_true rfl) dX6_safetyNow_48) (m_X6_goalOf (kL K) X mo kg hg ca ba al th mi dn dr mt dp rf w ma mg mr po ho ch lo ac bu sl f e (by omega) (by omega)) rfl (Mr := []) [0, 1, 2, 3, 4] [] rfl 5 rfl (by decide +kernel) rfl rfl (rc_of F 0 7 rfl rfl) (Nat.le_of_ble_eq_true rfl) (c2 := 1) (s2 := 36) (Nat.le_of_ble_eq_true rfl) (Nat.le_of_ble_eq_true rfl) rfl rfl (st1 := [.int (goI e f)]) rfl ?_
        exact g_iret 51 F R dX6_safetyNow_51 (Nat.le_of_ble_eq_true rfl) (Nat.le_of_ble_eq_true rfl) (⟨congrArg (fun z => some (Value.int z)) (by simp [sfI, *, nI_0, bI_t, bI_f]; try rfl), rfl⟩)
      · refine g_aload_n 30 31 F dX6_safetyNow_30 rfl rfl 0 rfl ?_
        refine g_aload_n 31 32 F dX6_safetyNow_31 rfl rfl 1 rfl ?_
        refine g_callP 3 35 F (CallOk.V (C := "BumpwardModel") (b := mo) (As := [.ref w]) (rest := []) F 1 q1527 q1529 qs29 q58 q1530 cdV_X6_isSafe rfl rfl (Nat.le_of_ble_eq_true rfl) (Nat.le_of_ble_eq_true rfl) dX6_safetyNow_32) (m_X6_isSafe (kL K) X mo kg hg ca ba al th mi dn dr mt dp rf w ma mg mr po ho ch lo ac bu sl f e (by omega) (by omega)) rfl (Mr := []) [0, 1, 2, 3, 4] [] rfl 5 rfl (by decide +kernel) rfl rfl (rc_of F 0 7 rfl rfl) (Nat.le_of_ble_eq_true rfl) (c2 := 4) (s2 := 144) (Nat.le_refl _) (Nat.le_refl _) rfl rfl (st1 := [.int (bI (sfB e f ho ch))]) rfl ?_
        refine g_ifB_eq 35 38 42 F dX6_safetyNow_35 rfl (by decide) (fun c_4 => ?_) (fun c_4 => ?_)
        · refine g_iconst 42 43 F (nI (0)) dX6_safetyNow_42 rfl (by decide) ?_
          refine g_goto 43 51 F dX6_safetyNow_43 (by decide) ?_
          exact g_iret 51 F R dX6_safetyNow_51 (Nat.le_refl _) (Nat.le_refl _) (⟨congrArg (fun z => some (Value.int z)) (by simp [sfI, *, nI_0, bI_t, bI_f]; try rfl), rfl⟩)
        · refine g_iconst 38 39 F (nI (1)) dX6_safetyNow_38 rfl (by decide) ?_
          refine g_goto 39 51 F dX6_safetyNow_39 (by decide) ?_
          exact g_iret 51 F R dX6_safetyNow_51 (Nat.le_refl _) (Nat.le_refl _) (⟨congrArg (fun z => some (Value.int z)) (by simp [sfI, *, nI_0, bI_t, bI_f]; try rfl), rfl⟩)
    · refine g_aload_n 17 18 F dX6_safetyNow_17 rfl rfl 0 rfl ?_
      refine g_aload_n 18 19 F dX6_safetyNow_18 rfl rfl 1 rfl ?_
      refine g_callP 3 22 F (CallOk.V (C := "BumpwardModel") (b := mo) (As := [.ref w]) (rest := []) F 1 q1531 q1533 qs30 q58 q1534 cdV_X6_costOf rfl rfl (Nat.le_of_ble_eq_true rfl) (Nat.le_of_ble_eq_true rfl) dX6_safetyNow_19) (m_X6_costOf (kL K) X mo kg hg ca ba al th mi dn dr mt dp rf w ma mg mr po ho ch lo ac bu sl f e (by omega) (by omega)) rfl (Mr := []) [0, 1, 2, 3, 4] [] rfl 5 rfl (by decide +kernel) rfl rfl (rc_of F 0 7 rfl rfl) (Nat.le_of_ble_eq_true rfl) (c2 := 2) (s2 := 72) (Nat.le_of_ble_eq_true rfl) (Nat.le_of_ble_eq_true rfl) rfl rfl (st1 := [.int (coI e f ho)]) rfl ?_
      refine g_goto 22 51 F dX6_safetyNow_22 (by decide) ?_
      exact g_iret 51 F R dX6_safetyNow_51 (Nat.le_of_ble_eq_true rfl) (Nat.le_of_ble_eq_true rfl) (⟨congrArg (fun z => some (Value.int z)) (by simp [sfI, *, nI_0, bI_t, bI_f]; try rfl), rfl⟩)
  · refine g_aload_n 4 5 F dX6_safetyNow_4 rfl rfl 0 rfl ?_
    refine g_aload_n 5 6 F dX6_safetyNow_5 rfl rfl 1 rfl ?_
    refine g_callP 3 9 F (CallOk.V (C := "BumpwardModel") (b := mo) (As := [.ref w]) (rest := []) F 1 q1535 q1537 qs31 q58 q1538 cdV_X6_returnOf rfl rfl (Nat.le_of_ble_eq_true rfl) (Nat.le_of_ble_eq_true rfl) dX6_safetyNow_6) (m_X6_returnOf (kL K) X mo kg hg ca ba al th mi dn dr mt dp rf w ma mg mr po ho ch lo ac bu sl f e (by omega) (by omega)) rfl (Mr := []) [0, 1, 2, 3, 4] [] rfl 5 rfl (by decide +kernel) rfl rfl (rc_of F 0 7 rfl rfl) (Nat.le_of_ble_eq_true rfl) (c2 := 1) (s2 := 36) (Nat.le_of_ble_eq_true rfl) (Nat.le_of_ble_eq_true rfl) rfl rfl (st1 := [.int (chI e f ho)]) rfl ?_
    refine g_goto 9 51 F dX6_safetyNow_9 (by decide) ?_
    exact g_iret 51 F R dX6_safetyNow_51 (Nat.le_of_ble_eq_true rfl) (Nat.le_of_ble_eq_true rfl) (⟨congrArg (fun z => some (Value.int z)) (by simp [sfI, *, nI_0, bI_t, bI_f]; try rfl), rfl⟩)

set_option maxHeartbeats 4000000 in
theorem m_X6_worstNow (l : Launch) (X : gk_X) (mo kg hg ca ba al : Nat) (th : Nat) (mi dn dr mt dp rf : Int32) (w ma mg : Nat) (mr : Nat → Nat) (po ho : Nat) (ch lo ac bu sl : Int32) (f : Nat → Bool) (e : Nat → Nat) (a : Nat) (he : ∀ k, k < 60 → e k < 3) (hho : ho < 36) (ha : a < 4) : CtP l X yX6_worstNow cX6_worstNow 5 (some .int) 6 8 1152 [.ref mo, .ref w, .int (nI (a))] [[(mo, ob 7 [.int (nI (th)), .int (mi), .int (dn), .int (dr), .int (mt), .int (dp), .int (rf), .ref kg, .ref hg, .ref ca, .ref ba, .ref al])], [(w, ob 8 [.int (nI (po)), .int (nI (ho)), .int (ch), .ref ma, .ref mg, .int (lo), .int (ac), .int (bu), .int (sl)])], [(ma, zA X 144 (f))], [(mg, oA X 5 36 (fun j => some (mr j)))], poolW 36 (fun j => [(mr j, iA X 2 (fun z => nI (mpN e j z)))])] (some (.int (nI (wsN e f a)))) := by
  unfold CtP
  refine Ct.of (by decide) (Nat.le_of_ble_eq_true rfl) "BumpwardModel" "worstNow" rfl rfl (fun K F eL R => ?_)
  subst eL
  show G K X 5 0 0 [[(mo, ob 7 [.int (nI (th)), .int (mi), .int (dn), .int (dr), .int (mt), .int (dp), .int (rf), .ref kg, .ref hg, .ref ca, .ref ba, .ref al])], [(w, ob 8 [.int (nI (po)), .int (nI (ho)), .int (ch), .ref ma, .ref mg, .int (lo), .int (ac), .int (bu), .int (sl)])], [(ma, zA X 144 (f))], [(mg, oA X 5 36 (fun j => some (mr j)))], poolW 36 (fun j => [(mr j, iA X 2 (fun z => nI (mpN e j z)))])] [(0, .ref mo), (1, .ref w), (2, .int (nI (a)))] 0 []
  refine g_iload_n 0 1 F dX6_worstNow_0 rfl rfl 2 rfl ?_
  refine g_iconst 1 2 F (nI (1)) dX6_worstNow_1 rfl (by decide) ?_
  refine g_icmpN_eq 2 5 10 F dX6_worstNow_2 rfl (by decide) (by omega) (by omega) (fun c_1 => ?_) (fun c_1 => ?_)
  · refine g_aload_n 10 11 F dX6_worstNow_10 rfl rfl 1 rfl ?_
    refine g_callP 3 14 F (CallOk.V (C := "BumpwardModel$Walker") (b := w) (As := []) (rest := []) F 0 q1571 q1520 q1521 q77 q1522 cdV_X11_many rfl rfl (Nat.le_of_ble_eq_true rfl) (Nat.le_of_ble_eq_true rfl) dX6_worstNow_11) (m_X11_many (kL K) X w ma mg po ho ch lo ac bu sl f ) rfl (Mr := [[(mo, ob 7 [.int (nI (th)), .int (mi), .int (dn), .int (dr), .int (mt), .int (dp), .int (rf), .ref kg, .ref hg, .ref ca, .ref ba, .ref al])], [(mg, oA X 5 36 (fun j => some (mr j)))], poolW 36 (fun j => [(mr j, iA X 2 (fun z => nI (mpN e j z)))])]) [1, 2] [0, 3, 4] rfl 5 rfl (by decide +kernel) rfl rfl (rc_of F 1 8 rfl rfl) (Nat.le_of_ble_eq_true rfl) (c2 := 0) (s2 := 0) (Nat.zero_le _) (Nat.zero_le _) rfl rfl (st1 := [.int (nI (cnt f 144))]) rfl ?_
    exact g_iret 14 F R dX6_worstNow_14 (Nat.zero_le _) (Nat.zero_le _) (⟨congrArg (fun z => some (Value.int z)) (by first | (simp [wsN, *]; done) | (rw [wsN, if_neg (by assumption), if_neg (by omega)])), rfl⟩)
  · refine g_iload_n 5 6 F dX6_worstNow_5 rfl rfl 2 rfl ?_
    refine g_iconst 6 7 F (nI (2)) dX6_worstNow_6 rfl (by decide) ?_
    refine g_icmpN_ne 7 10 15 F dX6_worstNow_7 rfl (by decide) (by omega) (by omega) (fun c_2 => ?_) (fun c_2 => ?_)
    · refine g_iload_n 15 16 F dX6_worstNow_15 rfl rfl 2 rfl ?_
      refine g_ifN_ne 16 19 39 F dX6_worstNow_16 rfl (by decide) (by omega) (fun c_3 => ?_) (fun c_3 => ?_)
      · refine g_iconst 39 40 F (nI (0)) dX6_worstNow_39 rfl (by decide) ?_
        refine g_istore_n 40 41 F [(3, .int (nI (0))), (0, .ref mo), (1, .ref w), (2, .int (nI (a)))] dX6_worstNow_40 rfl rfl (Nat.le_of_ble_eq_true rfl) rfl ?_
        refine g_iconst 41 42 F (nI (0)) dX6_worstNow_41 rfl (by decide) ?_
        refine g_istore 42 44 F [(4, .int (nI (0))), (3, .int (nI (0))), (0, .ref mo), (1, .ref w), (2, .int (nI (a)))] dX6_worstNow_42 rfl (Nat.le_of_ble_eq_true rfl) rfl ?_
        refine g_ls [(0, .ref mo), (1, .ref w), (2, .int (nI (a))), (3, .int (nI (wfN e f 0))), (4, .int (nI (0)))] [2, 3, 4, 1, 0] (rfl) ?_
        refine g_wid (c2 := 0) (s2 := 144 * 0) (by omega) (by omega) ?_
        refine g_down (P := fun n => G K X 5 n (144 * n) [[(mo, ob 7 [.int (nI (th)), .int (mi), .int (dn), .int (dr), .int (mt), .int (dp), .int (rf), .ref kg, .ref hg, .ref ca, .ref ba, .ref al])], [(w, ob 8 [.int (nI (po)), .int (nI (ho)), .int (ch), .ref ma, .ref mg, .int (lo), .int (ac), .int (bu), .int (sl)])], [(ma, zA X 144 (f))], [(mg, oA X 5 36 (fun j => some (mr j)))], poolW 36 (fun j => [(mr j, iA X 2 (fun z => nI (mpN e j z)))])] [(0, .ref mo), (1, .ref w), (2, .int (nI (a))), (3, .int (nI (wfN e f n))), (4, .int (nI (n)))] 44 []) 8 0 (by omega) ?_ (fun n hl_n hi_n ih_n => ?_)
        · show G K X 5 8 (144 * 8) [[(mo, ob 7 [.int (nI (th)), .int (mi), .int (dn), .int (dr), .int (mt), .int (dp), .int (rf), .ref kg, .ref hg, .ref ca, .ref ba, .ref al])], [(w, ob 8 [.int (nI (po)), .int (nI (ho)), .int (ch), .ref ma, .ref mg, .int (lo), .int (ac), .int (bu), .int (sl)])], [(ma, zA X 144 (f))], [(mg, oA X 5 36 (fun j => some (mr j)))], poolW 36 (fun j => [(mr j, iA X 2 (fun z => nI (mpN e j z)))])] [(0, .ref mo), (1, .ref w), (2, .int (nI (a))), (3, .int (nI (wfN e f 8))), (4, .int (nI (8)))] 44 []
          refine g_iload 44 46 F dX6_worstNow_44 rfl 4 rfl ?_
          refine g_bipush 46 48 F (nI (8)) dX6_worstNow_46 rfl (by decide) ?_
          refine g_icmpN_ge 48 51 71 F dX6_worstNow_48 rfl (by decide) (by omega) (by omega) (fun c_4 => ?_) (fun c_4 => ?_)
          · refine g_iload_n 71 72 F dX6_worstNow_71 rfl rfl 3 rfl ?_
            exact g_iret 72 F R dX6_worstNow_72 (Nat.le_refl _) (by omega) (⟨congrArg (fun z => some (Value.int z)) (by first | (simp [wsN, *]; done) | (rw [wsN, if_neg (by assumption), if_neg (by omega)])), rfl⟩)
          · exact absurd c_4 (by omega)
        · show G K X 5 n (144 * n) [[(mo, ob 7 [.int (nI (th)), .int (mi), .int (dn), .int (dr), .int (mt), .int (dp), .int (rf), .ref kg, .ref hg, .ref ca, .ref ba, .ref al])], [(w, ob 8 [.int (nI (po)), .int (nI (ho)), .int (ch), .ref ma, .ref mg, .int (lo), .int (ac), .int (bu), .int (sl)])], [(ma, zA X 144 (f))], [(mg, oA X 5 36 (fun j => some (mr j)))], poolW 36 (fun j => [(mr j, iA X 2 (fun z => nI (mpN e j z)))])] [(0, .ref mo), (1, .ref w), (2, .int (nI (a))), (3, .int (nI (wfN e f n))), (4, .int (nI (n)))] 44 []
          refine g_iload 44 46 F dX6_worstNow_44 rfl 4 rfl ?_
          refine g_bipush 46 48 F (nI (8)) dX6_worstNow_46 rfl (by decide) ?_
          refine g_icmpN_ge 48 51 71 F dX6_worstNow_48 rfl (by decide) (by omega) (by omega) (fun c_5 => ?_) (fun c_5 => ?_)
          · exact absurd c_5 (by omega)
          · refine g_iload_n 51 52 F dX6_worstNow_51 rfl rfl 3 rfl ?_
            refine g_aload_n 52 53 F dX6_worstNow_52 rfl rfl 1 rfl ?_
            refine g_iload 53 55 F dX6_worstNow_53 rfl 4 rfl ?_
            refine g_call 3 58 F (CallOk.S (As := [.ref w, .int (nI (n))]) (rest := [.int (nI (wfN e f n))]) F 2 q1591 q1592 q58 q1593 cd_X6_feeling rfl rfl (Nat.le_of_ble_eq_true rfl) (Nat.le_of_ble_eq_true rfl) dX6_worstNow_55) (m_X6_feeling (kL K) X w ma mg mr po ho ch lo ac bu sl f e n (by omega) (by omega)) rfl (Mr := [[(mo, ob 7 [.int (nI (th)), .int (mi), .int (dn), .int (dr), .int (mt), .int (dp), .int (rf), .ref kg, .ref hg, .ref ca, .ref ba, .ref al])]]) [1, 2, 3, 4] [0] rfl rfl rfl (rc_T) (Nat.le_of_ble_eq_true rfl) (c2 := n + 1) (s2 := 144 * n + 144) (by omega) (by omega) rfl rfl (fun v M1 hp => ?_)
            obtain ⟨q_6, rfl, rfl⟩ := hp
            show G K X 5 (n + 1) (144 * n + 144) [[(mo, ob 7 [.int (nI (th)), .int (mi), .int (dn), .int (dr), .int (mt), .int (dp), .int (rf), .ref kg, .ref hg, .ref ca, .ref ba, .ref al])], [(w, ob 8 [.int (nI (po)), .int (nI (ho)), .int (ch), .ref ma, .ref mg, .int (lo), .int (ac), .int (bu), .int (sl)])], [(ma, zA X 144 (f))], [(mg, oA X 5 36 (fun j => some (mr j)))], poolW 36 (fun j => [(mr j, iA X 2 (fun z => nI (mpN e j z)))]), [(q_6, zA X 144 (ftF e f n))]] [(0, .ref mo), (1, .ref w), (2, .int (nI (a))), (3, .int (nI (wfN e f n))), (4, .int (nI (n)))] 58 [.ref q_6, .int (nI (wfN e f n))]
            refine g_callP 3 61 F (CallOk.S (As := [.ref q_6]) (rest := [.int (nI (wfN e f n))]) F 1 q1456 q1457 q58 q1458 cd_X6_all rfl rfl (Nat.le_of_ble_eq_true rfl) (Nat.le_of_ble_eq_true rfl) dX6_worstNow_58) (m_X6_all (kL K) X q_6 144 (ftF e f n) (by omega)) rfl (Mr := [[(mo, ob 7 [.int (nI (th)), .int (mi), .int (dn), .int (dr), .int (mt), .int (dp), .int (rf), .ref kg, .ref hg, .ref ca, .ref ba, .ref al])], [(w, ob 8 [.int (nI (po)), .int (nI (ho)), .int (ch), .ref ma, .ref mg, .int (lo), .int (ac), .int (bu), .int (sl)])], [(ma, zA X 144 (f))], [(mg, oA X 5 36 (fun j => some (mr j)))], poolW 36 (fun j => [(mr j, iA X 2 (fun z => nI (mpN e j z)))])]) [5] [0, 1, 2, 3, 4] rfl 6 rfl (by decide +kernel) rfl rfl (rc_T) (Nat.le_of_ble_eq_true rfl) (c2 := n + 1) (s2 := 144 * n + 144) (by omega) (by omega) rfl rfl (st1 := [.int (nI (cnt (ftF e f n) 144)), .int (nI (wfN e f n))]) rfl ?_
            refine g_mmax 61 64 F (v := nI (wfN e f (n + 1))) q1740 q502 q66 q503 dX6_worstNow_61 rfl (Nat.le_of_ble_eq_true rfl) (Nat.le_of_ble_eq_true rfl) (by omega) (by omega) (mx_nI (Nat.lt_of_le_of_lt (wfN_le _ _ _) (by decide)) (Nat.lt_of_le_of_lt (cnt_le _ _) (by decide))) ?_
            refine g_istore_n 64 65 F [(3, .int (nI (wfN e f (n + 1)))), (0, .ref mo), (1, .ref w), (2, .int (nI (a))), (4, .int (nI (n)))] dX6_worstNow_64 rfl rfl (Nat.le_of_ble_eq_true rfl) rfl ?_
            refine g_iinc 65 68 F (v := nI (n + 1)) [(4, .int (nI (n + 1))), (3, .int (nI (wfN e f (n + 1)))), (0, .ref mo), (1, .ref w), (2, .int (nI (a)))] dX6_worstNow_65 rfl 4 rfl (nI_add _ _) (Nat.le_of_ble_eq_true rfl) rfl ?_
            refine g_goto 68 44 F dX6_worstNow_68 (by decide) ?_
            refine g_sel [[(mo, ob 7 [.int (nI (th)), .int (mi), .int (dn), .int (dr), .int (mt), .int (dp), .int (rf), .ref kg, .ref hg, .ref ca, .ref ba, .ref al])], [(w, ob 8 [.int (nI (po)), .int (nI (ho)), .int (ch), .ref ma, .ref mg, .int (lo), .int (ac), .int (bu), .int (sl)])], [(ma, zA X 144 (f))], [(mg, oA X 5 36 (fun j => some (mr j)))], poolW 36 (fun j => [(mr j, iA X 2 (fun z => nI (mpN e j z)))])] [0, 1, 2, 3, 4] rfl rfl ?_
            refine g_ls [(0, .ref mo), (1, .ref w), (2, .int (nI (a))), (3, .int (nI (wfN e f (n + 1)))), (4, .int (nI (n + 1)))] [2, 3, 4, 1, 0] (rfl) ?_
            refine g_wid (c2 := (n + 1)) (s2 := 144 * (n + 1)) (by omega) (by omega) ?_
            exact ih_n
      · refine g_aload_n 19 20 F dX6_worstNow_19 rfl rfl 1 rfl ?_
        refine g_iconst 20 21 F (nI (1)) dX6_worstNow_20 rfl (by decide) ?_
        refine g_top (v := bI (true)) (rfl) ?_
        refine g_call 3 24 F (CallOk.S (As := [.ref w, .int (bI (true))]) (rest := []) F 2 q1565 q1566 q58 q1567 cd_X6_stepped rfl rfl (Nat.le_of_ble_eq_true rfl) (Nat.le_of_ble_eq_true rfl) dX6_worstNow_21) (m_X6_stepped (kL K) X w ma mg mr po ho ch lo ac bu sl f e true (by omega)) rfl (Mr := [[(mo, ob 7 [.int (nI (th)), .int (mi), .int (dn), .int (dr), .int (mt), .int (dp), .int (rf), .ref kg, .ref hg, .ref ca, .ref ba, .ref al])]]) [1, 2, 3, 4] [0] rfl rfl rfl (rc_T) (Nat.le_of_ble_eq_true rfl) (c2 := 1) (s2 := 144) (Nat.le_of_ble_eq_true rfl) (Nat.le_of_ble_eq_true rfl) rfl rfl (fun v M1 hp => ?_)
        obtain ⟨q_7, rfl, rfl⟩ := hp
        show G K X 5 1 144 [[(mo, ob 7 [.int (nI (th)), .int (mi), .int (dn), .int (dr), .int (mt), .int (dp), .int (rf), .ref kg, .ref hg, .ref ca, .ref ba, .ref al])], [(w, ob 8 [.int (nI (po)), .int (nI (ho)), .int (ch), .ref ma, .ref mg, .int (lo), .int (ac), .int (bu), .int (sl)])], [(ma, zA X 144 (f))], [(mg, oA X 5 36 (fun j => some (mr j)))], poolW 36 (fun j => [(mr j, iA X 2 (fun z => nI (mpN e j z)))]), [(q_7, zA X 144 (fwF e f true))]] [(0, .ref mo), (1, .ref w), (2, .int (nI (a)))] 24 [.ref q_7]
        refine g_callP 3 27 F (CallOk.S (As := [.ref q_7]) (rest := []) F 1 q1456 q1457 q58 q1458 cd_X6_all rfl rfl (Nat.le_of_ble_eq_true rfl) (Nat.le_of_ble_eq_true rfl) dX6_worstNow_24) (m_X6_all (kL K) X q_7 144 (fwF e f true) (by omega)) rfl (Mr := [[(mo, ob 7 [.int (nI (th)), .int (mi), .int (dn), .int (dr), .int (mt), .int (dp), .int (rf), .ref kg, .ref hg, .ref ca, .ref ba, .ref al])], [(w, ob 8 [.int (nI (po)), .int (nI (ho)), .int (ch), .ref ma, .ref mg, .int (lo), .int (ac), .int (bu), .int (sl)])], [(ma, zA X 144 (f))], [(mg, oA X 5 36 (fun j => some (mr j)))], poolW 36 (fun j => [(mr j, iA X 2 (fun z => nI (mpN e j z)))])]) [5] [0, 1, 2, 3, 4] rfl 6 rfl (by decide +kernel) rfl rfl (rc_T) (Nat.le_of_ble_eq_true rfl) (c2 := 1) (s2 := 144) (Nat.le_of_ble_eq_true rfl) (Nat.le_of_ble_eq_true rfl) rfl rfl (st1 := [.int (nI (cnt (fwF e f true) 144))]) rfl ?_
        refine g_aload_n 27 28 F dX6_worstNow_27 rfl rfl 1 rfl ?_
        refine g_iconst 28 29 F (nI (0)) dX6_worstNow_28 rfl (by decide) ?_
        refine g_top (v := bI (false)) (rfl) ?_
        refine g_call 3 32 F (CallOk.S (As := [.ref w, .int (bI (false))]) (rest := [.int (nI (cnt (fwF e f true) 144))]) F 2 q1565 q1566 q58 q1567 cd_X6_stepped rfl rfl (Nat.le_of_ble_eq_true rfl) (Nat.le_of_ble_eq_true rfl) dX6_worstNow_29) (m_X6_stepped (kL K) X w ma mg mr po ho ch lo ac bu sl f e false (by omega)) rfl (Mr := [[(mo, ob 7 [.int (nI (th)), .int (mi), .int (dn), .int (dr), .int (mt), .int (dp), .int (rf), .ref kg, .ref hg, .ref ca, .ref ba, .ref al])], [(q_7, zA X 144 (fwF e f true))]]) [1, 2, 3, 4] [0, 5] rfl rfl rfl (rc_T) (Nat.le_of_ble_eq_true rfl) (c2 := 2) (s2 := 288) (Nat.le_of_ble_eq_true rfl) (Nat.le_of_ble_eq_true rfl) rfl rfl (fun v M1 hp => ?_)
        obtain ⟨q_8, rfl, rfl⟩ := hp
        show G K X 5 2 288 [[(mo, ob 7 [.int (nI (th)), .int (mi), .int (dn), .int (dr), .int (mt), .int (dp), .int (rf), .ref kg, .ref hg, .ref ca, .ref ba, .ref al])], [(q_7, zA X 144 (fwF e f true))], [(w, ob 8 [.int (nI (po)), .int (nI (ho)), .int (ch), .ref ma, .ref mg, .int (lo), .int (ac), .int (bu), .int (sl)])], [(ma, zA X 144 (f))], [(mg, oA X 5 36 (fun j => some (mr j)))], poolW 36 (fun j => [(mr j, iA X 2 (fun z => nI (mpN e j z)))]), [(q_8, zA X 144 (fwF e f false))]] [(0, .ref mo), (1, .ref w), (2, .int (nI (a)))] 32 [.ref q_8, .int (nI (cnt (fwF e f true) 144))]
        refine g_callP 3 35 F (CallOk.S (As := [.ref q_8]) (rest := [.int (nI (cnt (fwF e f true) 144))]) F 1 q1456 q1457 q58 q1458 cd_X6_all rfl rfl (Nat.le_of_ble_eq_true rfl) (Nat.le_of_ble_eq_true rfl) dX6_worstNow_32) (m_X6_all (kL K) X q_8 144 (fwF e f false) (by omega)) rfl (Mr := [[(mo, ob 7 [.int (nI (th)), .int (mi), .int (dn), .int (dr), .int (mt), .int (dp), .int (rf), .ref kg, .ref hg, .ref ca, .ref ba, .ref al])], [(q_7, zA X 144 (fwF e f true))], [(w, ob 8 [.int (nI (po)), .int (nI (ho)), .int (ch), .ref ma, .ref mg, .int (lo), .int (ac), .int (bu), .int (sl)])], [(ma, zA X 144 (f))], [(mg, oA X 5 36 (fun j => some (mr j)))], poolW 36 (fun j => [(mr j, iA X 2 (fun z => nI (mpN e j z)))])]) [6] [0, 1, 2, 3, 4, 5] rfl 7 rfl (by decide +kernel) rfl rfl (rc_T) (Nat.le_of_ble_eq_true rfl) (c2 := 2) (s2 := 288) (Nat.le_of_ble_eq_true rfl) (Nat.le_of_ble_eq_true rfl) rfl rfl (st1 := [.int (nI (cnt (fwF e f false) 144)), .int (nI (cnt (fwF e f true) 144))]) rfl ?_
        refine g_mmax 35 38 F (v := nI (max (cnt (fwF e f true) 144) (cnt (fwF e f false) 144))) q1740 q502 q66 q503 dX6_worstNow_35 rfl (Nat.le_of_ble_eq_true rfl) (Nat.le_of_ble_eq_true rfl) (Nat.le_of_ble_eq_true rfl) (Nat.le_of_ble_eq_true rfl) (mx_nI (Nat.lt_of_le_of_lt (cnt_le _ _) (by decide)) (Nat.lt_of_le_of_lt (cnt_le _ _) (by decide))) ?_
        refine g_sel [[(mo, ob 7 [.int (nI (th)), .int (mi), .int (dn), .int (dr), .int (mt), .int (dp), .int (rf), .ref kg, .ref hg, .ref ca, .ref ba, .ref al])], [(w, ob 8 [.int (nI (po)), .int (nI (ho)), .int (ch), .ref ma, .ref mg, .int (lo), .int (ac), .int (bu), .int (sl)])], [(ma, zA X 144 (f))], [(mg, oA X 5 36 (fun j => some (mr j)))], poolW 36 (fun j => [(mr j, iA X 2 (fun z => nI (mpN e j z)))])] [0, 2, 3, 4, 5] rfl rfl ?_
        exact g_iret 38 F R dX6_worstNow_38 (Nat.le_of_ble_eq_true rfl) (Nat.le_of_ble_eq_true rfl) (⟨congrArg (fun z => some (Value.int z)) (by first | (simp [wsN, *]; done) | (rw [wsN, if_neg (by assumption), if_neg (by omega)])), rfl⟩)
    · refine g_aload_n 10 11 F dX6_worstNow_10 rfl rfl 1 rfl ?_
      refine g_callP 3 14 F (CallOk.V (C := "BumpwardModel$Walker") (b := w) (As := []) (rest := []) F 0 q1571 q1520 q1521 q77 q1522 cdV_X11_many rfl rfl (Nat.le_of_ble_eq_true rfl) (Nat.le_of_ble_eq_true rfl) dX6_worstNow_11) (m_X11_many (kL K) X w ma mg po ho ch lo ac bu sl f ) rfl (Mr := [[(mo, ob 7 [.int (nI (th)), .int (mi), .int (dn), .int (dr), .int (mt), .int (dp), .int (rf), .ref kg, .ref hg, .ref ca, .ref ba, .ref al])], [(mg, oA X 5 36 (fun j => some (mr j)))], poolW 36 (fun j => [(mr j, iA X 2 (fun z => nI (mpN e j z)))])]) [1, 2] [0, 3, 4] rfl 5 rfl (by decide +kernel) rfl rfl (rc_of F 1 8 rfl rfl) (Nat.le_of_ble_eq_true rfl) (c2 := 0) (s2 := 0) (Nat.zero_le _) (Nat.zero_le _) rfl rfl (st1 := [.int (nI (cnt f 144))]) rfl ?_
      exact g_iret 14 F R dX6_worstNow_14 (Nat.zero_le _) (Nat.zero_le _) (⟨congrArg (fun z => some (Value.int z)) (by first | (simp [wsN, *]; done) | (rw [wsN, if_neg (by assumption), if_neg (by omega)])), rfl⟩)

set_option maxHeartbeats 4000000 in
theorem m_X6_bestNow (l : Launch) (X : gk_X) (mo kg hg ca ba al : Nat) (th : Nat) (mi dn dr mt dp rf : Int32) (w ma mg : Nat) (mr : Nat → Nat) (po ho : Nat) (ch lo ac bu sl : Int32) (f : Nat → Bool) (e : Nat → Nat)  (he : ∀ k, k < 60 → e k < 3) (hho : ho < 36) : CtP l X yX6_bestNow cX6_bestNow 4 (some .int) 7 48 6912 [.ref mo, .ref w] [[(mo, ob 7 [.int (nI (th)), .int (mi), .int (dn), .int (dr), .int (mt), .int (dp), .int (rf), .ref kg, .ref hg, .ref ca, .ref ba, .ref al])], [(w, ob 8 [.int (nI (po)), .int (nI (ho)), .int (ch), .ref ma, .ref mg, .int (lo), .int (ac), .int (bu), .int (sl)])], [(ma, zA X 144 (f))], [(mg, oA X 5 36 (fun j => some (mr j)))], poolW 36 (fun j => [(mr j, iA X 2 (fun z => nI (mpN e j z)))])] (some (.int (nI (brN e f 3)))) := by
  unfold CtP
  refine Ct.of (by decide) (Nat.le_of_ble_eq_true rfl) "BumpwardModel" "bestNow" rfl rfl (fun K F eL R => ?_)
  subst eL
  show G K X 4 0 0 [[(mo, ob 7 [.int (nI (th)), .int (mi), .int (dn), .int (dr), .int (mt), .int (dp), .int (rf), .ref kg, .ref hg, .ref ca, .ref ba, .ref al])], [(w, ob 8 [.int (nI (po)), .int (nI (ho)), .int (ch), .ref ma, .ref mg, .int (lo), .int (ac), .int (bu), .int (sl)])], [(ma, zA X 144 (f))], [(mg, oA X 5 36 (fun j => some (mr j)))], poolW 36 (fun j => [(mr j, iA X 2 (fun z => nI (mpN e j z)))])] [(0, .ref mo), (1, .ref w)] 0 []
  refine g_iconst 0 1 F (nI (0)) dX6_bestNow_0 rfl (by decide) ?_
  refine g_istore_n 1 2 F [(2, .int (nI (0))), (0, .ref mo), (1, .ref w)] dX6_bestNow_1 rfl rfl (Nat.le_of_ble_eq_true rfl) rfl ?_
  refine g_iconst 2 3 F (nI (1)) dX6_bestNow_2 rfl (by decide) ?_
  refine g_istore_n 3 4 F [(3, .int (nI (1))), (2, .int (nI (0))), (0, .ref mo), (1, .ref w)] dX6_bestNow_3 rfl rfl (Nat.le_of_ble_eq_true rfl) rfl ?_
  refine g_ls [(0, .ref mo), (1, .ref w), (2, .int (nI (brN e f 0))), (3, .int (nI (0 + 1)))] [2, 3, 1, 0] (rfl) ?_
  refine g_wid (c2 := 16 * 0) (s2 := 2304 * 0) (by omega) (by omega) ?_
  refine g_down (P := fun i => G K X 4 (16 * i) (2304 * i) [[(mo, ob 7 [.int (nI (th)), .int (mi), .int (dn), .int (dr), .int (mt), .int (dp), .int (rf), .ref kg, .ref hg, .ref ca, .ref ba, .ref al])], [(w, ob 8 [.int (nI (po)), .int (nI (ho)), .int (ch), .ref ma, .ref mg, .int (lo), .int (ac), .int (bu), .int (sl)])], [(ma, zA X 144 (f))], [(mg, oA X 5 36 (fun j => some (mr j)))], poolW 36 (fun j => [(mr j, iA X 2 (fun z => nI (mpN e j z)))])] [(0, .ref mo), (1, .ref w), (2, .int (nI (brN e f i))), (3, .int (nI (i + 1)))] 4 []) 3 0 (by omega) ?_ (fun i hl_i hi_i ih_i => ?_)
  · show G K X 4 (16 * 3) (2304 * 3) [[(mo, ob 7 [.int (nI (th)), .int (mi), .int (dn), .int (dr), .int (mt), .int (dp), .int (rf), .ref kg, .ref hg, .ref ca, .ref ba, .ref al])], [(w, ob 8 [.int (nI (po)), .int (nI (ho)), .int (ch), .ref ma, .ref mg, .int (lo), .int (ac), .int (bu), .int (sl)])], [(ma, zA X 144 (f))], [(mg, oA X 5 36 (fun j => some (mr j)))], poolW 36 (fun j => [(mr j, iA X 2 (fun z => nI (mpN e j z)))])] [(0, .ref mo), (1, .ref w), (2, .int (nI (brN e f 3))), (3, .int (nI (3 + 1)))] 4 []
    refine g_iload_n 4 5 F dX6_bestNow_4 rfl rfl 3 rfl ?_
    refine g_iconst 5 6 F (nI (4)) dX6_bestNow_5 rfl (by decide) ?_
    refine g_icmpN_ge 6 9 32 F dX6_bestNow_6 rfl (by decide) (by omega) (by omega) (fun c_1 => ?_) (fun c_1 => ?_)
    · refine g_iload_n 32 33 F dX6_bestNow_32 rfl rfl 2 rfl ?_
      exact g_iret 33 F R dX6_bestNow_33 (by omega) (by omega) (⟨rfl, rfl⟩)
    · exact absurd c_1 (by omega)
  · show G K X 4 (16 * i) (2304 * i) [[(mo, ob 7 [.int (nI (th)), .int (mi), .int (dn), .int (dr), .int (mt), .int (dp), .int (rf), .ref kg, .ref hg, .ref ca, .ref ba, .ref al])], [(w, ob 8 [.int (nI (po)), .int (nI (ho)), .int (ch), .ref ma, .ref mg, .int (lo), .int (ac), .int (bu), .int (sl)])], [(ma, zA X 144 (f))], [(mg, oA X 5 36 (fun j => some (mr j)))], poolW 36 (fun j => [(mr j, iA X 2 (fun z => nI (mpN e j z)))])] [(0, .ref mo), (1, .ref w), (2, .int (nI (brN e f i))), (3, .int (nI (i + 1)))] 4 []
    have hbr := brN_le e f i
    have hw1 := wsN_le e f (i + 1)
    have hw2 := wsN_le e f (brN e f i)
    refine g_iload_n 4 5 F dX6_bestNow_4 rfl rfl 3 rfl ?_
    refine g_iconst 5 6 F (nI (4)) dX6_bestNow_5 rfl (by decide) ?_
    refine g_icmpN_ge 6 9 32 F dX6_bestNow_6 rfl (by decide) (by omega) (by omega) (fun c_2 => ?_) (fun c_2 => ?_)
    · exact absurd c_2 (by omega)
    · refine g_aload_n 9 10 F dX6_bestNow_9 rfl rfl 0 rfl ?_
      refine g_aload_n 10 11 F dX6_bestNow_10 rfl rfl 1 rfl ?_
      refine g_iload_n 11 12 F dX6_bestNow_11 rfl rfl 3 rfl ?_
      refine g_callP 3 15 F (CallOk.V (C := "BumpwardModel") (b := mo) (As := [.ref w, .int (nI (i + 1))]) (rest := []) F 2 q1736 q1738 qs45 q58 q1739 cdV_X6_worstNow rfl rfl (Nat.le_of_ble_eq_true rfl) (Nat.le_of_ble_eq_true rfl) dX6_bestNow_12) (m_X6_worstNow (kL K) X mo kg hg ca ba al th mi dn dr mt dp rf w ma mg mr po ho ch lo ac bu sl f e (i + 1) (by omega) (by omega) (by omega)) rfl (Mr := []) [0, 1, 2, 3, 4] [] rfl 5 rfl (by decide +kernel) rfl rfl (rc_of F 0 7 rfl rfl) (Nat.le_of_ble_eq_true rfl) (c2 := 16 * i + 8) (s2 := 2304 * i + 1152) (by omega) (by omega) rfl rfl (st1 := [.int (nI (wsN e f (i + 1)))]) rfl ?_
      refine g_aload_n 15 16 F dX6_bestNow_15 rfl rfl 0 rfl ?_
      refine g_aload_n 16 17 F dX6_bestNow_16 rfl rfl 1 rfl ?_
      refine g_iload_n 17 18 F dX6_bestNow_17 rfl rfl 2 rfl ?_
      refine g_callP 3 21 F (CallOk.V (C := "BumpwardModel") (b := mo) (As := [.ref w, .int (nI (brN e f i))]) (rest := [.int (nI (wsN e f (i + 1)))]) F 2 q1736 q1738 qs45 q58 q1739 cdV_X6_worstNow rfl rfl (Nat.le_of_ble_eq_true rfl) (Nat.le_of_ble_eq_true rfl) dX6_bestNow_18) (m_X6_worstNow (kL K) X mo kg hg ca ba al th mi dn dr mt dp rf w ma mg mr po ho ch lo ac bu sl f e (brN e f i) (by omega) (by omega) (by omega)) rfl (Mr := []) [0, 1, 2, 3, 4] [] rfl 5 rfl (by decide +kernel) rfl rfl (rc_of F 0 7 rfl rfl) (Nat.le_of_ble_eq_true rfl) (c2 := 16 * i + 8 + 8) (s2 := 2304 * i + 1152 + 1152) (by omega) (by omega) rfl rfl (st1 := [.int (nI (wsN e f (brN e f i))), .int (nI (wsN e f (i + 1)))]) rfl ?_
      refine g_icmpN_ge 21 24 26 F dX6_bestNow_21 rfl (by decide) (by omega) (by omega) (fun c_3 => ?_) (fun c_3 => ?_)
      · have hcond : ¬ wsN e f (i + 1) < wsN e f (brN e f i) := by omega
        refine g_iinc 26 29 F (v := nI (i + 1 + 1)) [(3, .int (nI (i + 1 + 1))), (0, .ref mo), (1, .ref w), (2, .int (nI (brN e f i)))] dX6_bestNow_26 rfl 3 rfl (nI_add _ _) (Nat.le_of_ble_eq_true rfl) rfl ?_
        refine g_goto 29 4 F dX6_bestNow_29 (by decide) ?_
        refine g_ls [(0, .ref mo), (1, .ref w), (2, .int (nI (brN e f (i + 1)))), (3, .int (nI ((i + 1) + 1)))] [1, 2, 3, 0] (by first | (rw [brN, if_pos hcond]; rfl) | (rw [brN, if_neg hcond]; rfl)) ?_
        refine g_wid (c2 := 16 * (i + 1)) (s2 := 2304 * (i + 1)) (by omega) (by omega) ?_
        exact ih_i
      · have hcond := c_3
        refine g_iload_n 24 25 F dX6_bestNow_24 rfl rfl 3 rfl ?_
        refine g_istore_n 25 26 F [(2, .int (nI (i + 1))), (0, .ref mo), (1, .ref w), (3, .int (nI (i + 1)))] dX6_bestNow_25 rfl rfl (Nat.le_of_ble_eq_true rfl) rfl ?_
        refine g_iinc 26 29 F (v := nI (i + 1 + 1)) [(3, .int (nI (i + 1 + 1))), (2, .int (nI (i + 1))), (0, .ref mo), (1, .ref w)] dX6_bestNow_26 rfl 3 rfl (nI_add _ _) (Nat.le_of_ble_eq_true rfl) rfl ?_
        refine g_goto 29 4 F dX6_bestNow_29 (by decide) ?_
        refine g_ls [(0, .ref mo), (1, .ref w), (2, .int (nI (brN e f (i + 1)))), (3, .int (nI ((i + 1) + 1)))] [2, 3, 1, 0] (by first | (rw [brN, if_pos hcond]; rfl) | (rw [brN, if_neg hcond]; rfl)) ?_
        refine g_wid (c2 := 16 * (i + 1)) (s2 := 2304 * (i + 1)) (by omega) (by omega) ?_
        exact ih_i
