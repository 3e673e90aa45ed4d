/-! G: a comparison as a value: if..; 1; goto; 0 -/
section DIA
variable {K : gk_K} {X : gk_X} {own nm : String} {cc : ByteArray} {nL : Nat} {ret : Option FieldType} {d mc ms : Nat} {cells slots : Nat} {M : List va_W} {l : List (Nat × Value)} {st : List Value}

theorem g_dia_eq (pc L1 L2 : Nat) (F : Ok K X own nm cc nL ret d mc ms) {x y : Int32} {off off2 : Int} (hd : decode cc pc = .ok (.if_icmp .eq off, 3)) (ht : (pc : Int) + off = (L1 : Int)) (h1 : decode cc (pc + 3) = .ok (.iconst 1, 1)) (h2 : decode cc (pc + 4) = .ok (.goto off2, 3)) (ht2 : ((pc + 4 : Nat) : Int) + off2 = (L2 : Int)) (h3 : decode cc L1 = .ok (.iconst 0, 1)) (hL : L1 + 1 = L2) (k : G K X nL cells slots M l L2 (.int (bI (decide (¬ x = y))) :: st)) : G K X nL cells slots M l pc (.int y :: .int x :: st) := by
  refine g_icmp_eq pc (pc + 3) L1 F hd rfl ht (fun c => ?_) (fun c => ?_)
  · refine g_iconst L1 L2 F 0 h3 hL (by decide) ?_
    rw [decide_eq_false (fun h => h c), bI_f] at k
    exact k
  · refine g_iconst (pc + 3) (pc + 4) F 1 h1 rfl (by decide) ?_
    refine g_goto (pc + 4) L2 F h2 ht2 ?_
    rw [decide_eq_true c, bI_t] at k
    exact k

theorem g_diaZ_eq (pc L1 L2 : Nat) (F : Ok K X own nm cc nL ret d mc ms) {x : Int32} {off off2 : Int} (hd : decode cc pc = .ok (.ifCond .eq off, 3)) (ht : (pc : Int) + off = (L1 : Int)) (h1 : decode cc (pc + 3) = .ok (.iconst 1, 1)) (h2 : decode cc (pc + 4) = .ok (.goto off2, 3)) (ht2 : ((pc + 4 : Nat) : Int) + off2 = (L2 : Int)) (h3 : decode cc L1 = .ok (.iconst 0, 1)) (hL : L1 + 1 = L2) (k : G K X nL cells slots M l L2 (.int (bI (decide (¬ x = 0))) :: st)) : G K X nL cells slots M l pc (.int x :: st) := by
  refine g_if_eq pc (pc + 3) L1 F hd rfl ht (fun c => ?_) (fun c => ?_)
  · refine g_iconst L1 L2 F 0 h3 hL (by decide) ?_
    rw [decide_eq_false (fun h => h c), bI_f] at k
    exact k
  · refine g_iconst (pc + 3) (pc + 4) F 1 h1 rfl (by decide) ?_
    refine g_goto (pc + 4) L2 F h2 ht2 ?_
    rw [decide_eq_true c, bI_t] at k
    exact k

theorem g_diaN_eq (pc L1 L2 : Nat) (F : Ok K X own nm cc nL ret d mc ms) {a b : Nat} {off off2 : Int} (hd : decode cc pc = .ok (.if_icmp .eq off, 3)) (ht : (pc : Int) + off = (L1 : Int)) (h1 : decode cc (pc + 3) = .ok (.iconst 1, 1)) (h2 : decode cc (pc + 4) = .ok (.goto off2, 3)) (ht2 : ((pc + 4 : Nat) : Int) + off2 = (L2 : Int)) (h3 : decode cc L1 = .ok (.iconst 0, 1)) (hL : L1 + 1 = L2) (ha : a < 2 ^ 31) (hb : b < 2 ^ 31) (k : G K X nL cells slots M l L2 (.int (bI (decide (¬ a = b))) :: st)) : G K X nL cells slots M l pc (.int (nI b) :: .int (nI a) :: st) := by
  refine g_icmpN_eq pc (pc + 3) L1 F hd rfl ht ha hb (fun c => ?_) (fun c => ?_)
  · refine g_iconst L1 L2 F 0 h3 hL (by decide) ?_
    rw [decide_eq_false (p := ¬ a = b) (fun h => h c), bI_f] at k
    exact k
  · refine g_iconst (pc + 3) (pc + 4) F 1 h1 rfl (by decide) ?_
    refine g_goto (pc + 4) L2 F h2 ht2 ?_
    rw [decide_eq_true (p := ¬ a = b) c, bI_t] at k
    exact k

theorem g_dia_ne (pc L1 L2 : Nat) (F : Ok K X own nm cc nL ret d mc ms) {x y : Int32} {off off2 : Int} (hd : decode cc pc = .ok (.if_icmp .ne off, 3)) (ht : (pc : Int) + off = (L1 : Int)) (h1 : decode cc (pc + 3) = .ok (.iconst 1, 1)) (h2 : decode cc (pc + 4) = .ok (.goto off2, 3)) (ht2 : ((pc + 4 : Nat) : Int) + off2 = (L2 : Int)) (h3 : decode cc L1 = .ok (.iconst 0, 1)) (hL : L1 + 1 = L2) (k : G K X nL cells slots M l L2 (.int (bI (decide (x = y))) :: st)) : G K X nL cells slots M l pc (.int y :: .int x :: st) := by
  refine g_icmp_ne pc (pc + 3) L1 F hd rfl ht (fun c => ?_) (fun c => ?_)
  · refine g_iconst L1 L2 F 0 h3 hL (by decide) ?_
    rw [decide_eq_false c, bI_f] at k
    exact k
  · refine g_iconst (pc + 3) (pc + 4) F 1 h1 rfl (by decide) ?_
    refine g_goto (pc + 4) L2 F h2 ht2 ?_
    rw [decide_eq_true c, bI_t] at k
    exact k

theorem g_diaZ_ne (pc L1 L2 : Nat) (F : Ok K X own nm cc nL ret d mc ms) {x : Int32} {off off2 : Int} (hd : decode cc pc = .ok (.ifCond .ne off, 3)) (ht : (pc : Int) + off = (L1 : Int)) (h1 : decode cc (pc + 3) = .ok (.iconst 1, 1)) (h2 : decode cc (pc + 4) = .ok (.goto off2, 3)) (ht2 : ((pc + 4 : Nat) : Int) + off2 = (L2 : Int)) (h3 : decode cc L1 = .ok (.iconst 0, 1)) (hL : L1 + 1 = L2) (k : G K X nL cells slots M l L2 (.int (bI (decide (x = 0))) :: st)) : G K X nL cells slots M l pc (.int x :: st) := by
  refine g_if_ne pc (pc + 3) L1 F hd rfl ht (fun c => ?_) (fun c => ?_)
  · refine g_iconst L1 L2 F 0 h3 hL (by decide) ?_
    rw [decide_eq_false c, bI_f] at k
    exact k
  · refine g_iconst (pc + 3) (pc + 4) F 1 h1 rfl (by decide) ?_
    refine g_goto (pc + 4) L2 F h2 ht2 ?_
    rw [decide_eq_true c, bI_t] at k
    exact k

theorem g_diaN_ne (pc L1 L2 : Nat) (F : Ok K X own nm cc nL ret d mc ms) {a b : Nat} {off off2 : Int} (hd : decode cc pc = .ok (.if_icmp .ne off, 3)) (ht : (pc : Int) + off = (L1 : Int)) (h1 : decode cc (pc + 3) = .ok (.iconst 1, 1)) (h2 : decode cc (pc + 4) = .ok (.goto off2, 3)) (ht2 : ((pc + 4 : Nat) : Int) + off2 = (L2 : Int)) (h3 : decode cc L1 = .ok (.iconst 0, 1)) (hL : L1 + 1 = L2) (ha : a < 2 ^ 31) (hb : b < 2 ^ 31) (k : G K X nL cells slots M l L2 (.int (bI (decide (a = b))) :: st)) : G K X nL cells slots M l pc (.int (nI b) :: .int (nI a) :: st) := by
  refine g_icmpN_ne pc (pc + 3) L1 F hd rfl ht ha hb (fun c => ?_) (fun c => ?_)
  · refine g_iconst L1 L2 F 0 h3 hL (by decide) ?_
    rw [decide_eq_false (p := a = b) c, bI_f] at k
    exact k
  · refine g_iconst (pc + 3) (pc + 4) F 1 h1 rfl (by decide) ?_
    refine g_goto (pc + 4) L2 F h2 ht2 ?_
    rw [decide_eq_true (p := a = b) c, bI_t] at k
    exact k

theorem g_dia_lt (pc L1 L2 : Nat) (F : Ok K X own nm cc nL ret d mc ms) {x y : Int32} {off off2 : Int} (hd : decode cc pc = .ok (.if_icmp .lt off, 3)) (ht : (pc : Int) + off = (L1 : Int)) (h1 : decode cc (pc + 3) = .ok (.iconst 1, 1)) (h2 : decode cc (pc + 4) = .ok (.goto off2, 3)) (ht2 : ((pc + 4 : Nat) : Int) + off2 = (L2 : Int)) (h3 : decode cc L1 = .ok (.iconst 0, 1)) (hL : L1 + 1 = L2) (k : G K X nL cells slots M l L2 (.int (bI (decide (y ≤ x))) :: st)) : G K X nL cells slots M l pc (.int y :: .int x :: st) := by
  refine g_icmp_lt pc (pc + 3) L1 F hd rfl ht (fun c => ?_) (fun c => ?_)
  · refine g_iconst L1 L2 F 0 h3 hL (by decide) ?_
    rw [decide_eq_false (Int32.not_le.mpr c), bI_f] at k
    exact k
  · refine g_iconst (pc + 3) (pc + 4) F 1 h1 rfl (by decide) ?_
    refine g_goto (pc + 4) L2 F h2 ht2 ?_
    rw [decide_eq_true (Int32.not_lt.mp c), bI_t] at k
    exact k

theorem g_diaZ_lt (pc L1 L2 : Nat) (F : Ok K X own nm cc nL ret d mc ms) {x : Int32} {off off2 : Int} (hd : decode cc pc = .ok (.ifCond .lt off, 3)) (ht : (pc : Int) + off = (L1 : Int)) (h1 : decode cc (pc + 3) = .ok (.iconst 1, 1)) (h2 : decode cc (pc + 4) = .ok (.goto off2, 3)) (ht2 : ((pc + 4 : Nat) : Int) + off2 = (L2 : Int)) (h3 : decode cc L1 = .ok (.iconst 0, 1)) (hL : L1 + 1 = L2) (k : G K X nL cells slots M l L2 (.int (bI (decide (0 ≤ x))) :: st)) : G K X nL cells slots M l pc (.int x :: st) := by
  refine g_if_lt pc (pc + 3) L1 F hd rfl ht (fun c => ?_) (fun c => ?_)
  · refine g_iconst L1 L2 F 0 h3 hL (by decide) ?_
    rw [decide_eq_false (Int32.not_le.mpr c), bI_f] at k
    exact k
  · refine g_iconst (pc + 3) (pc + 4) F 1 h1 rfl (by decide) ?_
    refine g_goto (pc + 4) L2 F h2 ht2 ?_
    rw [decide_eq_true (Int32.not_lt.mp c), bI_t] at k
    exact k

theorem g_diaN_lt (pc L1 L2 : Nat) (F : Ok K X own nm cc nL ret d mc ms) {a b : Nat} {off off2 : Int} (hd : decode cc pc = .ok (.if_icmp .lt off, 3)) (ht : (pc : Int) + off = (L1 : Int)) (h1 : decode cc (pc + 3) = .ok (.iconst 1, 1)) (h2 : decode cc (pc + 4) = .ok (.goto off2, 3)) (ht2 : ((pc + 4 : Nat) : Int) + off2 = (L2 : Int)) (h3 : decode cc L1 = .ok (.iconst 0, 1)) (hL : L1 + 1 = L2) (ha : a < 2 ^ 31) (hb : b < 2 ^ 31) (k : G K X nL cells slots M l L2 (.int (bI (decide (b ≤ a))) :: st)) : G K X nL cells slots M l pc (.int (nI b) :: .int (nI a) :: st) := by
  refine g_icmpN_lt pc (pc + 3) L1 F hd rfl ht ha hb (fun c => ?_) (fun c => ?_)
  · refine g_iconst L1 L2 F 0 h3 hL (by decide) ?_
    rw [decide_eq_false (p := b ≤ a) (by omega), bI_f] at k
    exact k
  · refine g_iconst (pc + 3) (pc + 4) F 1 h1 rfl (by decide) ?_
    refine g_goto (pc + 4) L2 F h2 ht2 ?_
    rw [decide_eq_true (p := b ≤ a) (by omega), bI_t] at k
    exact k

theorem g_dia_ge (pc L1 L2 : Nat) (F : Ok K X own nm cc nL ret d mc ms) {x y : Int32} {off off2 : Int} (hd : decode cc pc = .ok (.if_icmp .ge off, 3)) (ht : (pc : Int) + off = (L1 : Int)) (h1 : decode cc (pc + 3) = .ok (.iconst 1, 1)) (h2 : decode cc (pc + 4) = .ok (.goto off2, 3)) (ht2 : ((pc + 4 : Nat) : Int) + off2 = (L2 : Int)) (h3 : decode cc L1 = .ok (.iconst 0, 1)) (hL : L1 + 1 = L2) (k : G K X nL cells slots M l L2 (.int (bI (decide (x < y))) :: st)) : G K X nL cells slots M l pc (.int y :: .int x :: st) := by
  refine g_icmp_ge pc (pc + 3) L1 F hd rfl ht (fun c => ?_) (fun c => ?_)
  · refine g_iconst L1 L2 F 0 h3 hL (by decide) ?_
    rw [decide_eq_false (Int32.not_lt.mpr c), bI_f] at k
    exact k
  · refine g_iconst (pc + 3) (pc + 4) F 1 h1 rfl (by decide) ?_
    refine g_goto (pc + 4) L2 F h2 ht2 ?_
    rw [decide_eq_true (Int32.not_le.mp c), bI_t] at k
    exact k

theorem g_diaZ_ge (pc L1 L2 : Nat) (F : Ok K X own nm cc nL ret d mc ms) {x : Int32} {off off2 : Int} (hd : decode cc pc = .ok (.ifCond .ge off, 3)) (ht : (pc : Int) + off = (L1 : Int)) (h1 : decode cc (pc + 3) = .ok (.iconst 1, 1)) (h2 : decode cc (pc + 4) = .ok (.goto off2, 3)) (ht2 : ((pc + 4 : Nat) : Int) + off2 = (L2 : Int)) (h3 : decode cc L1 = .ok (.iconst 0, 1)) (hL : L1 + 1 = L2) (k : G K X nL cells slots M l L2 (.int (bI (decide (x < 0))) :: st)) : G K X nL cells slots M l pc (.int x :: st) := by
  refine g_if_ge pc (pc + 3) L1 F hd rfl ht (fun c => ?_) (fun c => ?_)
  · refine g_iconst L1 L2 F 0 h3 hL (by decide) ?_
    rw [decide_eq_false (Int32.not_lt.mpr c), bI_f] at k
    exact k
  · refine g_iconst (pc + 3) (pc + 4) F 1 h1 rfl (by decide) ?_
    refine g_goto (pc + 4) L2 F h2 ht2 ?_
    rw [decide_eq_true (Int32.not_le.mp c), bI_t] at k
    exact k

theorem g_diaN_ge (pc L1 L2 : Nat) (F : Ok K X own nm cc nL ret d mc ms) {a b : Nat} {off off2 : Int} (hd : decode cc pc = .ok (.if_icmp .ge off, 3)) (ht : (pc : Int) + off = (L1 : Int)) (h1 : decode cc (pc + 3) = .ok (.iconst 1, 1)) (h2 : decode cc (pc + 4) = .ok (.goto off2, 3)) (ht2 : ((pc + 4 : Nat) : Int) + off2 = (L2 : Int)) (h3 : decode cc L1 = .ok (.iconst 0, 1)) (hL : L1 + 1 = L2) (ha : a < 2 ^ 31) (hb : b < 2 ^ 31) (k : G K X nL cells slots M l L2 (.int (bI (decide (a < b))) :: st)) : G K X nL cells slots M l pc (.int (nI b) :: .int (nI a) :: st) := by
  refine g_icmpN_ge pc (pc + 3) L1 F hd rfl ht ha hb (fun c => ?_) (fun c => ?_)
  · refine g_iconst L1 L2 F 0 h3 hL (by decide) ?_
    rw [decide_eq_false (p := a < b) (by omega), bI_f] at k
    exact k
  · refine g_iconst (pc + 3) (pc + 4) F 1 h1 rfl (by decide) ?_
    refine g_goto (pc + 4) L2 F h2 ht2 ?_
    rw [decide_eq_true (p := a < b) (by omega), bI_t] at k
    exact k

theorem g_dia_gt (pc L1 L2 : Nat) (F : Ok K X own nm cc nL ret d mc ms) {x y : Int32} {off off2 : Int} (hd : decode cc pc = .ok (.if_icmp .gt off, 3)) (ht : (pc : Int) + off = (L1 : Int)) (h1 : decode cc (pc + 3) = .ok (.iconst 1, 1)) (h2 : decode cc (pc + 4) = .ok (.goto off2, 3)) (ht2 : ((pc + 4 : Nat) : Int) + off2 = (L2 : Int)) (h3 : decode cc L1 = .ok (.iconst 0, 1)) (hL : L1 + 1 = L2) (k : G K X nL cells slots M l L2 (.int (bI (decide (x ≤ y))) :: st)) : G K X nL cells slots M l pc (.int y :: .int x :: st) := by
  refine g_icmp_gt pc (pc + 3) L1 F hd rfl ht (fun c => ?_) (fun c => ?_)
  · refine g_iconst L1 L2 F 0 h3 hL (by decide) ?_
    rw [decide_eq_false (Int32.not_le.mpr c), bI_f] at k
    exact k
  · refine g_iconst (pc + 3) (pc + 4) F 1 h1 rfl (by decide) ?_
    refine g_goto (pc + 4) L2 F h2 ht2 ?_
    rw [decide_eq_true (Int32.not_lt.mp c), bI_t] at k
    exact k

theorem g_diaZ_gt (pc L1 L2 : Nat) (F : Ok K X own nm cc nL ret d mc ms) {x : Int32} {off off2 : Int} (hd : decode cc pc = .ok (.ifCond .gt off, 3)) (ht : (pc : Int) + off = (L1 : Int)) (h1 : decode cc (pc + 3) = .ok (.iconst 1, 1)) (h2 : decode cc (pc + 4) = .ok (.goto off2, 3)) (ht2 : ((pc + 4 : Nat) : Int) + off2 = (L2 : Int)) (h3 : decode cc L1 = .ok (.iconst 0, 1)) (hL : L1 + 1 = L2) (k : G K X nL cells slots M l L2 (.int (bI (decide (x ≤ 0))) :: st)) : G K X nL cells slots M l pc (.int x :: st) := by
  refine g_if_gt pc (pc + 3) L1 F hd rfl ht (fun c => ?_) (fun c => ?_)
  · refine g_iconst L1 L2 F 0 h3 hL (by decide) ?_
    rw [decide_eq_false (Int32.not_le.mpr c), bI_f] at k
    exact k
  · refine g_iconst (pc + 3) (pc + 4) F 1 h1 rfl (by decide) ?_
    refine g_goto (pc + 4) L2 F h2 ht2 ?_
    rw [decide_eq_true (Int32.not_lt.mp c), bI_t] at k
    exact k

theorem g_diaN_gt (pc L1 L2 : Nat) (F : Ok K X own nm cc nL ret d mc ms) {a b : Nat} {off off2 : Int} (hd : decode cc pc = .ok (.if_icmp .gt off, 3)) (ht : (pc : Int) + off = (L1 : Int)) (h1 : decode cc (pc + 3) = .ok (.iconst 1, 1)) (h2 : decode cc (pc + 4) = .ok (.goto off2, 3)) (ht2 : ((pc + 4 : Nat) : Int) + off2 = (L2 : Int)) (h3 : decode cc L1 = .ok (.iconst 0, 1)) (hL : L1 + 1 = L2) (ha : a < 2 ^ 31) (hb : b < 2 ^ 31) (k : G K X nL cells slots M l L2 (.int (bI (decide (a ≤ b))) :: st)) : G K X nL cells slots M l pc (.int (nI b) :: .int (nI a) :: st) := by
  refine g_icmpN_gt pc (pc + 3) L1 F hd rfl ht ha hb (fun c => ?_) (fun c => ?_)
  · refine g_iconst L1 L2 F 0 h3 hL (by decide) ?_
    rw [decide_eq_false (p := a ≤ b) (by omega), bI_f] at k
    exact k
  · refine g_iconst (pc + 3) (pc + 4) F 1 h1 rfl (by decide) ?_
    refine g_goto (pc + 4) L2 F h2 ht2 ?_
    rw [decide_eq_true (p := a ≤ b) (by omega), bI_t] at k
    exact k

theorem g_dia_le (pc L1 L2 : Nat) (F : Ok K X own nm cc nL ret d mc ms) {x y : Int32} {off off2 : Int} (hd : decode cc pc = .ok (.if_icmp .le off, 3)) (ht : (pc : Int) + off = (L1 : Int)) (h1 : decode cc (pc + 3) = .ok (.iconst 1, 1)) (h2 : decode cc (pc + 4) = .ok (.goto off2, 3)) (ht2 : ((pc + 4 : Nat) : Int) + off2 = (L2 : Int)) (h3 : decode cc L1 = .ok (.iconst 0, 1)) (hL : L1 + 1 = L2) (k : G K X nL cells slots M l L2 (.int (bI (decide (y < x))) :: st)) : G K X nL cells slots M l pc (.int y :: .int x :: st) := by
  refine g_icmp_le pc (pc + 3) L1 F hd rfl ht (fun c => ?_) (fun c => ?_)
  · refine g_iconst L1 L2 F 0 h3 hL (by decide) ?_
    rw [decide_eq_false (Int32.not_lt.mpr c), bI_f] at k
    exact k
  · refine g_iconst (pc + 3) (pc + 4) F 1 h1 rfl (by decide) ?_
    refine g_goto (pc + 4) L2 F h2 ht2 ?_
    rw [decide_eq_true (Int32.not_le.mp c), bI_t] at k
    exact k

theorem g_diaZ_le (pc L1 L2 : Nat) (F : Ok K X own nm cc nL ret d mc ms) {x : Int32} {off off2 : Int} (hd : decode cc pc = .ok (.ifCond .le off, 3)) (ht : (pc : Int) + off = (L1 : Int)) (h1 : decode cc (pc + 3) = .ok (.iconst 1, 1)) (h2 : decode cc (pc + 4) = .ok (.goto off2, 3)) (ht2 : ((pc + 4 : Nat) : Int) + off2 = (L2 : Int)) (h3 : decode cc L1 = .ok (.iconst 0, 1)) (hL : L1 + 1 = L2) (k : G K X nL cells slots M l L2 (.int (bI (decide (0 < x))) :: st)) : G K X nL cells slots M l pc (.int x :: st) := by
  refine g_if_le pc (pc + 3) L1 F hd rfl ht (fun c => ?_) (fun c => ?_)
  · refine g_iconst L1 L2 F 0 h3 hL (by decide) ?_
    rw [decide_eq_false (Int32.not_lt.mpr c), bI_f] at k
    exact k
  · refine g_iconst (pc + 3) (pc + 4) F 1 h1 rfl (by decide) ?_
    refine g_goto (pc + 4) L2 F h2 ht2 ?_
    rw [decide_eq_true (Int32.not_le.mp c), bI_t] at k
    exact k

theorem g_diaN_le (pc L1 L2 : Nat) (F : Ok K X own nm cc nL ret d mc ms) {a b : Nat} {off off2 : Int} (hd : decode cc pc = .ok (.if_icmp .le off, 3)) (ht : (pc : Int) + off = (L1 : Int)) (h1 : decode cc (pc + 3) = .ok (.iconst 1, 1)) (h2 : decode cc (pc + 4) = .ok (.goto off2, 3)) (ht2 : ((pc + 4 : Nat) : Int) + off2 = (L2 : Int)) (h3 : decode cc L1 = .ok (.iconst 0, 1)) (hL : L1 + 1 = L2) (ha : a < 2 ^ 31) (hb : b < 2 ^ 31) (k : G K X nL cells slots M l L2 (.int (bI (decide (b < a))) :: st)) : G K X nL cells slots M l pc (.int (nI b) :: .int (nI a) :: st) := by
  refine g_icmpN_le pc (pc + 3) L1 F hd rfl ht ha hb (fun c => ?_) (fun c => ?_)
  · refine g_iconst L1 L2 F 0 h3 hL (by decide) ?_
    rw [decide_eq_false (p := b < a) (by omega), bI_f] at k
    exact k
  · refine g_iconst (pc + 3) (pc + 4) F 1 h1 rfl (by decide) ?_
    refine g_goto (pc + 4) L2 F h2 ht2 ?_
    rw [decide_eq_true (p := b < a) (by omega), bI_t] at k
    exact k

theorem g_diaB_eq (pc L1 L2 : Nat) (F : Ok K X own nm cc nL ret d mc ms) {b : Bool} {off off2 : Int} (hd : decode cc pc = .ok (.ifCond .eq off, 3)) (ht : (pc : Int) + off = (L1 : Int)) (h1 : decode cc (pc + 3) = .ok (.iconst 1, 1)) (h2 : decode cc (pc + 4) = .ok (.goto off2, 3)) (ht2 : ((pc + 4 : Nat) : Int) + off2 = (L2 : Int)) (h3 : decode cc L1 = .ok (.iconst 0, 1)) (hL : L1 + 1 = L2) (k : G K X nL cells slots M l L2 (.int (bI (b)) :: st)) : G K X nL cells slots M l pc (.int (bI b) :: st) := by
  refine g_ifB_eq pc (pc + 3) L1 F hd rfl ht (fun c => ?_) (fun c => ?_)
  · refine g_iconst L1 L2 F 0 h3 hL (by decide) ?_
    rw [c, bI_f] at k
    exact k
  · refine g_iconst (pc + 3) (pc + 4) F 1 h1 rfl (by decide) ?_
    refine g_goto (pc + 4) L2 F h2 ht2 ?_
    rw [c, bI_t] at k
    exact k

theorem g_diaB_ne (pc L1 L2 : Nat) (F : Ok K X own nm cc nL ret d mc ms) {b : Bool} {off off2 : Int} (hd : decode cc pc = .ok (.ifCond .ne off, 3)) (ht : (pc : Int) + off = (L1 : Int)) (h1 : decode cc (pc + 3) = .ok (.iconst 1, 1)) (h2 : decode cc (pc + 4) = .ok (.goto off2, 3)) (ht2 : ((pc + 4 : Nat) : Int) + off2 = (L2 : Int)) (h3 : decode cc L1 = .ok (.iconst 0, 1)) (hL : L1 + 1 = L2) (k : G K X nL cells slots M l L2 (.int (bI (!b)) :: st)) : G K X nL cells slots M l pc (.int (bI b) :: st) := by
  refine g_ifB_ne pc (pc + 3) L1 F hd rfl ht (fun c => ?_) (fun c => ?_)
  · refine g_iconst L1 L2 F 0 h3 hL (by decide) ?_
    rw [c, Bool.not_true, bI_f] at k
    exact k
  · refine g_iconst (pc + 3) (pc + 4) F 1 h1 rfl (by decide) ?_
    refine g_goto (pc + 4) L2 F h2 ht2 ?_
    rw [c, Bool.not_false, bI_t] at k
    exact k

theorem g_ifN_eq (pc pc' tgt : Nat) (F : Ok K X own nm cc nL ret d mc ms) {a : Nat} {off : Int} (hd : decode cc pc = .ok (.ifCond .eq off, 3)) (h' : pc + 3 = pc') (ht : (pc : Int) + off = (tgt : Int)) (ha : a < 2 ^ 31) (kt : a = 0 → G K X nL cells slots M l tgt st) (kf : ¬ a = 0 → G K X nL cells slots M l pc' st) : G K X nL cells slots M l pc (.int (nI a) :: st) :=
  g_if_eq pc pc' tgt F hd h' ht (fun q => kt ((nI_eq ha (by decide)).mp q)) (fun q => kf (fun e => q (by rw [e]; rfl)))
theorem g_ifN_ne (pc pc' tgt : Nat) (F : Ok K X own nm cc nL ret d mc ms) {a : Nat} {off : Int} (hd : decode cc pc = .ok (.ifCond .ne off, 3)) (h' : pc + 3 = pc') (ht : (pc : Int) + off = (tgt : Int)) (ha : a < 2 ^ 31) (kt : ¬ a = 0 → G K X nL cells slots M l tgt st) (kf : a = 0 → G K X nL cells slots M l pc' st) : G K X nL cells slots M l pc (.int (nI a) :: st) :=
  g_if_ne pc pc' tgt F hd h' ht (fun q => kt (fun e => q (by rw [e]; rfl))) (fun q => kf ((nI_eq ha (by decide)).mp q))
theorem g_ifN_lt (pc pc' tgt : Nat) (F : Ok K X own nm cc nL ret d mc ms) {a : Nat} {off : Int} (hd : decode cc pc = .ok (.ifCond .lt off, 3)) (h' : pc + 3 = pc') (ht : (pc : Int) + off = (tgt : Int)) (ha : a < 2 ^ 31) (kt : False → G K X nL cells slots M l tgt st) (kf : True → G K X nL cells slots M l pc' st) : G K X nL cells slots M l pc (.int (nI a) :: st) :=
  g_if_lt pc pc' tgt F hd h' ht (fun q => kt (nI_pos ha q)) (fun q => kf (trivial))
theorem g_ifN_ge (pc pc' tgt : Nat) (F : Ok K X own nm cc nL ret d mc ms) {a : Nat} {off : Int} (hd : decode cc pc = .ok (.ifCond .ge off, 3)) (h' : pc + 3 = pc') (ht : (pc : Int) + off = (tgt : Int)) (ha : a < 2 ^ 31) (kt : True → G K X nL cells slots M l tgt st) (kf : False → G K X nL cells slots M l pc' st) : G K X nL cells slots M l pc (.int (nI a) :: st) :=
  g_if_ge pc pc' tgt F hd h' ht (fun q => kt (trivial)) (fun q => kf (q (nI_pos' ha)))
theorem g_ifN_gt (pc pc' tgt : Nat) (F : Ok K X own nm cc nL ret d mc ms) {a : Nat} {off : Int} (hd : decode cc pc = .ok (.ifCond .gt off, 3)) (h' : pc + 3 = pc') (ht : (pc : Int) + off = (tgt : Int)) (ha : a < 2 ^ 31) (kt : 0 < a → G K X nL cells slots M l tgt st) (kf : a = 0 → G K X nL cells slots M l pc' st) : G K X nL cells slots M l pc (.int (nI a) :: st) :=
  g_if_gt pc pc' tgt F hd h' ht (fun q => kt ((nI_ltI (by decide) ha).mp q)) (fun q => kf (Nat.eq_zero_of_not_pos (fun e => q ((nI_ltI (by decide) ha).mpr e))))
theorem g_ifN_le (pc pc' tgt : Nat) (F : Ok K X own nm cc nL ret d mc ms) {a : Nat} {off : Int} (hd : decode cc pc = .ok (.ifCond .le off, 3)) (h' : pc + 3 = pc') (ht : (pc : Int) + off = (tgt : Int)) (ha : a < 2 ^ 31) (kt : a = 0 → G K X nL cells slots M l tgt st) (kf : 0 < a → G K X nL cells slots M l pc' st) : G K X nL cells slots M l pc (.int (nI a) :: st) :=
  g_if_le pc pc' tgt F hd h' ht (fun q => kt (Nat.le_zero.mp ((nI_leI ha (by decide)).mp q))) (fun q => kf (Nat.pos_of_ne_zero (fun e => q (by rw [e]; decide))))
theorem g_diaZN_eq (pc L1 L2 : Nat) (F : Ok K X own nm cc nL ret d mc ms) {a : Nat} {off off2 : Int} (hd : decode cc pc = .ok (.ifCond .eq off, 3)) (ht : (pc : Int) + off = (L1 : Int)) (h1 : decode cc (pc + 3) = .ok (.iconst 1, 1)) (h2 : decode cc (pc + 4) = .ok (.goto off2, 3)) (ht2 : ((pc + 4 : Nat) : Int) + off2 = (L2 : Int)) (h3 : decode cc L1 = .ok (.iconst 0, 1)) (hL : L1 + 1 = L2) (ha : a < 2 ^ 31) (k : G K X nL cells slots M l L2 (.int (bI (decide (¬ a = 0))) :: st)) : G K X nL cells slots M l pc (.int (nI a) :: st) := by
  refine g_ifN_eq pc (pc + 3) L1 F hd rfl ht ha (fun c => ?_) (fun c => ?_)
  · refine g_iconst L1 L2 F 0 h3 hL (by decide) ?_
    rw [decide_eq_false (p := ¬ a = 0) (fun h => h c), bI_f] at k
    exact k
  · refine g_iconst (pc + 3) (pc + 4) F 1 h1 rfl (by decide) ?_
    refine g_goto (pc + 4) L2 F h2 ht2 ?_
    rw [decide_eq_true (p := ¬ a = 0) c, bI_t] at k
    exact k

theorem g_diaZN_ne (pc L1 L2 : Nat) (F : Ok K X own nm cc nL ret d mc ms) {a : Nat} {off off2 : Int} (hd : decode cc pc = .ok (.ifCond .ne off, 3)) (ht : (pc : Int) + off = (L1 : Int)) (h1 : decode cc (pc + 3) = .ok (.iconst 1, 1)) (h2 : decode cc (pc + 4) = .ok (.goto off2, 3)) (ht2 : ((pc + 4 : Nat) : Int) + off2 = (L2 : Int)) (h3 : decode cc L1 = .ok (.iconst 0, 1)) (hL : L1 + 1 = L2) (ha : a < 2 ^ 31) (k : G K X nL cells slots M l L2 (.int (bI (decide (a = 0))) :: st)) : G K X nL cells slots M l pc (.int (nI a) :: st) := by
  refine g_ifN_ne pc (pc + 3) L1 F hd rfl ht ha (fun c => ?_) (fun c => ?_)
  · refine g_iconst L1 L2 F 0 h3 hL (by decide) ?_
    rw [decide_eq_false (p := a = 0) c, bI_f] at k
    exact k
  · refine g_iconst (pc + 3) (pc + 4) F 1 h1 rfl (by decide) ?_
    refine g_goto (pc + 4) L2 F h2 ht2 ?_
    rw [decide_eq_true (p := a = 0) c, bI_t] at k
    exact k

end DIA
