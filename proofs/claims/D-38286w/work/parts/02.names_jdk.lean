/-! DECODE ROWS BY BYTES: one lemma an opcode; a method's code is cut into short pieces once, and a row reads its own piece alone. -/
set_option maxRecDepth 100000
/-- the code has just these bytes from pc on -/
def DkAt (code : ByteArray) (pc : Nat) (bs : List UInt8) : Prop := ∀ (j : Nat) (b : UInt8), bs[j]? = some b → code.data.toList[pc + j]? = some b
/-- the piece W has the bytes bs from its place j on -/
def dkIn (W : List UInt8) (j : Nat) (bs : List UInt8) : Bool := decide ((W.drop j).take bs.length = bs)
theorem dk_seg {l W T : List UInt8} {o o2 : Nat} (h : l.drop o = W ++ T) (n : Nat) (hn : W.length = n) (ho : o + n = o2) : l.drop o2 = T := by
  subst ho
  rw [← List.drop_drop, h, List.drop_left' hn]
theorem dk_at {code : ByteArray} {W T bs : List UInt8} {o pc : Nat} (h : code.data.toList.drop o = W ++ T) (j : Nat) (hp : o + j = pc) (hw : dkIn W j bs = true) : DkAt code pc bs := by
  subst hp
  intro i b e
  have h1 := of_decide_eq_true hw
  have h2 : i < bs.length := (List.getElem?_eq_some_iff.mp e).1
  have h3 : W[j + i]? = some b := by
    rw [← h1, List.getElem?_take, if_pos h2, List.getElem?_drop] at e
    exact e
  have h4 : j + i < W.length := (List.getElem?_eq_some_iff.mp h3).1
  have h5 : (code.data.toList.drop o)[j + i]? = some b := by
    rw [h, List.getElem?_append_left h4]
    exact h3
  rw [List.getElem?_drop, ← Nat.add_assoc] at h5
  exact h5
theorem dk_u1 {A : ByteArray} {p : Nat} {b : UInt8} (h : A.data.toList[p]? = some b) : (Reader.u1 : Reader DecodeError Nat) A p = .ok (b.toNat, p + 1) := by
  obtain ⟨h1, h2⟩ := List.getElem?_eq_some_iff.mp h
  have h3 : p < A.size := by simpa using h1
  have h4 : A[p]'h3 = b := h2
  have e : (Reader.u1 : Reader DecodeError Nat) A p = (if h : p < A.size then .ok (A[p].toNat, p + 1) else .error (HasTruncated.truncated p)) := by
    show (do if h : p < A.size then do set (p + 1); Pure.pure A[p].toNat else MonadExcept.throw (HasTruncated.truncated p) : Reader DecodeError Nat) A p = _
    by_cases hi : p < A.size
    · rw [dif_pos hi, dif_pos hi]; rfl
    · rw [dif_neg hi, dif_neg hi]; rfl
  rw [e, dif_pos h3, h4]
theorem dk_bind {α β : Type} {r : Reader DecodeError α} {f : α → Reader DecodeError β} {A : ByteArray} {p s : Nat} {a : α} (h : r A p = .ok (a, s)) : (r >>= f) A p = f a A s := by
  show (do let (a, s) ← r A p; f a A s : Except DecodeError (β × Nat)) = _
  rw [h]
  rfl
theorem dk_map {α β : Type} {r : Reader DecodeError α} {g : α → β} {A : ByteArray} {p s : Nat} {a : α} (h : r A p = .ok (a, s)) : (g <$> r) A p = .ok (g a, s) := by
  show (do let (a, s) ← r A p; .ok (g a, s) : Except DecodeError (β × Nat)) = _
  rw [h]
  rfl
theorem dk_u2 {A : ByteArray} {p : Nat} {a b : UInt8} (h : A.data.toList[p]? = some a) (h2 : A.data.toList[p + 1]? = some b) : (Reader.u2 : Reader DecodeError Nat) A p = .ok (a.toNat * 256 + b.toNat, p + 2) := by
  show (Reader.u1 >>= fun hi => Reader.u1 >>= fun lo => Pure.pure (hi * 256 + lo) : Reader DecodeError Nat) A p = _
  rw [dk_bind (dk_u1 h), dk_bind (dk_u1 h2)]
  rfl
theorem dk_of {code : ByteArray} {pc n : Nat} {i : Instr} (h : Decoder.instr pc code pc = .ok (i, pc + n)) : decode code pc = .ok (i, n) := by
  have e : decode code pc = (match Decoder.instr pc code pc with | .error x => .error x | .ok (j, s) => .ok (j, s - pc)) := by
    show (do let (j, s) ← Decoder.instr pc code pc; Pure.pure (j, s - pc) : Except DecodeError (Instr × Nat)) = _
    cases Decoder.instr pc code pc <;> rfl
  rw [e, h]
  show Except.ok (i, pc + n - pc) = _
  rw [Nat.add_sub_cancel_left]
theorem dk_1 {code : ByteArray} {pc : Nat} (h : DkAt code pc [1]) : decode code pc = .ok (.aconst_null, 1) := dk_of ((dk_bind (dk_u1 (h 0 _ rfl))).trans rfl)
theorem dk_2 {code : ByteArray} {pc : Nat} (h : DkAt code pc [2]) : decode code pc = .ok (.iconst (-1), 1) := dk_of ((dk_bind (dk_u1 (h 0 _ rfl))).trans rfl)
theorem dk_3 {code : ByteArray} {pc : Nat} (h : DkAt code pc [3]) : decode code pc = .ok (.iconst 0, 1) := dk_of ((dk_bind (dk_u1 (h 0 _ rfl))).trans rfl)
theorem dk_4 {code : ByteArray} {pc : Nat} (h : DkAt code pc [4]) : decode code pc = .ok (.iconst 1, 1) := dk_of ((dk_bind (dk_u1 (h 0 _ rfl))).trans rfl)
theorem dk_5 {code : ByteArray} {pc : Nat} (h : DkAt code pc [5]) : decode code pc = .ok (.iconst 2, 1) := dk_of ((dk_bind (dk_u1 (h 0 _ rfl))).trans rfl)
theorem dk_6 {code : ByteArray} {pc : Nat} (h : DkAt code pc [6]) : decode code pc = .ok (.iconst 3, 1) := dk_of ((dk_bind (dk_u1 (h 0 _ rfl))).trans rfl)
theorem dk_7 {code : ByteArray} {pc : Nat} (h : DkAt code pc [7]) : decode code pc = .ok (.iconst 4, 1) := dk_of ((dk_bind (dk_u1 (h 0 _ rfl))).trans rfl)
theorem dk_8 {code : ByteArray} {pc : Nat} (h : DkAt code pc [8]) : decode code pc = .ok (.iconst 5, 1) := dk_of ((dk_bind (dk_u1 (h 0 _ rfl))).trans rfl)
theorem dk_9 {code : ByteArray} {pc : Nat} (h : DkAt code pc [9]) : decode code pc = .ok (.lconst 0, 1) := dk_of ((dk_bind (dk_u1 (h 0 _ rfl))).trans rfl)
theorem dk_10 {code : ByteArray} {pc : Nat} (h : DkAt code pc [10]) : decode code pc = .ok (.lconst 1, 1) := dk_of ((dk_bind (dk_u1 (h 0 _ rfl))).trans rfl)
theorem dk_14 {code : ByteArray} {pc : Nat} (h : DkAt code pc [14]) : decode code pc = .ok (.dconst 0, 1) := dk_of ((dk_bind (dk_u1 (h 0 _ rfl))).trans rfl)
theorem dk_16 {code : ByteArray} {pc : Nat} (a : UInt8) (h : DkAt code pc [16, a]) : decode code pc = .ok (.bipush (Reader.signed 8 a.toNat), 2) := dk_of ((dk_bind (dk_u1 (h 0 _ rfl))).trans ((dk_bind (dk_map (dk_u1 (h 1 _ rfl)))).trans rfl))
theorem dk_17 {code : ByteArray} {pc : Nat} (a b : UInt8) (h : DkAt code pc [17, a, b]) : decode code pc = .ok (.sipush (Reader.signed 16 (a.toNat * 256 + b.toNat)), 3) := dk_of ((dk_bind (dk_u1 (h 0 _ rfl))).trans ((dk_bind (dk_map (dk_u2 (h 1 _ rfl) (h 2 _ rfl)))).trans rfl))
theorem dk_18 {code : ByteArray} {pc : Nat} (a : UInt8) (h : DkAt code pc [18, a]) : decode code pc = .ok (.ldc a.toNat, 2) := dk_of ((dk_bind (dk_u1 (h 0 _ rfl))).trans ((dk_bind (dk_u1 (h 1 _ rfl))).trans rfl))
theorem dk_19 {code : ByteArray} {pc : Nat} (a b : UInt8) (h : DkAt code pc [19, a, b]) : decode code pc = .ok (.ldc_w (a.toNat * 256 + b.toNat), 3) := dk_of ((dk_bind (dk_u1 (h 0 _ rfl))).trans ((dk_bind (dk_u2 (h 1 _ rfl) (h 2 _ rfl))).trans rfl))
theorem dk_20 {code : ByteArray} {pc : Nat} (a b : UInt8) (h : DkAt code pc [20, a, b]) : decode code pc = .ok (.ldc2_w (a.toNat * 256 + b.toNat), 3) := dk_of ((dk_bind (dk_u1 (h 0 _ rfl))).trans ((dk_bind (dk_u2 (h 1 _ rfl) (h 2 _ rfl))).trans rfl))
theorem dk_21 {code : ByteArray} {pc : Nat} (a : UInt8) (h : DkAt code pc [21, a]) : decode code pc = .ok (.iload a.toNat, 2) := dk_of ((dk_bind (dk_u1 (h 0 _ rfl))).trans ((dk_bind (dk_u1 (h 1 _ rfl))).trans rfl))
theorem dk_22 {code : ByteArray} {pc : Nat} (a : UInt8) (h : DkAt code pc [22, a]) : decode code pc = .ok (.lload a.toNat, 2) := dk_of ((dk_bind (dk_u1 (h 0 _ rfl))).trans ((dk_bind (dk_u1 (h 1 _ rfl))).trans rfl))
theorem dk_24 {code : ByteArray} {pc : Nat} (a : UInt8) (h : DkAt code pc [24, a]) : decode code pc = .ok (.dload a.toNat, 2) := dk_of ((dk_bind (dk_u1 (h 0 _ rfl))).trans ((dk_bind (dk_u1 (h 1 _ rfl))).trans rfl))
theorem dk_25 {code : ByteArray} {pc : Nat} (a : UInt8) (h : DkAt code pc [25, a]) : decode code pc = .ok (.aload a.toNat, 2) := dk_of ((dk_bind (dk_u1 (h 0 _ rfl))).trans ((dk_bind (dk_u1 (h 1 _ rfl))).trans rfl))
theorem dk_26 {code : ByteArray} {pc : Nat} (h : DkAt code pc [26]) : decode code pc = .ok (.iload_n 0, 1) := dk_of ((dk_bind (dk_u1 (h 0 _ rfl))).trans rfl)
theorem dk_27 {code : ByteArray} {pc : Nat} (h : DkAt code pc [27]) : decode code pc = .ok (.iload_n 1, 1) := dk_of ((dk_bind (dk_u1 (h 0 _ rfl))).trans rfl)
theorem dk_28 {code : ByteArray} {pc : Nat} (h : DkAt code pc [28]) : decode code pc = .ok (.iload_n 2, 1) := dk_of ((dk_bind (dk_u1 (h 0 _ rfl))).trans rfl)
theorem dk_29 {code : ByteArray} {pc : Nat} (h : DkAt code pc [29]) : decode code pc = .ok (.iload_n 3, 1) := dk_of ((dk_bind (dk_u1 (h 0 _ rfl))).trans rfl)
theorem dk_30 {code : ByteArray} {pc : Nat} (h : DkAt code pc [30]) : decode code pc = .ok (.lload_n 0, 1) := dk_of ((dk_bind (dk_u1 (h 0 _ rfl))).trans rfl)
theorem dk_31 {code : ByteArray} {pc : Nat} (h : DkAt code pc [31]) : decode code pc = .ok (.lload_n 1, 1) := dk_of ((dk_bind (dk_u1 (h 0 _ rfl))).trans rfl)
theorem dk_32 {code : ByteArray} {pc : Nat} (h : DkAt code pc [32]) : decode code pc = .ok (.lload_n 2, 1) := dk_of ((dk_bind (dk_u1 (h 0 _ rfl))).trans rfl)
theorem dk_33 {code : ByteArray} {pc : Nat} (h : DkAt code pc [33]) : decode code pc = .ok (.lload_n 3, 1) := dk_of ((dk_bind (dk_u1 (h 0 _ rfl))).trans rfl)
theorem dk_40 {code : ByteArray} {pc : Nat} (h : DkAt code pc [40]) : decode code pc = .ok (.dload_n 2, 1) := dk_of ((dk_bind (dk_u1 (h 0 _ rfl))).trans rfl)
theorem dk_41 {code : ByteArray} {pc : Nat} (h : DkAt code pc [41]) : decode code pc = .ok (.dload_n 3, 1) := dk_of ((dk_bind (dk_u1 (h 0 _ rfl))).trans rfl)
theorem dk_42 {code : ByteArray} {pc : Nat} (h : DkAt code pc [42]) : decode code pc = .ok (.aload_n 0, 1) := dk_of ((dk_bind (dk_u1 (h 0 _ rfl))).trans rfl)
theorem dk_43 {code : ByteArray} {pc : Nat} (h : DkAt code pc [43]) : decode code pc = .ok (.aload_n 1, 1) := dk_of ((dk_bind (dk_u1 (h 0 _ rfl))).trans rfl)
theorem dk_44 {code : ByteArray} {pc : Nat} (h : DkAt code pc [44]) : decode code pc = .ok (.aload_n 2, 1) := dk_of ((dk_bind (dk_u1 (h 0 _ rfl))).trans rfl)
theorem dk_45 {code : ByteArray} {pc : Nat} (h : DkAt code pc [45]) : decode code pc = .ok (.aload_n 3, 1) := dk_of ((dk_bind (dk_u1 (h 0 _ rfl))).trans rfl)
theorem dk_46 {code : ByteArray} {pc : Nat} (h : DkAt code pc [46]) : decode code pc = .ok (.iaload, 1) := dk_of ((dk_bind (dk_u1 (h 0 _ rfl))).trans rfl)
theorem dk_50 {code : ByteArray} {pc : Nat} (h : DkAt code pc [50]) : decode code pc = .ok (.aaload, 1) := dk_of ((dk_bind (dk_u1 (h 0 _ rfl))).trans rfl)
theorem dk_51 {code : ByteArray} {pc : Nat} (h : DkAt code pc [51]) : decode code pc = .ok (.baload, 1) := dk_of ((dk_bind (dk_u1 (h 0 _ rfl))).trans rfl)
theorem dk_54 {code : ByteArray} {pc : Nat} (a : UInt8) (h : DkAt code pc [54, a]) : decode code pc = .ok (.istore a.toNat, 2) := dk_of ((dk_bind (dk_u1 (h 0 _ rfl))).trans ((dk_bind (dk_u1 (h 1 _ rfl))).trans rfl))
theorem dk_55 {code : ByteArray} {pc : Nat} (a : UInt8) (h : DkAt code pc [55, a]) : decode code pc = .ok (.lstore a.toNat, 2) := dk_of ((dk_bind (dk_u1 (h 0 _ rfl))).trans ((dk_bind (dk_u1 (h 1 _ rfl))).trans rfl))
theorem dk_57 {code : ByteArray} {pc : Nat} (a : UInt8) (h : DkAt code pc [57, a]) : decode code pc = .ok (.dstore a.toNat, 2) := dk_of ((dk_bind (dk_u1 (h 0 _ rfl))).trans ((dk_bind (dk_u1 (h 1 _ rfl))).trans rfl))
theorem dk_58 {code : ByteArray} {pc : Nat} (a : UInt8) (h : DkAt code pc [58, a]) : decode code pc = .ok (.astore a.toNat, 2) := dk_of ((dk_bind (dk_u1 (h 0 _ rfl))).trans ((dk_bind (dk_u1 (h 1 _ rfl))).trans rfl))
theorem dk_59 {code : ByteArray} {pc : Nat} (h : DkAt code pc [59]) : decode code pc = .ok (.istore_n 0, 1) := dk_of ((dk_bind (dk_u1 (h 0 _ rfl))).trans rfl)
theorem dk_60 {code : ByteArray} {pc : Nat} (h : DkAt code pc [60]) : decode code pc = .ok (.istore_n 1, 1) := dk_of ((dk_bind (dk_u1 (h 0 _ rfl))).trans rfl)
theorem dk_61 {code : ByteArray} {pc : Nat} (h : DkAt code pc [61]) : decode code pc = .ok (.istore_n 2, 1) := dk_of ((dk_bind (dk_u1 (h 0 _ rfl))).trans rfl)
theorem dk_62 {code : ByteArray} {pc : Nat} (h : DkAt code pc [62]) : decode code pc = .ok (.istore_n 3, 1) := dk_of ((dk_bind (dk_u1 (h 0 _ rfl))).trans rfl)
theorem dk_63 {code : ByteArray} {pc : Nat} (h : DkAt code pc [63]) : decode code pc = .ok (.lstore_n 0, 1) := dk_of ((dk_bind (dk_u1 (h 0 _ rfl))).trans rfl)
theorem dk_64 {code : ByteArray} {pc : Nat} (h : DkAt code pc [64]) : decode code pc = .ok (.lstore_n 1, 1) := dk_of ((dk_bind (dk_u1 (h 0 _ rfl))).trans rfl)
theorem dk_65 {code : ByteArray} {pc : Nat} (h : DkAt code pc [65]) : decode code pc = .ok (.lstore_n 2, 1) := dk_of ((dk_bind (dk_u1 (h 0 _ rfl))).trans rfl)
theorem dk_66 {code : ByteArray} {pc : Nat} (h : DkAt code pc [66]) : decode code pc = .ok (.lstore_n 3, 1) := dk_of ((dk_bind (dk_u1 (h 0 _ rfl))).trans rfl)
theorem dk_73 {code : ByteArray} {pc : Nat} (h : DkAt code pc [73]) : decode code pc = .ok (.dstore_n 2, 1) := dk_of ((dk_bind (dk_u1 (h 0 _ rfl))).trans rfl)
theorem dk_74 {code : ByteArray} {pc : Nat} (h : DkAt code pc [74]) : decode code pc = .ok (.dstore_n 3, 1) := dk_of ((dk_bind (dk_u1 (h 0 _ rfl))).trans rfl)
theorem dk_75 {code : ByteArray} {pc : Nat} (h : DkAt code pc [75]) : decode code pc = .ok (.astore_n 0, 1) := dk_of ((dk_bind (dk_u1 (h 0 _ rfl))).trans rfl)
theorem dk_76 {code : ByteArray} {pc : Nat} (h : DkAt code pc [76]) : decode code pc = .ok (.astore_n 1, 1) := dk_of ((dk_bind (dk_u1 (h 0 _ rfl))).trans rfl)
theorem dk_77 {code : ByteArray} {pc : Nat} (h : DkAt code pc [77]) : decode code pc = .ok (.astore_n 2, 1) := dk_of ((dk_bind (dk_u1 (h 0 _ rfl))).trans rfl)
theorem dk_78 {code : ByteArray} {pc : Nat} (h : DkAt code pc [78]) : decode code pc = .ok (.astore_n 3, 1) := dk_of ((dk_bind (dk_u1 (h 0 _ rfl))).trans rfl)
theorem dk_79 {code : ByteArray} {pc : Nat} (h : DkAt code pc [79]) : decode code pc = .ok (.iastore, 1) := dk_of ((dk_bind (dk_u1 (h 0 _ rfl))).trans rfl)
theorem dk_83 {code : ByteArray} {pc : Nat} (h : DkAt code pc [83]) : decode code pc = .ok (.aastore, 1) := dk_of ((dk_bind (dk_u1 (h 0 _ rfl))).trans rfl)
theorem dk_84 {code : ByteArray} {pc : Nat} (h : DkAt code pc [84]) : decode code pc = .ok (.bastore, 1) := dk_of ((dk_bind (dk_u1 (h 0 _ rfl))).trans rfl)
theorem dk_87 {code : ByteArray} {pc : Nat} (h : DkAt code pc [87]) : decode code pc = .ok (.pop, 1) := dk_of ((dk_bind (dk_u1 (h 0 _ rfl))).trans rfl)
theorem dk_89 {code : ByteArray} {pc : Nat} (h : DkAt code pc [89]) : decode code pc = .ok (.dup, 1) := dk_of ((dk_bind (dk_u1 (h 0 _ rfl))).trans rfl)
theorem dk_90 {code : ByteArray} {pc : Nat} (h : DkAt code pc [90]) : decode code pc = .ok (.dup_x1, 1) := dk_of ((dk_bind (dk_u1 (h 0 _ rfl))).trans rfl)
theorem dk_92 {code : ByteArray} {pc : Nat} (h : DkAt code pc [92]) : decode code pc = .ok (.dup2, 1) := dk_of ((dk_bind (dk_u1 (h 0 _ rfl))).trans rfl)
theorem dk_96 {code : ByteArray} {pc : Nat} (h : DkAt code pc [96]) : decode code pc = .ok (.iadd, 1) := dk_of ((dk_bind (dk_u1 (h 0 _ rfl))).trans rfl)
theorem dk_97 {code : ByteArray} {pc : Nat} (h : DkAt code pc [97]) : decode code pc = .ok (.ladd, 1) := dk_of ((dk_bind (dk_u1 (h 0 _ rfl))).trans rfl)
theorem dk_100 {code : ByteArray} {pc : Nat} (h : DkAt code pc [100]) : decode code pc = .ok (.isub, 1) := dk_of ((dk_bind (dk_u1 (h 0 _ rfl))).trans rfl)
theorem dk_101 {code : ByteArray} {pc : Nat} (h : DkAt code pc [101]) : decode code pc = .ok (.lsub, 1) := dk_of ((dk_bind (dk_u1 (h 0 _ rfl))).trans rfl)
theorem dk_104 {code : ByteArray} {pc : Nat} (h : DkAt code pc [104]) : decode code pc = .ok (.imul, 1) := dk_of ((dk_bind (dk_u1 (h 0 _ rfl))).trans rfl)
theorem dk_105 {code : ByteArray} {pc : Nat} (h : DkAt code pc [105]) : decode code pc = .ok (.lmul, 1) := dk_of ((dk_bind (dk_u1 (h 0 _ rfl))).trans rfl)
theorem dk_107 {code : ByteArray} {pc : Nat} (h : DkAt code pc [107]) : decode code pc = .ok (.dmul, 1) := dk_of ((dk_bind (dk_u1 (h 0 _ rfl))).trans rfl)
theorem dk_108 {code : ByteArray} {pc : Nat} (h : DkAt code pc [108]) : decode code pc = .ok (.idiv, 1) := dk_of ((dk_bind (dk_u1 (h 0 _ rfl))).trans rfl)
theorem dk_111 {code : ByteArray} {pc : Nat} (h : DkAt code pc [111]) : decode code pc = .ok (.ddiv, 1) := dk_of ((dk_bind (dk_u1 (h 0 _ rfl))).trans rfl)
theorem dk_112 {code : ByteArray} {pc : Nat} (h : DkAt code pc [112]) : decode code pc = .ok (.irem, 1) := dk_of ((dk_bind (dk_u1 (h 0 _ rfl))).trans rfl)
theorem dk_116 {code : ByteArray} {pc : Nat} (h : DkAt code pc [116]) : decode code pc = .ok (.ineg, 1) := dk_of ((dk_bind (dk_u1 (h 0 _ rfl))).trans rfl)
theorem dk_120 {code : ByteArray} {pc : Nat} (h : DkAt code pc [120]) : decode code pc = .ok (.ishl, 1) := dk_of ((dk_bind (dk_u1 (h 0 _ rfl))).trans rfl)
theorem dk_121 {code : ByteArray} {pc : Nat} (h : DkAt code pc [121]) : decode code pc = .ok (.lshl, 1) := dk_of ((dk_bind (dk_u1 (h 0 _ rfl))).trans rfl)
theorem dk_122 {code : ByteArray} {pc : Nat} (h : DkAt code pc [122]) : decode code pc = .ok (.ishr, 1) := dk_of ((dk_bind (dk_u1 (h 0 _ rfl))).trans rfl)
theorem dk_124 {code : ByteArray} {pc : Nat} (h : DkAt code pc [124]) : decode code pc = .ok (.iushr, 1) := dk_of ((dk_bind (dk_u1 (h 0 _ rfl))).trans rfl)
theorem dk_125 {code : ByteArray} {pc : Nat} (h : DkAt code pc [125]) : decode code pc = .ok (.lushr, 1) := dk_of ((dk_bind (dk_u1 (h 0 _ rfl))).trans rfl)
theorem dk_126 {code : ByteArray} {pc : Nat} (h : DkAt code pc [126]) : decode code pc = .ok (.iand, 1) := dk_of ((dk_bind (dk_u1 (h 0 _ rfl))).trans rfl)
theorem dk_127 {code : ByteArray} {pc : Nat} (h : DkAt code pc [127]) : decode code pc = .ok (.land, 1) := dk_of ((dk_bind (dk_u1 (h 0 _ rfl))).trans rfl)
theorem dk_128 {code : ByteArray} {pc : Nat} (h : DkAt code pc [128]) : decode code pc = .ok (.ior, 1) := dk_of ((dk_bind (dk_u1 (h 0 _ rfl))).trans rfl)
theorem dk_129 {code : ByteArray} {pc : Nat} (h : DkAt code pc [129]) : decode code pc = .ok (.lor, 1) := dk_of ((dk_bind (dk_u1 (h 0 _ rfl))).trans rfl)
theorem dk_132 {code : ByteArray} {pc : Nat} (a b : UInt8) (h : DkAt code pc [132, a, b]) : decode code pc = .ok (.iinc a.toNat (Reader.signed 8 b.toNat), 3) := dk_of ((dk_bind (dk_u1 (h 0 _ rfl))).trans ((dk_bind (dk_u1 (h 1 _ rfl))).trans ((dk_bind (dk_map (dk_u1 (h 2 _ rfl)))).trans rfl)))
theorem dk_133 {code : ByteArray} {pc : Nat} (h : DkAt code pc [133]) : decode code pc = .ok (.i2l, 1) := dk_of ((dk_bind (dk_u1 (h 0 _ rfl))).trans rfl)
theorem dk_135 {code : ByteArray} {pc : Nat} (h : DkAt code pc [135]) : decode code pc = .ok (.i2d, 1) := dk_of ((dk_bind (dk_u1 (h 0 _ rfl))).trans rfl)
theorem dk_136 {code : ByteArray} {pc : Nat} (h : DkAt code pc [136]) : decode code pc = .ok (.l2i, 1) := dk_of ((dk_bind (dk_u1 (h 0 _ rfl))).trans rfl)
theorem dk_143 {code : ByteArray} {pc : Nat} (h : DkAt code pc [143]) : decode code pc = .ok (.d2l, 1) := dk_of ((dk_bind (dk_u1 (h 0 _ rfl))).trans rfl)
theorem dk_145 {code : ByteArray} {pc : Nat} (h : DkAt code pc [145]) : decode code pc = .ok (.i2b, 1) := dk_of ((dk_bind (dk_u1 (h 0 _ rfl))).trans rfl)
theorem dk_146 {code : ByteArray} {pc : Nat} (h : DkAt code pc [146]) : decode code pc = .ok (.i2c, 1) := dk_of ((dk_bind (dk_u1 (h 0 _ rfl))).trans rfl)
theorem dk_148 {code : ByteArray} {pc : Nat} (h : DkAt code pc [148]) : decode code pc = .ok (.lcmp, 1) := dk_of ((dk_bind (dk_u1 (h 0 _ rfl))).trans rfl)
theorem dk_151 {code : ByteArray} {pc : Nat} (h : DkAt code pc [151]) : decode code pc = .ok (.dcmp .l, 1) := dk_of ((dk_bind (dk_u1 (h 0 _ rfl))).trans rfl)
theorem dk_153 {code : ByteArray} {pc : Nat} (a b : UInt8) (h : DkAt code pc [153, a, b]) : decode code pc = .ok (.ifCond .eq (Reader.signed 16 (a.toNat * 256 + b.toNat)), 3) := dk_of ((dk_bind (dk_u1 (h 0 _ rfl))).trans ((dk_bind (dk_map (dk_u2 (h 1 _ rfl) (h 2 _ rfl)))).trans rfl))
theorem dk_154 {code : ByteArray} {pc : Nat} (a b : UInt8) (h : DkAt code pc [154, a, b]) : decode code pc = .ok (.ifCond .ne (Reader.signed 16 (a.toNat * 256 + b.toNat)), 3) := dk_of ((dk_bind (dk_u1 (h 0 _ rfl))).trans ((dk_bind (dk_map (dk_u2 (h 1 _ rfl) (h 2 _ rfl)))).trans rfl))
theorem dk_155 {code : ByteArray} {pc : Nat} (a b : UInt8) (h : DkAt code pc [155, a, b]) : decode code pc = .ok (.ifCond .lt (Reader.signed 16 (a.toNat * 256 + b.toNat)), 3) := dk_of ((dk_bind (dk_u1 (h 0 _ rfl))).trans ((dk_bind (dk_map (dk_u2 (h 1 _ rfl) (h 2 _ rfl)))).trans rfl))
theorem dk_156 {code : ByteArray} {pc : Nat} (a b : UInt8) (h : DkAt code pc [156, a, b]) : decode code pc = .ok (.ifCond .ge (Reader.signed 16 (a.toNat * 256 + b.toNat)), 3) := dk_of ((dk_bind (dk_u1 (h 0 _ rfl))).trans ((dk_bind (dk_map (dk_u2 (h 1 _ rfl) (h 2 _ rfl)))).trans rfl))
theorem dk_157 {code : ByteArray} {pc : Nat} (a b : UInt8) (h : DkAt code pc [157, a, b]) : decode code pc = .ok (.ifCond .gt (Reader.signed 16 (a.toNat * 256 + b.toNat)), 3) := dk_of ((dk_bind (dk_u1 (h 0 _ rfl))).trans ((dk_bind (dk_map (dk_u2 (h 1 _ rfl) (h 2 _ rfl)))).trans rfl))
theorem dk_158 {code : ByteArray} {pc : Nat} (a b : UInt8) (h : DkAt code pc [158, a, b]) : decode code pc = .ok (.ifCond .le (Reader.signed 16 (a.toNat * 256 + b.toNat)), 3) := dk_of ((dk_bind (dk_u1 (h 0 _ rfl))).trans ((dk_bind (dk_map (dk_u2 (h 1 _ rfl) (h 2 _ rfl)))).trans rfl))
theorem dk_159 {code : ByteArray} {pc : Nat} (a b : UInt8) (h : DkAt code pc [159, a, b]) : decode code pc = .ok (.if_icmp .eq (Reader.signed 16 (a.toNat * 256 + b.toNat)), 3) := dk_of ((dk_bind (dk_u1 (h 0 _ rfl))).trans ((dk_bind (dk_map (dk_u2 (h 1 _ rfl) (h 2 _ rfl)))).trans rfl))
theorem dk_160 {code : ByteArray} {pc : Nat} (a b : UInt8) (h : DkAt code pc [160, a, b]) : decode code pc = .ok (.if_icmp .ne (Reader.signed 16 (a.toNat * 256 + b.toNat)), 3) := dk_of ((dk_bind (dk_u1 (h 0 _ rfl))).trans ((dk_bind (dk_map (dk_u2 (h 1 _ rfl) (h 2 _ rfl)))).trans rfl))
theorem dk_161 {code : ByteArray} {pc : Nat} (a b : UInt8) (h : DkAt code pc [161, a, b]) : decode code pc = .ok (.if_icmp .lt (Reader.signed 16 (a.toNat * 256 + b.toNat)), 3) := dk_of ((dk_bind (dk_u1 (h 0 _ rfl))).trans ((dk_bind (dk_map (dk_u2 (h 1 _ rfl) (h 2 _ rfl)))).trans rfl))
theorem dk_162 {code : ByteArray} {pc : Nat} (a b : UInt8) (h : DkAt code pc [162, a, b]) : decode code pc = .ok (.if_icmp .ge (Reader.signed 16 (a.toNat * 256 + b.toNat)), 3) := dk_of ((dk_bind (dk_u1 (h 0 _ rfl))).trans ((dk_bind (dk_map (dk_u2 (h 1 _ rfl) (h 2 _ rfl)))).trans rfl))
theorem dk_163 {code : ByteArray} {pc : Nat} (a b : UInt8) (h : DkAt code pc [163, a, b]) : decode code pc = .ok (.if_icmp .gt (Reader.signed 16 (a.toNat * 256 + b.toNat)), 3) := dk_of ((dk_bind (dk_u1 (h 0 _ rfl))).trans ((dk_bind (dk_map (dk_u2 (h 1 _ rfl) (h 2 _ rfl)))).trans rfl))
theorem dk_164 {code : ByteArray} {pc : Nat} (a b : UInt8) (h : DkAt code pc [164, a, b]) : decode code pc = .ok (.if_icmp .le (Reader.signed 16 (a.toNat * 256 + b.toNat)), 3) := dk_of ((dk_bind (dk_u1 (h 0 _ rfl))).trans ((dk_bind (dk_map (dk_u2 (h 1 _ rfl) (h 2 _ rfl)))).trans rfl))
theorem dk_165 {code : ByteArray} {pc : Nat} (a b : UInt8) (h : DkAt code pc [165, a, b]) : decode code pc = .ok (.if_acmp .eq (Reader.signed 16 (a.toNat * 256 + b.toNat)), 3) := dk_of ((dk_bind (dk_u1 (h 0 _ rfl))).trans ((dk_bind (dk_map (dk_u2 (h 1 _ rfl) (h 2 _ rfl)))).trans rfl))
theorem dk_166 {code : ByteArray} {pc : Nat} (a b : UInt8) (h : DkAt code pc [166, a, b]) : decode code pc = .ok (.if_acmp .ne (Reader.signed 16 (a.toNat * 256 + b.toNat)), 3) := dk_of ((dk_bind (dk_u1 (h 0 _ rfl))).trans ((dk_bind (dk_map (dk_u2 (h 1 _ rfl) (h 2 _ rfl)))).trans rfl))
theorem dk_167 {code : ByteArray} {pc : Nat} (a b : UInt8) (h : DkAt code pc [167, a, b]) : decode code pc = .ok (.goto (Reader.signed 16 (a.toNat * 256 + b.toNat)), 3) := dk_of ((dk_bind (dk_u1 (h 0 _ rfl))).trans ((dk_bind (dk_map (dk_u2 (h 1 _ rfl) (h 2 _ rfl)))).trans rfl))
theorem dk_172 {code : ByteArray} {pc : Nat} (h : DkAt code pc [172]) : decode code pc = .ok (.ireturn, 1) := dk_of ((dk_bind (dk_u1 (h 0 _ rfl))).trans rfl)
theorem dk_173 {code : ByteArray} {pc : Nat} (h : DkAt code pc [173]) : decode code pc = .ok (.lreturn, 1) := dk_of ((dk_bind (dk_u1 (h 0 _ rfl))).trans rfl)
theorem dk_175 {code : ByteArray} {pc : Nat} (h : DkAt code pc [175]) : decode code pc = .ok (.dreturn, 1) := dk_of ((dk_bind (dk_u1 (h 0 _ rfl))).trans rfl)
theorem dk_176 {code : ByteArray} {pc : Nat} (h : DkAt code pc [176]) : decode code pc = .ok (.areturn, 1) := dk_of ((dk_bind (dk_u1 (h 0 _ rfl))).trans rfl)
theorem dk_177 {code : ByteArray} {pc : Nat} (h : DkAt code pc [177]) : decode code pc = .ok (.return_, 1) := dk_of ((dk_bind (dk_u1 (h 0 _ rfl))).trans rfl)
theorem dk_178 {code : ByteArray} {pc : Nat} (a b : UInt8) (h : DkAt code pc [178, a, b]) : decode code pc = .ok (.getstatic (a.toNat * 256 + b.toNat), 3) := dk_of ((dk_bind (dk_u1 (h 0 _ rfl))).trans ((dk_bind (dk_u2 (h 1 _ rfl) (h 2 _ rfl))).trans rfl))
theorem dk_180 {code : ByteArray} {pc : Nat} (a b : UInt8) (h : DkAt code pc [180, a, b]) : decode code pc = .ok (.getfield (a.toNat * 256 + b.toNat), 3) := dk_of ((dk_bind (dk_u1 (h 0 _ rfl))).trans ((dk_bind (dk_u2 (h 1 _ rfl) (h 2 _ rfl))).trans rfl))
theorem dk_181 {code : ByteArray} {pc : Nat} (a b : UInt8) (h : DkAt code pc [181, a, b]) : decode code pc = .ok (.putfield (a.toNat * 256 + b.toNat), 3) := dk_of ((dk_bind (dk_u1 (h 0 _ rfl))).trans ((dk_bind (dk_u2 (h 1 _ rfl) (h 2 _ rfl))).trans rfl))
theorem dk_182 {code : ByteArray} {pc : Nat} (a b : UInt8) (h : DkAt code pc [182, a, b]) : decode code pc = .ok (.invokevirtual (a.toNat * 256 + b.toNat), 3) := dk_of ((dk_bind (dk_u1 (h 0 _ rfl))).trans ((dk_bind (dk_u2 (h 1 _ rfl) (h 2 _ rfl))).trans rfl))
theorem dk_183 {code : ByteArray} {pc : Nat} (a b : UInt8) (h : DkAt code pc [183, a, b]) : decode code pc = .ok (.invokespecial (a.toNat * 256 + b.toNat), 3) := dk_of ((dk_bind (dk_u1 (h 0 _ rfl))).trans ((dk_bind (dk_u2 (h 1 _ rfl) (h 2 _ rfl))).trans rfl))
theorem dk_184 {code : ByteArray} {pc : Nat} (a b : UInt8) (h : DkAt code pc [184, a, b]) : decode code pc = .ok (.invokestatic (a.toNat * 256 + b.toNat), 3) := dk_of ((dk_bind (dk_u1 (h 0 _ rfl))).trans ((dk_bind (dk_u2 (h 1 _ rfl) (h 2 _ rfl))).trans rfl))
theorem dk_187 {code : ByteArray} {pc : Nat} (a b : UInt8) (h : DkAt code pc [187, a, b]) : decode code pc = .ok (.new (a.toNat * 256 + b.toNat), 3) := dk_of ((dk_bind (dk_u1 (h 0 _ rfl))).trans ((dk_bind (dk_u2 (h 1 _ rfl) (h 2 _ rfl))).trans rfl))
theorem dk_188_4 {code : ByteArray} {pc : Nat} (h : DkAt code pc [188, 4]) : decode code pc = .ok (.newarray .boolean, 2) := dk_of ((dk_bind (dk_u1 (h 0 _ rfl))).trans ((dk_bind (dk_u1 (h 1 _ rfl))).trans rfl))
theorem dk_188_8 {code : ByteArray} {pc : Nat} (h : DkAt code pc [188, 8]) : decode code pc = .ok (.newarray .byte, 2) := dk_of ((dk_bind (dk_u1 (h 0 _ rfl))).trans ((dk_bind (dk_u1 (h 1 _ rfl))).trans rfl))
theorem dk_188_10 {code : ByteArray} {pc : Nat} (h : DkAt code pc [188, 10]) : decode code pc = .ok (.newarray .int, 2) := dk_of ((dk_bind (dk_u1 (h 0 _ rfl))).trans ((dk_bind (dk_u1 (h 1 _ rfl))).trans rfl))
theorem dk_189 {code : ByteArray} {pc : Nat} (a b : UInt8) (h : DkAt code pc [189, a, b]) : decode code pc = .ok (.anewarray (a.toNat * 256 + b.toNat), 3) := dk_of ((dk_bind (dk_u1 (h 0 _ rfl))).trans ((dk_bind (dk_u2 (h 1 _ rfl) (h 2 _ rfl))).trans rfl))
theorem dk_190 {code : ByteArray} {pc : Nat} (h : DkAt code pc [190]) : decode code pc = .ok (.arraylength, 1) := dk_of ((dk_bind (dk_u1 (h 0 _ rfl))).trans rfl)
theorem dk_191 {code : ByteArray} {pc : Nat} (h : DkAt code pc [191]) : decode code pc = .ok (.athrow, 1) := dk_of ((dk_bind (dk_u1 (h 0 _ rfl))).trans rfl)
theorem dk_192 {code : ByteArray} {pc : Nat} (a b : UInt8) (h : DkAt code pc [192, a, b]) : decode code pc = .ok (.checkcast (a.toNat * 256 + b.toNat), 3) := dk_of ((dk_bind (dk_u1 (h 0 _ rfl))).trans ((dk_bind (dk_u2 (h 1 _ rfl) (h 2 _ rfl))).trans rfl))
theorem dk_193 {code : ByteArray} {pc : Nat} (a b : UInt8) (h : DkAt code pc [193, a, b]) : decode code pc = .ok (.instanceof (a.toNat * 256 + b.toNat), 3) := dk_of ((dk_bind (dk_u1 (h 0 _ rfl))).trans ((dk_bind (dk_u2 (h 1 _ rfl) (h 2 _ rfl))).trans rfl))
theorem dk_198 {code : ByteArray} {pc : Nat} (a b : UInt8) (h : DkAt code pc [198, a, b]) : decode code pc = .ok (.ifnull (Reader.signed 16 (a.toNat * 256 + b.toNat)), 3) := dk_of ((dk_bind (dk_u1 (h 0 _ rfl))).trans ((dk_bind (dk_map (dk_u2 (h 1 _ rfl) (h 2 _ rfl)))).trans rfl))
theorem dk_199 {code : ByteArray} {pc : Nat} (a b : UInt8) (h : DkAt code pc [199, a, b]) : decode code pc = .ok (.ifnonnull (Reader.signed 16 (a.toNat * 256 + b.toNat)), 3) := dk_of ((dk_bind (dk_u1 (h 0 _ rfl))).trans ((dk_bind (dk_map (dk_u2 (h 1 _ rfl) (h 2 _ rfl)))).trans rfl))
/-! java/util/AbstractCollection -/
set_option maxRecDepth 100000
def RJ0 : String := "java/util/AbstractCollection"
abbrev cJ0_init : ByteArray := prog_41_method_1_code
def yJ0_init : MethodName := ⟨RJ0, "<init>", "()V"⟩
theorem dJ0_init_0 : decode cJ0_init 0 = .ok (.aload_n 0, 1) := by decide +kernel
theorem dJ0_init_1 : decode cJ0_init 1 = .ok (.invokespecial 1, 3) := by decide +kernel
theorem dJ0_init_4 : decode cJ0_init 4 = .ok (.return_, 1) := by decide +kernel
theorem q50 : (Jvm.Cond.initialized "java/util/AbstractCollection") ∈ lw_all := lw_g (lw_at lw_m1 2 rfl) rfl
theorem q106 : (Jvm.Cond.instanceMethod ({ cls := "java/util/AbstractCollection", name := "<init>", desc := "()V" } : Jvm.MethodName)) ∈ lw_all := lw_g (lw_at lw_m1 58 rfl) rfl
theorem q107 : (Jvm.Cond.code ({ cls := "java/util/AbstractCollection", name := "<init>", desc := "()V" } : Jvm.MethodName) prog_41_method_1_code (1 : Nat) (Option.none : Option Jvm.ClassFile.FieldType)) ∈ lw_all := lw_g (lw_at lw_m1 59 rfl) rfl
theorem q108 : (Jvm.Cond.methodLink "java/util/AbstractCollection" (1 : Nat) ({ cls := "java/lang/Object", name := "<init>", desc := "()V" } : Jvm.MethodName)) ∈ lw_all := lw_g (lw_at lw_m1 60 rfl) rfl
/-! java/util/AbstractList -/
set_option maxRecDepth 100000
def RJ1 : String := "java/util/AbstractList"
abbrev cJ1_init : ByteArray := prog_42_method_1_code
def yJ1_init : MethodName := ⟨RJ1, "<init>", "()V"⟩
def dkwJ1_init_0 : List UInt8 := [42, 183, 0, 1, 42, 3, 181, 0, 7, 177]
abbrev dktJ1_init_0 : List UInt8 := dkwJ1_init_0 ++ []
theorem dksJ1_init_0 : cJ1_init.data.toList.drop 0 = dktJ1_init_0 := by decide +kernel
theorem dJ1_init_0 : decode cJ1_init 0 = .ok (.aload_n 0, 1) := dk_42 (dk_at dksJ1_init_0 0 rfl rfl)
theorem dJ1_init_1 : decode cJ1_init 1 = .ok (.invokespecial 1, 3) := dk_183 0 1 (dk_at dksJ1_init_0 1 rfl rfl)
theorem dJ1_init_4 : decode cJ1_init 4 = .ok (.aload_n 0, 1) := dk_42 (dk_at dksJ1_init_0 4 rfl rfl)
theorem dJ1_init_5 : decode cJ1_init 5 = .ok (.iconst 0, 1) := dk_3 (dk_at dksJ1_init_0 5 rfl rfl)
theorem dJ1_init_6 : decode cJ1_init 6 = .ok (.putfield 7, 3) := dk_181 0 7 (dk_at dksJ1_init_0 6 rfl rfl)
theorem dJ1_init_9 : decode cJ1_init 9 = .ok (.return_, 1) := dk_177 (dk_at dksJ1_init_0 9 rfl rfl)
theorem q51 : (Jvm.Cond.initialized "java/util/AbstractList") ∈ lw_all := lw_g (lw_at lw_m1 3 rfl) rfl
theorem q103 : (Jvm.Cond.instanceMethod ({ cls := "java/util/AbstractList", name := "<init>", desc := "()V" } : Jvm.MethodName)) ∈ lw_all := lw_g (lw_at lw_m1 55 rfl) rfl
theorem q104 : (Jvm.Cond.code ({ cls := "java/util/AbstractList", name := "<init>", desc := "()V" } : Jvm.MethodName) prog_42_method_1_code (1 : Nat) (Option.none : Option Jvm.ClassFile.FieldType)) ∈ lw_all := lw_g (lw_at lw_m1 56 rfl) rfl
theorem q105 : (Jvm.Cond.methodLink "java/util/AbstractList" (1 : Nat) ({ cls := "java/util/AbstractCollection", name := "<init>", desc := "()V" } : Jvm.MethodName)) ∈ lw_all := lw_g (lw_at lw_m1 57 rfl) rfl
theorem q115 : (Jvm.Cond.fieldLink "java/util/AbstractList" (7 : Nat) "java/util/AbstractList" "modCount" "I") ∈ lw_all := lw_g (lw_at lw_m1 67 rfl) rfl
theorem q124 : (Jvm.Cond.soleField "java/util/AbstractList" "modCount") ∈ lw_all := lw_g (lw_at lw_m1 76 rfl) rfl
/-! java/util/ArrayList -/
set_option maxRecDepth 100000
def RJ2 : String := "java/util/ArrayList"
def TJ2 : u_T := fun k => match k with
  | 0 => ("java/util/AbstractList", "modCount", "I", false)
  | 1 => ("java/util/ArrayList", "elementData", "[Ljava/lang/Object;", false)
  | _ => ("java/util/ArrayList", "size", "I", false)
def tyJ2 : Nat → FieldType := fun k => match k with
  | 0 => .int
  | 1 => .array (.object "java/lang/Object")
  | _ => .int
abbrev wsJ20 : List Cond := u_ws RJ2 TJ2 3
theorem nmJ2 : ∀ a, a < 3 → ∀ b, b < 3 → a ≠ b → (TJ2 a).2.1 ≠ (TJ2 b).2.1 := by decide +kernel
theorem tyJ2_ok : ∀ k, k < 3 → parseFieldDescriptor (TJ2 k).2.2.1 = some (tyJ2 k) := by decide +kernel
abbrev cJ2_init : ByteArray := prog_43_method_2_code
def yJ2_init : MethodName := ⟨RJ2, "<init>", "()V"⟩
def dkwJ2_init_0 : List UInt8 := [42, 183, 0, 1, 42, 178, 0, 39, 181, 0, 9, 177]
abbrev dktJ2_init_0 : List UInt8 := dkwJ2_init_0 ++ []
theorem dksJ2_init_0 : cJ2_init.data.toList.drop 0 = dktJ2_init_0 := by decide +kernel
theorem dJ2_init_0 : decode cJ2_init 0 = .ok (.aload_n 0, 1) := dk_42 (dk_at dksJ2_init_0 0 rfl rfl)
theorem dJ2_init_1 : decode cJ2_init 1 = .ok (.invokespecial 1, 3) := dk_183 0 1 (dk_at dksJ2_init_0 1 rfl rfl)
theorem dJ2_init_4 : decode cJ2_init 4 = .ok (.aload_n 0, 1) := dk_42 (dk_at dksJ2_init_0 4 rfl rfl)
theorem dJ2_init_5 : decode cJ2_init 5 = .ok (.getstatic 39, 3) := dk_178 0 39 (dk_at dksJ2_init_0 5 rfl rfl)
theorem dJ2_init_8 : decode cJ2_init 8 = .ok (.putfield 9, 3) := dk_181 0 9 (dk_at dksJ2_init_0 8 rfl rfl)
theorem dJ2_init_11 : decode cJ2_init 11 = .ok (.return_, 1) := dk_177 (dk_at dksJ2_init_0 11 rfl rfl)
abbrev cJ2_iterator : ByteArray := prog_43_method_55_code
def yJ2_iterator : MethodName := ⟨RJ2, "iterator", "()Ljava/util/Iterator;"⟩
def dkwJ2_iterator_0 : List UInt8 := [187, 1, 11, 89, 42, 183, 1, 13, 176]
abbrev dktJ2_iterator_0 : List UInt8 := dkwJ2_iterator_0 ++ []
theorem dksJ2_iterator_0 : cJ2_iterator.data.toList.drop 0 = dktJ2_iterator_0 := by decide +kernel
theorem dJ2_iterator_0 : decode cJ2_iterator 0 = .ok (.new 267, 3) := dk_187 1 11 (dk_at dksJ2_iterator_0 0 rfl rfl)
theorem dJ2_iterator_3 : decode cJ2_iterator 3 = .ok (.dup, 1) := dk_89 (dk_at dksJ2_iterator_0 3 rfl rfl)
theorem dJ2_iterator_4 : decode cJ2_iterator 4 = .ok (.aload_n 0, 1) := dk_42 (dk_at dksJ2_iterator_0 4 rfl rfl)
theorem dJ2_iterator_5 : decode cJ2_iterator 5 = .ok (.invokespecial 269, 3) := dk_183 1 13 (dk_at dksJ2_iterator_0 5 rfl rfl)
theorem dJ2_iterator_8 : decode cJ2_iterator 8 = .ok (.areturn, 1) := dk_176 (dk_at dksJ2_iterator_0 8 rfl rfl)
abbrev cJ2_size : ByteArray := prog_43_method_8_code
def yJ2_size : MethodName := ⟨RJ2, "size", "()I"⟩
theorem dJ2_size_0 : decode cJ2_size 0 = .ok (.aload_n 0, 1) := by decide +kernel
theorem dJ2_size_1 : decode cJ2_size 1 = .ok (.getfield 48, 3) := by decide +kernel
theorem dJ2_size_4 : decode cJ2_size 4 = .ok (.ireturn, 1) := by decide +kernel
abbrev cJ2_add : ByteArray := prog_43_method_25_code
def yJ2_add : MethodName := ⟨RJ2, "add", "(Ljava/lang/Object;)Z"⟩
def dkwJ2_add_1 : List UInt8 := [172]
abbrev dktJ2_add_1 : List UInt8 := dkwJ2_add_1 ++ []
def dkwJ2_add_0 : List UInt8 := [42, 89, 180, 0, 63, 4, 96, 181, 0, 63, 42, 43, 42, 180, 0, 9, 42, 180, 0, 48, 182, 0, 131, 4]
abbrev dktJ2_add_0 : List UInt8 := dkwJ2_add_0 ++ dktJ2_add_1
theorem dksJ2_add_0 : cJ2_add.data.toList.drop 0 = dktJ2_add_0 := by decide +kernel
theorem dksJ2_add_1 : cJ2_add.data.toList.drop 24 = dktJ2_add_1 := dk_seg dksJ2_add_0 24 rfl rfl
theorem dJ2_add_0 : decode cJ2_add 0 = .ok (.aload_n 0, 1) := dk_42 (dk_at dksJ2_add_0 0 rfl rfl)
theorem dJ2_add_1 : decode cJ2_add 1 = .ok (.dup, 1) := dk_89 (dk_at dksJ2_add_0 1 rfl rfl)
theorem dJ2_add_2 : decode cJ2_add 2 = .ok (.getfield 63, 3) := dk_180 0 63 (dk_at dksJ2_add_0 2 rfl rfl)
theorem dJ2_add_5 : decode cJ2_add 5 = .ok (.iconst 1, 1) := dk_4 (dk_at dksJ2_add_0 5 rfl rfl)
theorem dJ2_add_6 : decode cJ2_add 6 = .ok (.iadd, 1) := dk_96 (dk_at dksJ2_add_0 6 rfl rfl)
theorem dJ2_add_7 : decode cJ2_add 7 = .ok (.putfield 63, 3) := dk_181 0 63 (dk_at dksJ2_add_0 7 rfl rfl)
theorem dJ2_add_10 : decode cJ2_add 10 = .ok (.aload_n 0, 1) := dk_42 (dk_at dksJ2_add_0 10 rfl rfl)
theorem dJ2_add_11 : decode cJ2_add 11 = .ok (.aload_n 1, 1) := dk_43 (dk_at dksJ2_add_0 11 rfl rfl)
theorem dJ2_add_12 : decode cJ2_add 12 = .ok (.aload_n 0, 1) := dk_42 (dk_at dksJ2_add_0 12 rfl rfl)
theorem dJ2_add_13 : decode cJ2_add 13 = .ok (.getfield 9, 3) := dk_180 0 9 (dk_at dksJ2_add_0 13 rfl rfl)
theorem dJ2_add_16 : decode cJ2_add 16 = .ok (.aload_n 0, 1) := dk_42 (dk_at dksJ2_add_0 16 rfl rfl)
theorem dJ2_add_17 : decode cJ2_add 17 = .ok (.getfield 48, 3) := dk_180 0 48 (dk_at dksJ2_add_0 17 rfl rfl)
theorem dJ2_add_20 : decode cJ2_add 20 = .ok (.invokevirtual 131, 3) := dk_182 0 131 (dk_at dksJ2_add_0 20 rfl rfl)
theorem dJ2_add_23 : decode cJ2_add 23 = .ok (.iconst 1, 1) := dk_4 (dk_at dksJ2_add_0 23 rfl rfl)
theorem dJ2_add_24 : decode cJ2_add 24 = .ok (.ireturn, 1) := dk_172 (dk_at dksJ2_add_1 0 rfl rfl)
abbrev cJ2_add_2 : ByteArray := prog_43_method_24_code
def yJ2_add_2 : MethodName := ⟨RJ2, "add", "(Ljava/lang/Object;[Ljava/lang/Object;I)V"⟩
def dkwJ2_add_2_0 : List UInt8 := [29, 44, 190, 160, 0, 8, 42, 182, 0, 129, 77, 44, 29, 43, 83, 42, 29, 4, 96, 181, 0, 48, 177]
abbrev dktJ2_add_2_0 : List UInt8 := dkwJ2_add_2_0 ++ []
theorem dksJ2_add_2_0 : cJ2_add_2.data.toList.drop 0 = dktJ2_add_2_0 := by decide +kernel
theorem dJ2_add_2_0 : decode cJ2_add_2 0 = .ok (.iload_n 3, 1) := dk_29 (dk_at dksJ2_add_2_0 0 rfl rfl)
theorem dJ2_add_2_1 : decode cJ2_add_2 1 = .ok (.aload_n 2, 1) := dk_44 (dk_at dksJ2_add_2_0 1 rfl rfl)
theorem dJ2_add_2_2 : decode cJ2_add_2 2 = .ok (.arraylength, 1) := dk_190 (dk_at dksJ2_add_2_0 2 rfl rfl)
theorem dJ2_add_2_3 : decode cJ2_add_2 3 = .ok (.if_icmp .ne 8, 3) := dk_160 0 8 (dk_at dksJ2_add_2_0 3 rfl rfl)
theorem dJ2_add_2_6 : decode cJ2_add_2 6 = .ok (.aload_n 0, 1) := dk_42 (dk_at dksJ2_add_2_0 6 rfl rfl)
theorem dJ2_add_2_7 : decode cJ2_add_2 7 = .ok (.invokevirtual 129, 3) := dk_182 0 129 (dk_at dksJ2_add_2_0 7 rfl rfl)
theorem dJ2_add_2_10 : decode cJ2_add_2 10 = .ok (.astore_n 2, 1) := dk_77 (dk_at dksJ2_add_2_0 10 rfl rfl)
theorem dJ2_add_2_11 : decode cJ2_add_2 11 = .ok (.aload_n 2, 1) := dk_44 (dk_at dksJ2_add_2_0 11 rfl rfl)
theorem dJ2_add_2_12 : decode cJ2_add_2 12 = .ok (.iload_n 3, 1) := dk_29 (dk_at dksJ2_add_2_0 12 rfl rfl)
theorem dJ2_add_2_13 : decode cJ2_add_2 13 = .ok (.aload_n 1, 1) := dk_43 (dk_at dksJ2_add_2_0 13 rfl rfl)
theorem dJ2_add_2_14 : decode cJ2_add_2 14 = .ok (.aastore, 1) := dk_83 (dk_at dksJ2_add_2_0 14 rfl rfl)
theorem dJ2_add_2_15 : decode cJ2_add_2 15 = .ok (.aload_n 0, 1) := dk_42 (dk_at dksJ2_add_2_0 15 rfl rfl)
theorem dJ2_add_2_16 : decode cJ2_add_2 16 = .ok (.iload_n 3, 1) := dk_29 (dk_at dksJ2_add_2_0 16 rfl rfl)
theorem dJ2_add_2_17 : decode cJ2_add_2 17 = .ok (.iconst 1, 1) := dk_4 (dk_at dksJ2_add_2_0 17 rfl rfl)
theorem dJ2_add_2_18 : decode cJ2_add_2 18 = .ok (.iadd, 1) := dk_96 (dk_at dksJ2_add_2_0 18 rfl rfl)
theorem dJ2_add_2_19 : decode cJ2_add_2 19 = .ok (.putfield 48, 3) := dk_181 0 48 (dk_at dksJ2_add_2_0 19 rfl rfl)
theorem dJ2_add_2_22 : decode cJ2_add_2 22 = .ok (.return_, 1) := dk_177 (dk_at dksJ2_add_2_0 22 rfl rfl)
abbrev cJ2_grow : ByteArray := prog_43_method_7_code
def yJ2_grow : MethodName := ⟨RJ2, "grow", "()[Ljava/lang/Object;"⟩
def dkwJ2_grow_0 : List UInt8 := [42, 42, 180, 0, 48, 4, 96, 182, 0, 69, 176]
abbrev dktJ2_grow_0 : List UInt8 := dkwJ2_grow_0 ++ []
theorem dksJ2_grow_0 : cJ2_grow.data.toList.drop 0 = dktJ2_grow_0 := by decide +kernel
theorem dJ2_grow_0 : decode cJ2_grow 0 = .ok (.aload_n 0, 1) := dk_42 (dk_at dksJ2_grow_0 0 rfl rfl)
theorem dJ2_grow_1 : decode cJ2_grow 1 = .ok (.aload_n 0, 1) := dk_42 (dk_at dksJ2_grow_0 1 rfl rfl)
theorem dJ2_grow_2 : decode cJ2_grow 2 = .ok (.getfield 48, 3) := dk_180 0 48 (dk_at dksJ2_grow_0 2 rfl rfl)
theorem dJ2_grow_5 : decode cJ2_grow 5 = .ok (.iconst 1, 1) := dk_4 (dk_at dksJ2_grow_0 5 rfl rfl)
theorem dJ2_grow_6 : decode cJ2_grow 6 = .ok (.iadd, 1) := dk_96 (dk_at dksJ2_grow_0 6 rfl rfl)
theorem dJ2_grow_7 : decode cJ2_grow 7 = .ok (.invokevirtual 69, 3) := dk_182 0 69 (dk_at dksJ2_grow_0 7 rfl rfl)
theorem dJ2_grow_10 : decode cJ2_grow 10 = .ok (.areturn, 1) := dk_176 (dk_at dksJ2_grow_0 10 rfl rfl)
abbrev cJ2_grow_2 : ByteArray := prog_43_method_6_code
def yJ2_grow_2 : MethodName := ⟨RJ2, "grow", "(I)[Ljava/lang/Object;"⟩
def dkwJ2_grow_2_2 : List UInt8 := [27, 184, 0, 79, 189, 0, 7, 90, 181, 0, 9, 176]
abbrev dktJ2_grow_2_2 : List UInt8 := dkwJ2_grow_2_2 ++ []
def dkwJ2_grow_2_1 : List UInt8 := [28, 4, 122, 184, 0, 73, 62, 42, 42, 180, 0, 9, 29, 184, 0, 66, 90, 181, 0, 9, 176, 42, 16, 10]
abbrev dktJ2_grow_2_1 : List UInt8 := dkwJ2_grow_2_1 ++ dktJ2_grow_2_2
def dkwJ2_grow_2_0 : List UInt8 := [42, 180, 0, 9, 190, 61, 28, 157, 0, 13, 42, 180, 0, 9, 178, 0, 39, 165, 0, 28, 28, 27, 28, 100]
abbrev dktJ2_grow_2_0 : List UInt8 := dkwJ2_grow_2_0 ++ dktJ2_grow_2_1
theorem dksJ2_grow_2_0 : cJ2_grow_2.data.toList.drop 0 = dktJ2_grow_2_0 := by decide +kernel
theorem dksJ2_grow_2_1 : cJ2_grow_2.data.toList.drop 24 = dktJ2_grow_2_1 := dk_seg dksJ2_grow_2_0 24 rfl rfl
theorem dksJ2_grow_2_2 : cJ2_grow_2.data.toList.drop 48 = dktJ2_grow_2_2 := dk_seg dksJ2_grow_2_1 24 rfl rfl
theorem dJ2_grow_2_0 : decode cJ2_grow_2 0 = .ok (.aload_n 0, 1) := dk_42 (dk_at dksJ2_grow_2_0 0 rfl rfl)
theorem dJ2_grow_2_1 : decode cJ2_grow_2 1 = .ok (.getfield 9, 3) := dk_180 0 9 (dk_at dksJ2_grow_2_0 1 rfl rfl)
theorem dJ2_grow_2_4 : decode cJ2_grow_2 4 = .ok (.arraylength, 1) := dk_190 (dk_at dksJ2_grow_2_0 4 rfl rfl)
theorem dJ2_grow_2_5 : decode cJ2_grow_2 5 = .ok (.istore_n 2, 1) := dk_61 (dk_at dksJ2_grow_2_0 5 rfl rfl)
theorem dJ2_grow_2_6 : decode cJ2_grow_2 6 = .ok (.iload_n 2, 1) := dk_28 (dk_at dksJ2_grow_2_0 6 rfl rfl)
theorem dJ2_grow_2_7 : decode cJ2_grow_2 7 = .ok (.ifCond .gt 13, 3) := dk_157 0 13 (dk_at dksJ2_grow_2_0 7 rfl rfl)
theorem dJ2_grow_2_10 : decode cJ2_grow_2 10 = .ok (.aload_n 0, 1) := dk_42 (dk_at dksJ2_grow_2_0 10 rfl rfl)
theorem dJ2_grow_2_11 : decode cJ2_grow_2 11 = .ok (.getfield 9, 3) := dk_180 0 9 (dk_at dksJ2_grow_2_0 11 rfl rfl)
theorem dJ2_grow_2_14 : decode cJ2_grow_2 14 = .ok (.getstatic 39, 3) := dk_178 0 39 (dk_at dksJ2_grow_2_0 14 rfl rfl)
theorem dJ2_grow_2_17 : decode cJ2_grow_2 17 = .ok (.if_acmp .eq 28, 3) := dk_165 0 28 (dk_at dksJ2_grow_2_0 17 rfl rfl)
theorem dJ2_grow_2_20 : decode cJ2_grow_2 20 = .ok (.iload_n 2, 1) := dk_28 (dk_at dksJ2_grow_2_0 20 rfl rfl)
theorem dJ2_grow_2_21 : decode cJ2_grow_2 21 = .ok (.iload_n 1, 1) := dk_27 (dk_at dksJ2_grow_2_0 21 rfl rfl)
theorem dJ2_grow_2_22 : decode cJ2_grow_2 22 = .ok (.iload_n 2, 1) := dk_28 (dk_at dksJ2_grow_2_0 22 rfl rfl)
theorem dJ2_grow_2_23 : decode cJ2_grow_2 23 = .ok (.isub, 1) := dk_100 (dk_at dksJ2_grow_2_0 23 rfl rfl)
theorem dJ2_grow_2_24 : decode cJ2_grow_2 24 = .ok (.iload_n 2, 1) := dk_28 (dk_at dksJ2_grow_2_1 0 rfl rfl)
theorem dJ2_grow_2_25 : decode cJ2_grow_2 25 = .ok (.iconst 1, 1) := dk_4 (dk_at dksJ2_grow_2_1 1 rfl rfl)
theorem dJ2_grow_2_26 : decode cJ2_grow_2 26 = .ok (.ishr, 1) := dk_122 (dk_at dksJ2_grow_2_1 2 rfl rfl)
theorem dJ2_grow_2_27 : decode cJ2_grow_2 27 = .ok (.invokestatic 73, 3) := dk_184 0 73 (dk_at dksJ2_grow_2_1 3 rfl rfl)
theorem dJ2_grow_2_30 : decode cJ2_grow_2 30 = .ok (.istore_n 3, 1) := dk_62 (dk_at dksJ2_grow_2_1 6 rfl rfl)
theorem dJ2_grow_2_31 : decode cJ2_grow_2 31 = .ok (.aload_n 0, 1) := dk_42 (dk_at dksJ2_grow_2_1 7 rfl rfl)
theorem dJ2_grow_2_32 : decode cJ2_grow_2 32 = .ok (.aload_n 0, 1) := dk_42 (dk_at dksJ2_grow_2_1 8 rfl rfl)
theorem dJ2_grow_2_33 : decode cJ2_grow_2 33 = .ok (.getfield 9, 3) := dk_180 0 9 (dk_at dksJ2_grow_2_1 9 rfl rfl)
theorem dJ2_grow_2_36 : decode cJ2_grow_2 36 = .ok (.iload_n 3, 1) := dk_29 (dk_at dksJ2_grow_2_1 12 rfl rfl)
theorem dJ2_grow_2_37 : decode cJ2_grow_2 37 = .ok (.invokestatic 66, 3) := dk_184 0 66 (dk_at dksJ2_grow_2_1 13 rfl rfl)
theorem dJ2_grow_2_40 : decode cJ2_grow_2 40 = .ok (.dup_x1, 1) := dk_90 (dk_at dksJ2_grow_2_1 16 rfl rfl)
theorem dJ2_grow_2_41 : decode cJ2_grow_2 41 = .ok (.putfield 9, 3) := dk_181 0 9 (dk_at dksJ2_grow_2_1 17 rfl rfl)
theorem dJ2_grow_2_44 : decode cJ2_grow_2 44 = .ok (.areturn, 1) := dk_176 (dk_at dksJ2_grow_2_1 20 rfl rfl)
theorem dJ2_grow_2_45 : decode cJ2_grow_2 45 = .ok (.aload_n 0, 1) := dk_42 (dk_at dksJ2_grow_2_1 21 rfl rfl)
theorem dJ2_grow_2_46 : decode cJ2_grow_2 46 = .ok (.bipush 10, 2) := dk_16 10 (dk_at dksJ2_grow_2_1 22 rfl rfl)
theorem dJ2_grow_2_48 : decode cJ2_grow_2 48 = .ok (.iload_n 1, 1) := dk_27 (dk_at dksJ2_grow_2_2 0 rfl rfl)
theorem dJ2_grow_2_49 : decode cJ2_grow_2 49 = .ok (.invokestatic 79, 3) := dk_184 0 79 (dk_at dksJ2_grow_2_2 1 rfl rfl)
theorem dJ2_grow_2_52 : decode cJ2_grow_2 52 = .ok (.anewarray 7, 3) := dk_189 0 7 (dk_at dksJ2_grow_2_2 4 rfl rfl)
theorem dJ2_grow_2_55 : decode cJ2_grow_2 55 = .ok (.dup_x1, 1) := dk_90 (dk_at dksJ2_grow_2_2 7 rfl rfl)
theorem dJ2_grow_2_56 : decode cJ2_grow_2 56 = .ok (.putfield 9, 3) := dk_181 0 9 (dk_at dksJ2_grow_2_2 8 rfl rfl)
theorem dJ2_grow_2_59 : decode cJ2_grow_2 59 = .ok (.areturn, 1) := dk_176 (dk_at dksJ2_grow_2_2 11 rfl rfl)
abbrev cJ2_get : ByteArray := prog_43_method_20_code
def yJ2_get : MethodName := ⟨RJ2, "get", "(I)Ljava/lang/Object;"⟩
def dkwJ2_get_0 : List UInt8 := [27, 42, 180, 0, 48, 184, 0, 118, 87, 42, 27, 182, 0, 123, 176]
abbrev dktJ2_get_0 : List UInt8 := dkwJ2_get_0 ++ []
theorem dksJ2_get_0 : cJ2_get.data.toList.drop 0 = dktJ2_get_0 := by decide +kernel
theorem dJ2_get_0 : decode cJ2_get 0 = .ok (.iload_n 1, 1) := dk_27 (dk_at dksJ2_get_0 0 rfl rfl)
theorem dJ2_get_1 : decode cJ2_get 1 = .ok (.aload_n 0, 1) := dk_42 (dk_at dksJ2_get_0 1 rfl rfl)
theorem dJ2_get_2 : decode cJ2_get 2 = .ok (.getfield 48, 3) := dk_180 0 48 (dk_at dksJ2_get_0 2 rfl rfl)
theorem dJ2_get_5 : decode cJ2_get 5 = .ok (.invokestatic 118, 3) := dk_184 0 118 (dk_at dksJ2_get_0 5 rfl rfl)
theorem dJ2_get_8 : decode cJ2_get 8 = .ok (.pop, 1) := dk_87 (dk_at dksJ2_get_0 8 rfl rfl)
theorem dJ2_get_9 : decode cJ2_get 9 = .ok (.aload_n 0, 1) := dk_42 (dk_at dksJ2_get_0 9 rfl rfl)
theorem dJ2_get_10 : decode cJ2_get 10 = .ok (.iload_n 1, 1) := dk_27 (dk_at dksJ2_get_0 10 rfl rfl)
theorem dJ2_get_11 : decode cJ2_get 11 = .ok (.invokevirtual 123, 3) := dk_182 0 123 (dk_at dksJ2_get_0 11 rfl rfl)
theorem dJ2_get_14 : decode cJ2_get 14 = .ok (.areturn, 1) := dk_176 (dk_at dksJ2_get_0 14 rfl rfl)
abbrev cJ2_elementData : ByteArray := prog_43_method_18_code
def yJ2_elementData : MethodName := ⟨RJ2, "elementData", "(I)Ljava/lang/Object;"⟩
def dkwJ2_elementData_0 : List UInt8 := [42, 180, 0, 9, 27, 50, 176]
abbrev dktJ2_elementData_0 : List UInt8 := dkwJ2_elementData_0 ++ []
theorem dksJ2_elementData_0 : cJ2_elementData.data.toList.drop 0 = dktJ2_elementData_0 := by decide +kernel
theorem dJ2_elementData_0 : decode cJ2_elementData 0 = .ok (.aload_n 0, 1) := dk_42 (dk_at dksJ2_elementData_0 0 rfl rfl)
theorem dJ2_elementData_1 : decode cJ2_elementData 1 = .ok (.getfield 9, 3) := dk_180 0 9 (dk_at dksJ2_elementData_0 1 rfl rfl)
theorem dJ2_elementData_4 : decode cJ2_elementData 4 = .ok (.iload_n 1, 1) := dk_27 (dk_at dksJ2_elementData_0 4 rfl rfl)
theorem dJ2_elementData_5 : decode cJ2_elementData 5 = .ok (.aaload, 1) := dk_50 (dk_at dksJ2_elementData_0 5 rfl rfl)
theorem dJ2_elementData_6 : decode cJ2_elementData 6 = .ok (.areturn, 1) := dk_176 (dk_at dksJ2_elementData_0 6 rfl rfl)
theorem q52 : (Jvm.Cond.initialized "java/util/ArrayList") ∈ lw_all := lw_g (lw_at lw_m1 4 rfl) rfl
theorem q98 : (Jvm.Cond.instantiable "java/util/ArrayList" (3 : Nat)) ∈ lw_all := lw_g (lw_at lw_m1 50 rfl) rfl
theorem q100 : (Jvm.Cond.instanceMethod ({ cls := "java/util/ArrayList", name := "<init>", desc := "()V" } : Jvm.MethodName)) ∈ lw_all := lw_g (lw_at lw_m1 52 rfl) rfl
theorem q101 : (Jvm.Cond.code ({ cls := "java/util/ArrayList", name := "<init>", desc := "()V" } : Jvm.MethodName) prog_43_method_2_code (1 : Nat) (Option.none : Option Jvm.ClassFile.FieldType)) ∈ lw_all := lw_g (lw_at lw_m1 53 rfl) rfl
theorem q102 : (Jvm.Cond.methodLink "java/util/ArrayList" (1 : Nat) ({ cls := "java/util/AbstractList", name := "<init>", desc := "()V" } : Jvm.MethodName)) ∈ lw_all := lw_g (lw_at lw_m1 54 rfl) rfl
theorem q109 : (Jvm.Cond.fieldLink "java/util/ArrayList" (39 : Nat) "java/util/ArrayList" "DEFAULTCAPACITY_EMPTY_ELEMENTDATA" "[Ljava/lang/Object;") ∈ lw_all := lw_g (lw_at lw_m1 61 rfl) rfl
theorem q110 : (Jvm.Cond.laysStatic "java/util/ArrayList" "DEFAULTCAPACITY_EMPTY_ELEMENTDATA" "[Ljava/lang/Object;") ∈ lw_tbl := lw_at lw_m1 62 rfl
theorem q111 : (Jvm.Cond.fieldLink "java/util/ArrayList" (9 : Nat) "java/util/ArrayList" "elementData" "[Ljava/lang/Object;") ∈ lw_all := lw_g (lw_at lw_m1 63 rfl) rfl
theorem q114 : (Jvm.Cond.fieldLink "java/util/ArrayList" (48 : Nat) "java/util/ArrayList" "size" "I") ∈ lw_all := lw_g (lw_at lw_m1 66 rfl) rfl
theorem q117 : (Jvm.Cond.sameField "java/util/ArrayList" "java/util/AbstractList" "modCount" "I") ∈ lw_all := lw_g (lw_at lw_m1 69 rfl) rfl
theorem q118 : (Jvm.Cond.fieldLink "java/util/ArrayList" (63 : Nat) "java/util/ArrayList" "modCount" "I") ∈ lw_all := lw_g (lw_at lw_m1 70 rfl) rfl
theorem q119 : (Jvm.Cond.lays "java/util/ArrayList" "java/util/ArrayList" "elementData" "[Ljava/lang/Object;") ∈ lw_all := lw_g (lw_at lw_m1 71 rfl) rfl
theorem q120 : (Jvm.Cond.soleField "java/util/ArrayList" "elementData") ∈ lw_all := lw_g (lw_at lw_m1 72 rfl) rfl
theorem q121 : (Jvm.Cond.lays "java/util/ArrayList" "java/util/ArrayList" "size" "I") ∈ lw_all := lw_g (lw_at lw_m1 73 rfl) rfl
theorem q122 : (Jvm.Cond.soleField "java/util/ArrayList" "size") ∈ lw_all := lw_g (lw_at lw_m1 74 rfl) rfl
theorem q123 : (Jvm.Cond.lays "java/util/ArrayList" "java/util/AbstractList" "modCount" "I") ∈ lw_all := lw_g (lw_at lw_m1 75 rfl) rfl
theorem q125 : (Jvm.Cond.superclass "java/util/ArrayList" "java/util/AbstractList") ∈ lw_all := lw_g (lw_at lw_m1 77 rfl) rfl
theorem q214 : (Jvm.Cond.instanceMethod ({ cls := "java/util/ArrayList", name := "iterator", desc := "()Ljava/util/Iterator;" } : Jvm.MethodName)) ∈ lw_all := lw_g (lw_at lw_m1 166 rfl) rfl
theorem q215 : (Jvm.Cond.selects "java/util/ArrayList" ({ cls := "java/util/ArrayList", name := "iterator", desc := "()Ljava/util/Iterator;" } : Jvm.MethodName) ({ cls := "java/util/ArrayList", name := "iterator", desc := "()Ljava/util/Iterator;" } : Jvm.MethodName)) ∈ lw_all := lw_g (lw_at lw_m1 167 rfl) rfl
theorem q216 : (Jvm.Cond.code ({ cls := "java/util/ArrayList", name := "iterator", desc := "()Ljava/util/Iterator;" } : Jvm.MethodName) prog_43_method_55_code (1 : Nat) (Option.some (Jvm.ClassFile.FieldType.object "java/util/Iterator"))) ∈ lw_all := lw_g (lw_at lw_m1 168 rfl) rfl
theorem q217 : (Jvm.Cond.classLink "java/util/ArrayList" (267 : Nat) "java/util/ArrayList$Itr") ∈ lw_all := lw_g (lw_at lw_m1 169 rfl) rfl
theorem q219 : (Jvm.Cond.methodLink "java/util/ArrayList" (269 : Nat) ({ cls := "java/util/ArrayList$Itr", name := "<init>", desc := "(Ljava/util/ArrayList;)V" } : Jvm.MethodName)) ∈ lw_all := lw_g (lw_at lw_m1 171 rfl) rfl
theorem q332 : (Jvm.Cond.instanceMethod ({ cls := "java/util/ArrayList", name := "size", desc := "()I" } : Jvm.MethodName)) ∈ lw_all := lw_g (lw_at lw_m2 44 rfl) rfl
theorem q333 : (Jvm.Cond.selects "java/util/ArrayList" ({ cls := "java/util/ArrayList", name := "size", desc := "()I" } : Jvm.MethodName) ({ cls := "java/util/ArrayList", name := "size", desc := "()I" } : Jvm.MethodName)) ∈ lw_all := lw_g (lw_at lw_m2 45 rfl) rfl
theorem q334 : (Jvm.Cond.code ({ cls := "java/util/ArrayList", name := "size", desc := "()I" } : Jvm.MethodName) prog_43_method_8_code (1 : Nat) (Option.some Jvm.ClassFile.FieldType.int)) ∈ lw_all := lw_g (lw_at lw_m2 46 rfl) rfl
theorem q798 : (Jvm.Cond.instanceMethod ({ cls := "java/util/ArrayList", name := "add", desc := "(Ljava/lang/Object;)Z" } : Jvm.MethodName)) ∈ lw_all := lw_g (lw_at lw_m4 30 rfl) rfl
theorem q799 : (Jvm.Cond.selects "java/util/ArrayList" ({ cls := "java/util/ArrayList", name := "add", desc := "(Ljava/lang/Object;)Z" } : Jvm.MethodName) ({ cls := "java/util/ArrayList", name := "add", desc := "(Ljava/lang/Object;)Z" } : Jvm.MethodName)) ∈ lw_all := lw_g (lw_at lw_m4 31 rfl) rfl
theorem q800 : (Jvm.Cond.code ({ cls := "java/util/ArrayList", name := "add", desc := "(Ljava/lang/Object;)Z" } : Jvm.MethodName) prog_43_method_25_code (2 : Nat) (Option.some Jvm.ClassFile.FieldType.boolean)) ∈ lw_all := lw_g (lw_at lw_m4 32 rfl) rfl
theorem q801 : (Jvm.Cond.methodLink "java/util/ArrayList" (131 : Nat) ({ cls := "java/util/ArrayList", name := "add", desc := "(Ljava/lang/Object;[Ljava/lang/Object;I)V" } : Jvm.MethodName)) ∈ lw_all := lw_g (lw_at lw_m4 33 rfl) rfl
theorem q802 : (Jvm.Cond.privateMethod ({ cls := "java/util/ArrayList", name := "add", desc := "(Ljava/lang/Object;[Ljava/lang/Object;I)V" } : Jvm.MethodName)) ∈ lw_tbl := lw_at lw_m4 34 rfl
theorem q803 : (Jvm.Cond.instanceMethod ({ cls := "java/util/ArrayList", name := "add", desc := "(Ljava/lang/Object;[Ljava/lang/Object;I)V" } : Jvm.MethodName)) ∈ lw_all := lw_g (lw_at lw_m4 35 rfl) rfl
theorem q804 : (Jvm.Cond.code ({ cls := "java/util/ArrayList", name := "add", desc := "(Ljava/lang/Object;[Ljava/lang/Object;I)V" } : Jvm.MethodName) prog_43_method_24_code (4 : Nat) (Option.none : Option Jvm.ClassFile.FieldType)) ∈ lw_all := lw_g (lw_at lw_m4 36 rfl) rfl
theorem q805 : (Jvm.Cond.methodLink "java/util/ArrayList" (129 : Nat) ({ cls := "java/util/ArrayList", name := "grow", desc := "()[Ljava/lang/Object;" } : Jvm.MethodName)) ∈ lw_all := lw_g (lw_at lw_m4 37 rfl) rfl
theorem q806 : (Jvm.Cond.privateMethod ({ cls := "java/util/ArrayList", name := "grow", desc := "()[Ljava/lang/Object;" } : Jvm.MethodName)) ∈ lw_tbl := lw_at lw_m4 38 rfl
theorem q807 : (Jvm.Cond.instanceMethod ({ cls := "java/util/ArrayList", name := "grow", desc := "()[Ljava/lang/Object;" } : Jvm.MethodName)) ∈ lw_all := lw_g (lw_at lw_m4 39 rfl) rfl
theorem q808 : (Jvm.Cond.code ({ cls := "java/util/ArrayList", name := "grow", desc := "()[Ljava/lang/Object;" } : Jvm.MethodName) prog_43_method_7_code (1 : Nat) (Option.some (Jvm.ClassFile.FieldType.array (Jvm.ClassFile.FieldType.object "java/lang/Object")))) ∈ lw_all := lw_g (lw_at lw_m4 40 rfl) rfl
theorem q809 : (Jvm.Cond.methodLink "java/util/ArrayList" (69 : Nat) ({ cls := "java/util/ArrayList", name := "grow", desc := "(I)[Ljava/lang/Object;" } : Jvm.MethodName)) ∈ lw_all := lw_g (lw_at lw_m4 41 rfl) rfl
theorem q810 : (Jvm.Cond.privateMethod ({ cls := "java/util/ArrayList", name := "grow", desc := "(I)[Ljava/lang/Object;" } : Jvm.MethodName)) ∈ lw_tbl := lw_at lw_m4 42 rfl
theorem q811 : (Jvm.Cond.instanceMethod ({ cls := "java/util/ArrayList", name := "grow", desc := "(I)[Ljava/lang/Object;" } : Jvm.MethodName)) ∈ lw_all := lw_g (lw_at lw_m4 43 rfl) rfl
theorem q812 : (Jvm.Cond.code ({ cls := "java/util/ArrayList", name := "grow", desc := "(I)[Ljava/lang/Object;" } : Jvm.MethodName) prog_43_method_6_code (4 : Nat) (Option.some (Jvm.ClassFile.FieldType.array (Jvm.ClassFile.FieldType.object "java/lang/Object")))) ∈ lw_all := lw_g (lw_at lw_m4 44 rfl) rfl
theorem q813 : (Jvm.Cond.methodLink "java/util/ArrayList" (73 : Nat) ({ cls := "jdk/internal/util/ArraysSupport", name := "newLength", desc := "(III)I" } : Jvm.MethodName)) ∈ lw_all := lw_g (lw_at lw_m4 45 rfl) rfl
theorem q821 : (Jvm.Cond.methodLink "java/util/ArrayList" (66 : Nat) ({ cls := "java/util/Arrays", name := "copyOf", desc := "([Ljava/lang/Object;I)[Ljava/lang/Object;" } : Jvm.MethodName)) ∈ lw_all := lw_g (lw_at lw_m4 53 rfl) rfl
theorem q846 : (Jvm.Cond.selects "java/util/ArrayList" ({ cls := "java/lang/Object", name := "getClass", desc := "()Ljava/lang/Class;" } : Jvm.MethodName) ({ cls := "java/lang/Object", name := "getClass", desc := "()Ljava/lang/Class;" } : Jvm.MethodName)) ∈ lw_all := lw_g (lw_at lw_m4 78 rfl) rfl
theorem q860 : (Jvm.Cond.methodLink "java/util/ArrayList" (79 : Nat) ({ cls := "java/lang/Math", name := "max", desc := "(II)I" } : Jvm.MethodName)) ∈ lw_all := lw_g (lw_at lw_m4 92 rfl) rfl
theorem q861 : (Jvm.Cond.classLink "java/util/ArrayList" (7 : Nat) "java/lang/Object") ∈ lw_all := lw_g (lw_at lw_m4 93 rfl) rfl
theorem q874 : (Jvm.Cond.instanceMethod ({ cls := "java/util/ArrayList", name := "get", desc := "(I)Ljava/lang/Object;" } : Jvm.MethodName)) ∈ lw_all := lw_g (lw_at lw_m4 106 rfl) rfl
theorem q875 : (Jvm.Cond.selects "java/util/ArrayList" ({ cls := "java/util/ArrayList", name := "get", desc := "(I)Ljava/lang/Object;" } : Jvm.MethodName) ({ cls := "java/util/ArrayList", name := "get", desc := "(I)Ljava/lang/Object;" } : Jvm.MethodName)) ∈ lw_all := lw_g (lw_at lw_m4 107 rfl) rfl
theorem q876 : (Jvm.Cond.code ({ cls := "java/util/ArrayList", name := "get", desc := "(I)Ljava/lang/Object;" } : Jvm.MethodName) prog_43_method_20_code (2 : Nat) (Option.some (Jvm.ClassFile.FieldType.object "java/lang/Object"))) ∈ lw_all := lw_g (lw_at lw_m4 108 rfl) rfl
theorem q877 : (Jvm.Cond.methodLink "java/util/ArrayList" (118 : Nat) ({ cls := "java/util/Objects", name := "checkIndex", desc := "(II)I" } : Jvm.MethodName)) ∈ lw_all := lw_g (lw_at lw_m4 109 rfl) rfl
theorem q883 : (Jvm.Cond.methodLink "java/util/ArrayList" (123 : Nat) ({ cls := "java/util/ArrayList", name := "elementData", desc := "(I)Ljava/lang/Object;" } : Jvm.MethodName)) ∈ lw_all := lw_g (lw_at lw_m4 115 rfl) rfl
theorem q884 : (Jvm.Cond.instanceMethod ({ cls := "java/util/ArrayList", name := "elementData", desc := "(I)Ljava/lang/Object;" } : Jvm.MethodName)) ∈ lw_all := lw_g (lw_at lw_m4 116 rfl) rfl
theorem q885 : (Jvm.Cond.selects "java/util/ArrayList" ({ cls := "java/util/ArrayList", name := "elementData", desc := "(I)Ljava/lang/Object;" } : Jvm.MethodName) ({ cls := "java/util/ArrayList", name := "elementData", desc := "(I)Ljava/lang/Object;" } : Jvm.MethodName)) ∈ lw_all := lw_g (lw_at lw_m4 117 rfl) rfl
theorem q886 : (Jvm.Cond.code ({ cls := "java/util/ArrayList", name := "elementData", desc := "(I)Ljava/lang/Object;" } : Jvm.MethodName) prog_43_method_18_code (2 : Nat) (Option.some (Jvm.ClassFile.FieldType.object "java/lang/Object"))) ∈ lw_all := lw_g (lw_at lw_m4 118 rfl) rfl
theorem q1795 : (Jvm.Cond.castable "java/util/ArrayList" "java/lang/Object") ∈ lw_tbl := lw_at lw_m8 67 rfl
theorem in_J2 : ∀ w ∈ wsJ20, w ∈ lw_all := lw_in wsJ20 [123, 119, 121] (by decide +kernel) (by decide +kernel)
/-! java/lang/Enum -/
set_option maxRecDepth 100000
def RJ3 : String := "java/lang/Enum"
abbrev cJ3_ordinal : ByteArray := prog_22_method_2_code
def yJ3_ordinal : MethodName := ⟨RJ3, "ordinal", "()I"⟩
theorem dJ3_ordinal_0 : decode cJ3_ordinal 0 = .ok (.aload_n 0, 1) := by decide +kernel
theorem dJ3_ordinal_1 : decode cJ3_ordinal 1 = .ok (.getfield 7, 3) := by decide +kernel
theorem dJ3_ordinal_4 : decode cJ3_ordinal 4 = .ok (.ireturn, 1) := by decide +kernel
theorem q56 : (Jvm.Cond.initialized "java/lang/Enum") ∈ lw_all := lw_g (lw_at lw_m1 8 rfl) rfl
theorem q400 : (Jvm.Cond.declares ({ cls := "java/lang/Enum", name := "ordinal", desc := "()I" } : Jvm.MethodName)) ∈ lw_tbl := lw_at lw_m2 112 rfl
theorem q404 : (Jvm.Cond.instanceMethod ({ cls := "java/lang/Enum", name := "ordinal", desc := "()I" } : Jvm.MethodName)) ∈ lw_all := lw_g (lw_at lw_m2 116 rfl) rfl
theorem q405 : (Jvm.Cond.code ({ cls := "java/lang/Enum", name := "ordinal", desc := "()I" } : Jvm.MethodName) prog_22_method_2_code (1 : Nat) (Option.some Jvm.ClassFile.FieldType.int)) ∈ lw_all := lw_g (lw_at lw_m2 117 rfl) rfl
theorem q1827 : (Jvm.Cond.fieldLink "java/lang/Enum" (7 : Nat) "java/lang/Enum" "ordinal" "I") ∈ lw_all := lw_g (lw_at lw_m8 99 rfl) rfl
/-! java/lang/String -/
set_option maxRecDepth 100000
def RJ9 : String := "java/lang/String"
def TJ9 : u_T := fun k => match k with
  | 0 => ("java/lang/String", "value", "[B", true)
  | 1 => ("java/lang/String", "coder", "B", true)
  | 2 => ("java/lang/String", "hash", "I", false)
  | _ => ("java/lang/String", "hashIsZero", "Z", false)
def tyJ9 : Nat → FieldType := fun k => match k with
  | 0 => .array .byte
  | 1 => .byte
  | 2 => .int
  | _ => .boolean
abbrev wsJ90 : List Cond := u_ws RJ9 TJ9 4
theorem nmJ9 : ∀ a, a < 4 → ∀ b, b < 4 → a ≠ b → (TJ9 a).2.1 ≠ (TJ9 b).2.1 := by decide +kernel
theorem tyJ9_ok : ∀ k, k < 4 → parseFieldDescriptor (TJ9 k).2.2.1 = some (tyJ9 k) := by decide +kernel
abbrev cJ9_checkBoundsOffCount : ByteArray := prog_33_method_157_code
def yJ9_checkBoundsOffCount : MethodName := ⟨RJ9, "checkBoundsOffCount", "(III)I"⟩
def dkwJ9_checkBoundsOffCount_0 : List UInt8 := [26, 27, 28, 178, 4, 29, 184, 4, 41, 172]
abbrev dktJ9_checkBoundsOffCount_0 : List UInt8 := dkwJ9_checkBoundsOffCount_0 ++ []
theorem dksJ9_checkBoundsOffCount_0 : cJ9_checkBoundsOffCount.data.toList.drop 0 = dktJ9_checkBoundsOffCount_0 := by decide +kernel
theorem dJ9_checkBoundsOffCount_0 : decode cJ9_checkBoundsOffCount 0 = .ok (.iload_n 0, 1) := dk_26 (dk_at dksJ9_checkBoundsOffCount_0 0 rfl rfl)
theorem dJ9_checkBoundsOffCount_1 : decode cJ9_checkBoundsOffCount 1 = .ok (.iload_n 1, 1) := dk_27 (dk_at dksJ9_checkBoundsOffCount_0 1 rfl rfl)
theorem dJ9_checkBoundsOffCount_2 : decode cJ9_checkBoundsOffCount 2 = .ok (.iload_n 2, 1) := dk_28 (dk_at dksJ9_checkBoundsOffCount_0 2 rfl rfl)
theorem dJ9_checkBoundsOffCount_3 : decode cJ9_checkBoundsOffCount 3 = .ok (.getstatic 1053, 3) := dk_178 4 29 (dk_at dksJ9_checkBoundsOffCount_0 3 rfl rfl)
theorem dJ9_checkBoundsOffCount_6 : decode cJ9_checkBoundsOffCount 6 = .ok (.invokestatic 1065, 3) := dk_184 4 41 (dk_at dksJ9_checkBoundsOffCount_0 6 rfl rfl)
theorem dJ9_checkBoundsOffCount_9 : decode cJ9_checkBoundsOffCount 9 = .ok (.ireturn, 1) := dk_172 (dk_at dksJ9_checkBoundsOffCount_0 9 rfl rfl)
abbrev cJ9_checkIndex : ByteArray := prog_33_method_155_code
def yJ9_checkIndex : MethodName := ⟨RJ9, "checkIndex", "(II)V"⟩
def dkwJ9_checkIndex_0 : List UInt8 := [26, 27, 178, 4, 29, 184, 4, 35, 87, 177]
abbrev dktJ9_checkIndex_0 : List UInt8 := dkwJ9_checkIndex_0 ++ []
theorem dksJ9_checkIndex_0 : cJ9_checkIndex.data.toList.drop 0 = dktJ9_checkIndex_0 := by decide +kernel
theorem dJ9_checkIndex_0 : decode cJ9_checkIndex 0 = .ok (.iload_n 0, 1) := dk_26 (dk_at dksJ9_checkIndex_0 0 rfl rfl)
theorem dJ9_checkIndex_1 : decode cJ9_checkIndex 1 = .ok (.iload_n 1, 1) := dk_27 (dk_at dksJ9_checkIndex_0 1 rfl rfl)
theorem dJ9_checkIndex_2 : decode cJ9_checkIndex 2 = .ok (.getstatic 1053, 3) := dk_178 4 29 (dk_at dksJ9_checkIndex_0 2 rfl rfl)
theorem dJ9_checkIndex_5 : decode cJ9_checkIndex 5 = .ok (.invokestatic 1059, 3) := dk_184 4 35 (dk_at dksJ9_checkIndex_0 5 rfl rfl)
theorem dJ9_checkIndex_8 : decode cJ9_checkIndex 8 = .ok (.pop, 1) := dk_87 (dk_at dksJ9_checkIndex_0 8 rfl rfl)
theorem dJ9_checkIndex_9 : decode cJ9_checkIndex 9 = .ok (.return_, 1) := dk_177 (dk_at dksJ9_checkIndex_0 9 rfl rfl)
abbrev cJ9_init : ByteArray := prog_33_method_53_code
def yJ9_init : MethodName := ⟨RJ9, "<init>", "(Ljava/lang/StringBuilder;)V"⟩
def dkwJ9_init_0 : List UInt8 := [42, 43, 1, 183, 1, 233, 177]
abbrev dktJ9_init_0 : List UInt8 := dkwJ9_init_0 ++ []
theorem dksJ9_init_0 : cJ9_init.data.toList.drop 0 = dktJ9_init_0 := by decide +kernel
theorem dJ9_init_0 : decode cJ9_init 0 = .ok (.aload_n 0, 1) := dk_42 (dk_at dksJ9_init_0 0 rfl rfl)
theorem dJ9_init_1 : decode cJ9_init 1 = .ok (.aload_n 1, 1) := dk_43 (dk_at dksJ9_init_0 1 rfl rfl)
theorem dJ9_init_2 : decode cJ9_init 2 = .ok (.aconst_null, 1) := dk_1 (dk_at dksJ9_init_0 2 rfl rfl)
theorem dJ9_init_3 : decode cJ9_init 3 = .ok (.invokespecial 489, 3) := dk_183 1 233 (dk_at dksJ9_init_0 3 rfl rfl)
theorem dJ9_init_6 : decode cJ9_init 6 = .ok (.return_, 1) := dk_177 (dk_at dksJ9_init_0 6 rfl rfl)
abbrev cJ9_init_2 : ByteArray := prog_33_method_150_code
def yJ9_init_2 : MethodName := ⟨RJ9, "<init>", "(Ljava/lang/AbstractStringBuilder;Ljava/lang/Void;)V"⟩
def dkwJ9_init_2_4 : List UInt8 := [181, 0, 9, 177]
abbrev dktJ9_init_2_4 : List UInt8 := dkwJ9_init_2_4 ++ []
def dkwJ9_init_2_3 : List UInt8 := [184, 0, 47, 181, 0, 15, 177, 42, 4, 181, 0, 15, 42, 45, 3, 21, 4, 4, 120, 184, 0, 54]
abbrev dktJ9_init_2_3 : List UInt8 := dkwJ9_init_2_3 ++ dktJ9_init_2_4
def dkwJ9_init_2_2 : List UInt8 := [180, 4, 24, 153, 0, 28, 42, 45, 3, 21, 4, 184, 4, 27, 181, 0, 9, 42, 42, 180, 0, 9, 21, 4]
abbrev dktJ9_init_2_2 : List UInt8 := dkwJ9_init_2_2 ++ dktJ9_init_2_3
def dkwJ9_init_2_1 : List UInt8 := [181, 0, 15, 42, 45, 3, 21, 4, 184, 0, 54, 181, 0, 9, 167, 0, 59, 178, 0, 38, 153, 0, 35, 43]
abbrev dktJ9_init_2_1 : List UInt8 := dkwJ9_init_2_1 ++ dktJ9_init_2_2
def dkwJ9_init_2_0 : List UInt8 := [42, 183, 0, 1, 43, 182, 2, 40, 78, 43, 182, 2, 37, 54, 4, 43, 182, 4, 23, 153, 0, 22, 42, 3]
abbrev dktJ9_init_2_0 : List UInt8 := dkwJ9_init_2_0 ++ dktJ9_init_2_1
theorem dksJ9_init_2_0 : cJ9_init_2.data.toList.drop 0 = dktJ9_init_2_0 := by decide +kernel
theorem dksJ9_init_2_1 : cJ9_init_2.data.toList.drop 24 = dktJ9_init_2_1 := dk_seg dksJ9_init_2_0 24 rfl rfl
theorem dksJ9_init_2_2 : cJ9_init_2.data.toList.drop 48 = dktJ9_init_2_2 := dk_seg dksJ9_init_2_1 24 rfl rfl
theorem dksJ9_init_2_3 : cJ9_init_2.data.toList.drop 72 = dktJ9_init_2_3 := dk_seg dksJ9_init_2_2 24 rfl rfl
theorem dksJ9_init_2_4 : cJ9_init_2.data.toList.drop 94 = dktJ9_init_2_4 := dk_seg dksJ9_init_2_3 22 rfl rfl
theorem dJ9_init_2_0 : decode cJ9_init_2 0 = .ok (.aload_n 0, 1) := dk_42 (dk_at dksJ9_init_2_0 0 rfl rfl)
theorem dJ9_init_2_1 : decode cJ9_init_2 1 = .ok (.invokespecial 1, 3) := dk_183 0 1 (dk_at dksJ9_init_2_0 1 rfl rfl)
theorem dJ9_init_2_4 : decode cJ9_init_2 4 = .ok (.aload_n 1, 1) := dk_43 (dk_at dksJ9_init_2_0 4 rfl rfl)
theorem dJ9_init_2_5 : decode cJ9_init_2 5 = .ok (.invokevirtual 552, 3) := dk_182 2 40 (dk_at dksJ9_init_2_0 5 rfl rfl)
theorem dJ9_init_2_8 : decode cJ9_init_2 8 = .ok (.astore_n 3, 1) := dk_78 (dk_at dksJ9_init_2_0 8 rfl rfl)
theorem dJ9_init_2_9 : decode cJ9_init_2 9 = .ok (.aload_n 1, 1) := dk_43 (dk_at dksJ9_init_2_0 9 rfl rfl)
theorem dJ9_init_2_10 : decode cJ9_init_2 10 = .ok (.invokevirtual 549, 3) := dk_182 2 37 (dk_at dksJ9_init_2_0 10 rfl rfl)
theorem dJ9_init_2_13 : decode cJ9_init_2 13 = .ok (.istore 4, 2) := dk_54 4 (dk_at dksJ9_init_2_0 13 rfl rfl)
theorem dJ9_init_2_15 : decode cJ9_init_2 15 = .ok (.aload_n 1, 1) := dk_43 (dk_at dksJ9_init_2_0 15 rfl rfl)
theorem dJ9_init_2_16 : decode cJ9_init_2 16 = .ok (.invokevirtual 1047, 3) := dk_182 4 23 (dk_at dksJ9_init_2_0 16 rfl rfl)
theorem dJ9_init_2_19 : decode cJ9_init_2 19 = .ok (.ifCond .eq 22, 3) := dk_153 0 22 (dk_at dksJ9_init_2_0 19 rfl rfl)
theorem dJ9_init_2_22 : decode cJ9_init_2 22 = .ok (.aload_n 0, 1) := dk_42 (dk_at dksJ9_init_2_0 22 rfl rfl)
theorem dJ9_init_2_23 : decode cJ9_init_2 23 = .ok (.iconst 0, 1) := dk_3 (dk_at dksJ9_init_2_0 23 rfl rfl)
theorem dJ9_init_2_24 : decode cJ9_init_2 24 = .ok (.putfield 15, 3) := dk_181 0 15 (dk_at dksJ9_init_2_1 0 rfl rfl)
theorem dJ9_init_2_27 : decode cJ9_init_2 27 = .ok (.aload_n 0, 1) := dk_42 (dk_at dksJ9_init_2_1 3 rfl rfl)
theorem dJ9_init_2_28 : decode cJ9_init_2 28 = .ok (.aload_n 3, 1) := dk_45 (dk_at dksJ9_init_2_1 4 rfl rfl)
theorem dJ9_init_2_29 : decode cJ9_init_2 29 = .ok (.iconst 0, 1) := dk_3 (dk_at dksJ9_init_2_1 5 rfl rfl)
theorem dJ9_init_2_30 : decode cJ9_init_2 30 = .ok (.iload 4, 2) := dk_21 4 (dk_at dksJ9_init_2_1 6 rfl rfl)
theorem dJ9_init_2_32 : decode cJ9_init_2 32 = .ok (.invokestatic 54, 3) := dk_184 0 54 (dk_at dksJ9_init_2_1 8 rfl rfl)
theorem dJ9_init_2_35 : decode cJ9_init_2 35 = .ok (.putfield 9, 3) := dk_181 0 9 (dk_at dksJ9_init_2_1 11 rfl rfl)
theorem dJ9_init_2_38 : decode cJ9_init_2 38 = .ok (.goto 59, 3) := dk_167 0 59 (dk_at dksJ9_init_2_1 14 rfl rfl)
theorem dJ9_init_2_41 : decode cJ9_init_2 41 = .ok (.getstatic 38, 3) := dk_178 0 38 (dk_at dksJ9_init_2_1 17 rfl rfl)
theorem dJ9_init_2_44 : decode cJ9_init_2 44 = .ok (.ifCond .eq 35, 3) := dk_153 0 35 (dk_at dksJ9_init_2_1 20 rfl rfl)
theorem dJ9_init_2_47 : decode cJ9_init_2 47 = .ok (.aload_n 1, 1) := dk_43 (dk_at dksJ9_init_2_1 23 rfl rfl)
theorem dJ9_init_2_48 : decode cJ9_init_2 48 = .ok (.getfield 1048, 3) := dk_180 4 24 (dk_at dksJ9_init_2_2 0 rfl rfl)
theorem dJ9_init_2_51 : decode cJ9_init_2 51 = .ok (.ifCond .eq 28, 3) := dk_153 0 28 (dk_at dksJ9_init_2_2 3 rfl rfl)
theorem dJ9_init_2_54 : decode cJ9_init_2 54 = .ok (.aload_n 0, 1) := dk_42 (dk_at dksJ9_init_2_2 6 rfl rfl)
theorem dJ9_init_2_55 : decode cJ9_init_2 55 = .ok (.aload_n 3, 1) := dk_45 (dk_at dksJ9_init_2_2 7 rfl rfl)
theorem dJ9_init_2_56 : decode cJ9_init_2 56 = .ok (.iconst 0, 1) := dk_3 (dk_at dksJ9_init_2_2 8 rfl rfl)
theorem dJ9_init_2_57 : decode cJ9_init_2 57 = .ok (.iload 4, 2) := dk_21 4 (dk_at dksJ9_init_2_2 9 rfl rfl)
theorem dJ9_init_2_59 : decode cJ9_init_2 59 = .ok (.invokestatic 1051, 3) := dk_184 4 27 (dk_at dksJ9_init_2_2 11 rfl rfl)
theorem dJ9_init_2_62 : decode cJ9_init_2 62 = .ok (.putfield 9, 3) := dk_181 0 9 (dk_at dksJ9_init_2_2 14 rfl rfl)
theorem dJ9_init_2_65 : decode cJ9_init_2 65 = .ok (.aload_n 0, 1) := dk_42 (dk_at dksJ9_init_2_2 17 rfl rfl)
theorem dJ9_init_2_66 : decode cJ9_init_2 66 = .ok (.aload_n 0, 1) := dk_42 (dk_at dksJ9_init_2_2 18 rfl rfl)
theorem dJ9_init_2_67 : decode cJ9_init_2 67 = .ok (.getfield 9, 3) := dk_180 0 9 (dk_at dksJ9_init_2_2 19 rfl rfl)
theorem dJ9_init_2_70 : decode cJ9_init_2 70 = .ok (.iload 4, 2) := dk_21 4 (dk_at dksJ9_init_2_2 22 rfl rfl)
theorem dJ9_init_2_72 : decode cJ9_init_2 72 = .ok (.invokestatic 47, 3) := dk_184 0 47 (dk_at dksJ9_init_2_3 0 rfl rfl)
theorem dJ9_init_2_75 : decode cJ9_init_2 75 = .ok (.putfield 15, 3) := dk_181 0 15 (dk_at dksJ9_init_2_3 3 rfl rfl)
theorem dJ9_init_2_78 : decode cJ9_init_2 78 = .ok (.return_, 1) := dk_177 (dk_at dksJ9_init_2_3 6 rfl rfl)
theorem dJ9_init_2_79 : decode cJ9_init_2 79 = .ok (.aload_n 0, 1) := dk_42 (dk_at dksJ9_init_2_3 7 rfl rfl)
theorem dJ9_init_2_80 : decode cJ9_init_2 80 = .ok (.iconst 1, 1) := dk_4 (dk_at dksJ9_init_2_3 8 rfl rfl)
theorem dJ9_init_2_81 : decode cJ9_init_2 81 = .ok (.putfield 15, 3) := dk_181 0 15 (dk_at dksJ9_init_2_3 9 rfl rfl)
theorem dJ9_init_2_84 : decode cJ9_init_2 84 = .ok (.aload_n 0, 1) := dk_42 (dk_at dksJ9_init_2_3 12 rfl rfl)
theorem dJ9_init_2_85 : decode cJ9_init_2 85 = .ok (.aload_n 3, 1) := dk_45 (dk_at dksJ9_init_2_3 13 rfl rfl)
theorem dJ9_init_2_86 : decode cJ9_init_2 86 = .ok (.iconst 0, 1) := dk_3 (dk_at dksJ9_init_2_3 14 rfl rfl)
theorem dJ9_init_2_87 : decode cJ9_init_2 87 = .ok (.iload 4, 2) := dk_21 4 (dk_at dksJ9_init_2_3 15 rfl rfl)
theorem dJ9_init_2_89 : decode cJ9_init_2 89 = .ok (.iconst 1, 1) := dk_4 (dk_at dksJ9_init_2_3 17 rfl rfl)
theorem dJ9_init_2_90 : decode cJ9_init_2 90 = .ok (.ishl, 1) := dk_120 (dk_at dksJ9_init_2_3 18 rfl rfl)
theorem dJ9_init_2_91 : decode cJ9_init_2 91 = .ok (.invokestatic 54, 3) := dk_184 0 54 (dk_at dksJ9_init_2_3 19 rfl rfl)
theorem dJ9_init_2_94 : decode cJ9_init_2 94 = .ok (.putfield 9, 3) := dk_181 0 9 (dk_at dksJ9_init_2_4 0 rfl rfl)
theorem dJ9_init_2_97 : decode cJ9_init_2 97 = .ok (.return_, 1) := dk_177 (dk_at dksJ9_init_2_4 3 rfl rfl)
abbrev cJ9_checkBoundsBeginEnd : ByteArray := prog_33_method_158_code
def yJ9_checkBoundsBeginEnd : MethodName := ⟨RJ9, "checkBoundsBeginEnd", "(III)V"⟩
def dkwJ9_checkBoundsBeginEnd_0 : List UInt8 := [26, 27, 28, 178, 4, 29, 184, 4, 38, 87, 177]
abbrev dktJ9_checkBoundsBeginEnd_0 : List UInt8 := dkwJ9_checkBoundsBeginEnd_0 ++ []
theorem dksJ9_checkBoundsBeginEnd_0 : cJ9_checkBoundsBeginEnd.data.toList.drop 0 = dktJ9_checkBoundsBeginEnd_0 := by decide +kernel
theorem dJ9_checkBoundsBeginEnd_0 : decode cJ9_checkBoundsBeginEnd 0 = .ok (.iload_n 0, 1) := dk_26 (dk_at dksJ9_checkBoundsBeginEnd_0 0 rfl rfl)
theorem dJ9_checkBoundsBeginEnd_1 : decode cJ9_checkBoundsBeginEnd 1 = .ok (.iload_n 1, 1) := dk_27 (dk_at dksJ9_checkBoundsBeginEnd_0 1 rfl rfl)
theorem dJ9_checkBoundsBeginEnd_2 : decode cJ9_checkBoundsBeginEnd 2 = .ok (.iload_n 2, 1) := dk_28 (dk_at dksJ9_checkBoundsBeginEnd_0 2 rfl rfl)
theorem dJ9_checkBoundsBeginEnd_3 : decode cJ9_checkBoundsBeginEnd 3 = .ok (.getstatic 1053, 3) := dk_178 4 29 (dk_at dksJ9_checkBoundsBeginEnd_0 3 rfl rfl)
theorem dJ9_checkBoundsBeginEnd_6 : decode cJ9_checkBoundsBeginEnd 6 = .ok (.invokestatic 1062, 3) := dk_184 4 38 (dk_at dksJ9_checkBoundsBeginEnd_0 6 rfl rfl)
theorem dJ9_checkBoundsBeginEnd_9 : decode cJ9_checkBoundsBeginEnd 9 = .ok (.pop, 1) := dk_87 (dk_at dksJ9_checkBoundsBeginEnd_0 9 rfl rfl)
theorem dJ9_checkBoundsBeginEnd_10 : decode cJ9_checkBoundsBeginEnd 10 = .ok (.return_, 1) := dk_177 (dk_at dksJ9_checkBoundsBeginEnd_0 10 rfl rfl)
abbrev cJ9_length : ByteArray := prog_33_method_54_code
def yJ9_length : MethodName := ⟨RJ9, "length", "()I"⟩
def dkwJ9_length_0 : List UInt8 := [42, 180, 0, 9, 190, 42, 182, 1, 79, 122, 172]
abbrev dktJ9_length_0 : List UInt8 := dkwJ9_length_0 ++ []
theorem dksJ9_length_0 : cJ9_length.data.toList.drop 0 = dktJ9_length_0 := by decide +kernel
theorem dJ9_length_0 : decode cJ9_length 0 = .ok (.aload_n 0, 1) := dk_42 (dk_at dksJ9_length_0 0 rfl rfl)
theorem dJ9_length_1 : decode cJ9_length 1 = .ok (.getfield 9, 3) := dk_180 0 9 (dk_at dksJ9_length_0 1 rfl rfl)
theorem dJ9_length_4 : decode cJ9_length 4 = .ok (.arraylength, 1) := dk_190 (dk_at dksJ9_length_0 4 rfl rfl)
theorem dJ9_length_5 : decode cJ9_length 5 = .ok (.aload_n 0, 1) := dk_42 (dk_at dksJ9_length_0 5 rfl rfl)
theorem dJ9_length_6 : decode cJ9_length 6 = .ok (.invokevirtual 335, 3) := dk_182 1 79 (dk_at dksJ9_length_0 6 rfl rfl)
theorem dJ9_length_9 : decode cJ9_length 9 = .ok (.ishr, 1) := dk_122 (dk_at dksJ9_length_0 9 rfl rfl)
theorem dJ9_length_10 : decode cJ9_length 10 = .ok (.ireturn, 1) := dk_172 (dk_at dksJ9_length_0 10 rfl rfl)
abbrev cJ9_coder : ByteArray := prog_33_method_152_code
def yJ9_coder : MethodName := ⟨RJ9, "coder", "()B"⟩
def dkwJ9_coder_0 : List UInt8 := [178, 0, 38, 153, 0, 10, 42, 180, 0, 15, 167, 0, 4, 4, 172]
abbrev dktJ9_coder_0 : List UInt8 := dkwJ9_coder_0 ++ []
theorem dksJ9_coder_0 : cJ9_coder.data.toList.drop 0 = dktJ9_coder_0 := by decide +kernel
theorem dJ9_coder_0 : decode cJ9_coder 0 = .ok (.getstatic 38, 3) := dk_178 0 38 (dk_at dksJ9_coder_0 0 rfl rfl)
theorem dJ9_coder_3 : decode cJ9_coder 3 = .ok (.ifCond .eq 10, 3) := dk_153 0 10 (dk_at dksJ9_coder_0 3 rfl rfl)
theorem dJ9_coder_6 : decode cJ9_coder 6 = .ok (.aload_n 0, 1) := dk_42 (dk_at dksJ9_coder_0 6 rfl rfl)
theorem dJ9_coder_7 : decode cJ9_coder 7 = .ok (.getfield 15, 3) := dk_180 0 15 (dk_at dksJ9_coder_0 7 rfl rfl)
theorem dJ9_coder_10 : decode cJ9_coder 10 = .ok (.goto 4, 3) := dk_167 0 4 (dk_at dksJ9_coder_0 10 rfl rfl)
theorem dJ9_coder_13 : decode cJ9_coder 13 = .ok (.iconst 1, 1) := dk_4 (dk_at dksJ9_coder_0 13 rfl rfl)
theorem dJ9_coder_14 : decode cJ9_coder 14 = .ok (.ireturn, 1) := dk_172 (dk_at dksJ9_coder_0 14 rfl rfl)
abbrev cJ9_getBytes : ByteArray := prog_33_method_147_code
def yJ9_getBytes : MethodName := ⟨RJ9, "getBytes", "([BIB)V"⟩
def dkwJ9_getBytes_1 : List UInt8 := [184, 0, 212, 167, 0, 18, 42, 180, 0, 9, 3, 43, 28, 42, 180, 0, 9, 190, 184, 0, 106, 177]
abbrev dktJ9_getBytes_1 : List UInt8 := dkwJ9_getBytes_1 ++ []
def dkwJ9_getBytes_0 : List UInt8 := [42, 182, 1, 79, 29, 160, 0, 23, 42, 180, 0, 9, 3, 43, 28, 29, 120, 42, 180, 0, 9, 190]
abbrev dktJ9_getBytes_0 : List UInt8 := dkwJ9_getBytes_0 ++ dktJ9_getBytes_1
theorem dksJ9_getBytes_0 : cJ9_getBytes.data.toList.drop 0 = dktJ9_getBytes_0 := by decide +kernel
theorem dksJ9_getBytes_1 : cJ9_getBytes.data.toList.drop 22 = dktJ9_getBytes_1 := dk_seg dksJ9_getBytes_0 22 rfl rfl
theorem dJ9_getBytes_0 : decode cJ9_getBytes 0 = .ok (.aload_n 0, 1) := dk_42 (dk_at dksJ9_getBytes_0 0 rfl rfl)
theorem dJ9_getBytes_1 : decode cJ9_getBytes 1 = .ok (.invokevirtual 335, 3) := dk_182 1 79 (dk_at dksJ9_getBytes_0 1 rfl rfl)
theorem dJ9_getBytes_4 : decode cJ9_getBytes 4 = .ok (.iload_n 3, 1) := dk_29 (dk_at dksJ9_getBytes_0 4 rfl rfl)
theorem dJ9_getBytes_5 : decode cJ9_getBytes 5 = .ok (.if_icmp .ne 23, 3) := dk_160 0 23 (dk_at dksJ9_getBytes_0 5 rfl rfl)
theorem dJ9_getBytes_8 : decode cJ9_getBytes 8 = .ok (.aload_n 0, 1) := dk_42 (dk_at dksJ9_getBytes_0 8 rfl rfl)
theorem dJ9_getBytes_9 : decode cJ9_getBytes 9 = .ok (.getfield 9, 3) := dk_180 0 9 (dk_at dksJ9_getBytes_0 9 rfl rfl)
theorem dJ9_getBytes_12 : decode cJ9_getBytes 12 = .ok (.iconst 0, 1) := dk_3 (dk_at dksJ9_getBytes_0 12 rfl rfl)
theorem dJ9_getBytes_13 : decode cJ9_getBytes 13 = .ok (.aload_n 1, 1) := dk_43 (dk_at dksJ9_getBytes_0 13 rfl rfl)
theorem dJ9_getBytes_14 : decode cJ9_getBytes 14 = .ok (.iload_n 2, 1) := dk_28 (dk_at dksJ9_getBytes_0 14 rfl rfl)
theorem dJ9_getBytes_15 : decode cJ9_getBytes 15 = .ok (.iload_n 3, 1) := dk_29 (dk_at dksJ9_getBytes_0 15 rfl rfl)
theorem dJ9_getBytes_16 : decode cJ9_getBytes 16 = .ok (.ishl, 1) := dk_120 (dk_at dksJ9_getBytes_0 16 rfl rfl)
theorem dJ9_getBytes_17 : decode cJ9_getBytes 17 = .ok (.aload_n 0, 1) := dk_42 (dk_at dksJ9_getBytes_0 17 rfl rfl)
theorem dJ9_getBytes_18 : decode cJ9_getBytes 18 = .ok (.getfield 9, 3) := dk_180 0 9 (dk_at dksJ9_getBytes_0 18 rfl rfl)
theorem dJ9_getBytes_21 : decode cJ9_getBytes 21 = .ok (.arraylength, 1) := dk_190 (dk_at dksJ9_getBytes_0 21 rfl rfl)
theorem dJ9_getBytes_22 : decode cJ9_getBytes 22 = .ok (.invokestatic 212, 3) := dk_184 0 212 (dk_at dksJ9_getBytes_1 0 rfl rfl)
theorem dJ9_getBytes_25 : decode cJ9_getBytes 25 = .ok (.goto 18, 3) := dk_167 0 18 (dk_at dksJ9_getBytes_1 3 rfl rfl)
theorem dJ9_getBytes_28 : decode cJ9_getBytes 28 = .ok (.aload_n 0, 1) := dk_42 (dk_at dksJ9_getBytes_1 6 rfl rfl)
theorem dJ9_getBytes_29 : decode cJ9_getBytes 29 = .ok (.getfield 9, 3) := dk_180 0 9 (dk_at dksJ9_getBytes_1 7 rfl rfl)
theorem dJ9_getBytes_32 : decode cJ9_getBytes 32 = .ok (.iconst 0, 1) := dk_3 (dk_at dksJ9_getBytes_1 10 rfl rfl)
theorem dJ9_getBytes_33 : decode cJ9_getBytes 33 = .ok (.aload_n 1, 1) := dk_43 (dk_at dksJ9_getBytes_1 11 rfl rfl)
theorem dJ9_getBytes_34 : decode cJ9_getBytes 34 = .ok (.iload_n 2, 1) := dk_28 (dk_at dksJ9_getBytes_1 12 rfl rfl)
theorem dJ9_getBytes_35 : decode cJ9_getBytes 35 = .ok (.aload_n 0, 1) := dk_42 (dk_at dksJ9_getBytes_1 13 rfl rfl)
theorem dJ9_getBytes_36 : decode cJ9_getBytes 36 = .ok (.getfield 9, 3) := dk_180 0 9 (dk_at dksJ9_getBytes_1 14 rfl rfl)
theorem dJ9_getBytes_39 : decode cJ9_getBytes 39 = .ok (.arraylength, 1) := dk_190 (dk_at dksJ9_getBytes_1 17 rfl rfl)
theorem dJ9_getBytes_40 : decode cJ9_getBytes 40 = .ok (.invokestatic 106, 3) := dk_184 0 106 (dk_at dksJ9_getBytes_1 18 rfl rfl)
theorem dJ9_getBytes_43 : decode cJ9_getBytes 43 = .ok (.return_, 1) := dk_177 (dk_at dksJ9_getBytes_1 21 rfl rfl)
abbrev cJ9_valueOf : ByteArray := prog_33_method_140_code
def yJ9_valueOf : MethodName := ⟨RJ9, "valueOf", "(I)Ljava/lang/String;"⟩
theorem dJ9_valueOf_0 : decode cJ9_valueOf 0 = .ok (.iload_n 0, 1) := by decide +kernel
theorem dJ9_valueOf_1 : decode cJ9_valueOf 1 = .ok (.invokestatic 1022, 3) := by decide +kernel
theorem dJ9_valueOf_4 : decode cJ9_valueOf 4 = .ok (.areturn, 1) := by decide +kernel
abbrev cJ9_init_3 : ByteArray := prog_33_method_151_code
def yJ9_init_3 : MethodName := ⟨RJ9, "<init>", "([BB)V"⟩
def dkwJ9_init_3_0 : List UInt8 := [42, 183, 0, 1, 42, 43, 181, 0, 9, 42, 28, 181, 0, 15, 177]
abbrev dktJ9_init_3_0 : List UInt8 := dkwJ9_init_3_0 ++ []
theorem dksJ9_init_3_0 : cJ9_init_3.data.toList.drop 0 = dktJ9_init_3_0 := by decide +kernel
theorem dJ9_init_3_0 : decode cJ9_init_3 0 = .ok (.aload_n 0, 1) := dk_42 (dk_at dksJ9_init_3_0 0 rfl rfl)
theorem dJ9_init_3_1 : decode cJ9_init_3 1 = .ok (.invokespecial 1, 3) := dk_183 0 1 (dk_at dksJ9_init_3_0 1 rfl rfl)
theorem dJ9_init_3_4 : decode cJ9_init_3 4 = .ok (.aload_n 0, 1) := dk_42 (dk_at dksJ9_init_3_0 4 rfl rfl)
theorem dJ9_init_3_5 : decode cJ9_init_3 5 = .ok (.aload_n 1, 1) := dk_43 (dk_at dksJ9_init_3_0 5 rfl rfl)
theorem dJ9_init_3_6 : decode cJ9_init_3 6 = .ok (.putfield 9, 3) := dk_181 0 9 (dk_at dksJ9_init_3_0 6 rfl rfl)
theorem dJ9_init_3_9 : decode cJ9_init_3 9 = .ok (.aload_n 0, 1) := dk_42 (dk_at dksJ9_init_3_0 9 rfl rfl)
theorem dJ9_init_3_10 : decode cJ9_init_3 10 = .ok (.iload_n 2, 1) := dk_28 (dk_at dksJ9_init_3_0 10 rfl rfl)
theorem dJ9_init_3_11 : decode cJ9_init_3 11 = .ok (.putfield 15, 3) := dk_181 0 15 (dk_at dksJ9_init_3_0 11 rfl rfl)
theorem dJ9_init_3_14 : decode cJ9_init_3 14 = .ok (.return_, 1) := dk_177 (dk_at dksJ9_init_3_0 14 rfl rfl)
abbrev cJ9_charAt : ByteArray := prog_33_method_56_code
def yJ9_charAt : MethodName := ⟨RJ9, "charAt", "(I)C"⟩
def dkwJ9_charAt_1 : List UInt8 := [172]
abbrev dktJ9_charAt_1 : List UInt8 := dkwJ9_charAt_1 ++ []
def dkwJ9_charAt_0 : List UInt8 := [42, 182, 1, 236, 153, 0, 12, 42, 180, 0, 9, 27, 184, 1, 239, 172, 42, 180, 0, 9, 27, 184, 1, 242]
abbrev dktJ9_charAt_0 : List UInt8 := dkwJ9_charAt_0 ++ dktJ9_charAt_1
theorem dksJ9_charAt_0 : cJ9_charAt.data.toList.drop 0 = dktJ9_charAt_0 := by decide +kernel
theorem dksJ9_charAt_1 : cJ9_charAt.data.toList.drop 24 = dktJ9_charAt_1 := dk_seg dksJ9_charAt_0 24 rfl rfl
theorem dJ9_charAt_0 : decode cJ9_charAt 0 = .ok (.aload_n 0, 1) := dk_42 (dk_at dksJ9_charAt_0 0 rfl rfl)
theorem dJ9_charAt_1 : decode cJ9_charAt 1 = .ok (.invokevirtual 492, 3) := dk_182 1 236 (dk_at dksJ9_charAt_0 1 rfl rfl)
theorem dJ9_charAt_4 : decode cJ9_charAt 4 = .ok (.ifCond .eq 12, 3) := dk_153 0 12 (dk_at dksJ9_charAt_0 4 rfl rfl)
theorem dJ9_charAt_7 : decode cJ9_charAt 7 = .ok (.aload_n 0, 1) := dk_42 (dk_at dksJ9_charAt_0 7 rfl rfl)
theorem dJ9_charAt_8 : decode cJ9_charAt 8 = .ok (.getfield 9, 3) := dk_180 0 9 (dk_at dksJ9_charAt_0 8 rfl rfl)
theorem dJ9_charAt_11 : decode cJ9_charAt 11 = .ok (.iload_n 1, 1) := dk_27 (dk_at dksJ9_charAt_0 11 rfl rfl)
theorem dJ9_charAt_12 : decode cJ9_charAt 12 = .ok (.invokestatic 495, 3) := dk_184 1 239 (dk_at dksJ9_charAt_0 12 rfl rfl)
theorem dJ9_charAt_15 : decode cJ9_charAt 15 = .ok (.ireturn, 1) := dk_172 (dk_at dksJ9_charAt_0 15 rfl rfl)
theorem dJ9_charAt_16 : decode cJ9_charAt 16 = .ok (.aload_n 0, 1) := dk_42 (dk_at dksJ9_charAt_0 16 rfl rfl)
theorem dJ9_charAt_17 : decode cJ9_charAt 17 = .ok (.getfield 9, 3) := dk_180 0 9 (dk_at dksJ9_charAt_0 17 rfl rfl)
theorem dJ9_charAt_20 : decode cJ9_charAt 20 = .ok (.iload_n 1, 1) := dk_27 (dk_at dksJ9_charAt_0 20 rfl rfl)
theorem dJ9_charAt_21 : decode cJ9_charAt 21 = .ok (.invokestatic 498, 3) := dk_184 1 242 (dk_at dksJ9_charAt_0 21 rfl rfl)
theorem dJ9_charAt_24 : decode cJ9_charAt 24 = .ok (.ireturn, 1) := dk_172 (dk_at dksJ9_charAt_1 0 rfl rfl)
abbrev cJ9_isLatin1 : ByteArray := prog_33_method_154_code
def yJ9_isLatin1 : MethodName := ⟨RJ9, "isLatin1", "()Z"⟩
def dkwJ9_isLatin1_0 : List UInt8 := [178, 0, 38, 153, 0, 14, 42, 180, 0, 15, 154, 0, 7, 4, 167, 0, 4, 3, 172]
abbrev dktJ9_isLatin1_0 : List UInt8 := dkwJ9_isLatin1_0 ++ []
theorem dksJ9_isLatin1_0 : cJ9_isLatin1.data.toList.drop 0 = dktJ9_isLatin1_0 := by decide +kernel
theorem dJ9_isLatin1_0 : decode cJ9_isLatin1 0 = .ok (.getstatic 38, 3) := dk_178 0 38 (dk_at dksJ9_isLatin1_0 0 rfl rfl)
theorem dJ9_isLatin1_3 : decode cJ9_isLatin1 3 = .ok (.ifCond .eq 14, 3) := dk_153 0 14 (dk_at dksJ9_isLatin1_0 3 rfl rfl)
theorem dJ9_isLatin1_6 : decode cJ9_isLatin1 6 = .ok (.aload_n 0, 1) := dk_42 (dk_at dksJ9_isLatin1_0 6 rfl rfl)
theorem dJ9_isLatin1_7 : decode cJ9_isLatin1 7 = .ok (.getfield 15, 3) := dk_180 0 15 (dk_at dksJ9_isLatin1_0 7 rfl rfl)
theorem dJ9_isLatin1_10 : decode cJ9_isLatin1 10 = .ok (.ifCond .ne 7, 3) := dk_154 0 7 (dk_at dksJ9_isLatin1_0 10 rfl rfl)
theorem dJ9_isLatin1_13 : decode cJ9_isLatin1 13 = .ok (.iconst 1, 1) := dk_4 (dk_at dksJ9_isLatin1_0 13 rfl rfl)
theorem dJ9_isLatin1_14 : decode cJ9_isLatin1 14 = .ok (.goto 4, 3) := dk_167 0 4 (dk_at dksJ9_isLatin1_0 14 rfl rfl)
theorem dJ9_isLatin1_17 : decode cJ9_isLatin1 17 = .ok (.iconst 0, 1) := dk_3 (dk_at dksJ9_isLatin1_0 17 rfl rfl)
theorem dJ9_isLatin1_18 : decode cJ9_isLatin1 18 = .ok (.ireturn, 1) := dk_172 (dk_at dksJ9_isLatin1_0 18 rfl rfl)
abbrev cJ9_equals : ByteArray := prog_33_method_66_code
def yJ9_equals : MethodName := ⟨RJ9, "equals", "(Ljava/lang/Object;)Z"⟩
def dkwJ9_equals_2 : List UInt8 := [184, 2, 29, 153, 0, 7, 4, 167, 0, 4, 3, 172]
abbrev dktJ9_equals_2 : List UInt8 := dkwJ9_equals_2 ++ []
def dkwJ9_equals_1 : List UInt8 := [153, 0, 14, 42, 180, 0, 15, 44, 180, 0, 15, 160, 0, 21, 42, 180, 0, 9, 44, 180, 0, 9]
abbrev dktJ9_equals_1 : List UInt8 := dkwJ9_equals_1 ++ dktJ9_equals_2
def dkwJ9_equals_0 : List UInt8 := [42, 43, 166, 0, 5, 4, 172, 43, 193, 0, 10, 153, 0, 43, 43, 192, 0, 10, 77, 178, 0, 38]
abbrev dktJ9_equals_0 : List UInt8 := dkwJ9_equals_0 ++ dktJ9_equals_1
theorem dksJ9_equals_0 : cJ9_equals.data.toList.drop 0 = dktJ9_equals_0 := by decide +kernel
theorem dksJ9_equals_1 : cJ9_equals.data.toList.drop 22 = dktJ9_equals_1 := dk_seg dksJ9_equals_0 22 rfl rfl
theorem dksJ9_equals_2 : cJ9_equals.data.toList.drop 44 = dktJ9_equals_2 := dk_seg dksJ9_equals_1 22 rfl rfl
theorem dJ9_equals_0 : decode cJ9_equals 0 = .ok (.aload_n 0, 1) := dk_42 (dk_at dksJ9_equals_0 0 rfl rfl)
theorem dJ9_equals_1 : decode cJ9_equals 1 = .ok (.aload_n 1, 1) := dk_43 (dk_at dksJ9_equals_0 1 rfl rfl)
theorem dJ9_equals_2 : decode cJ9_equals 2 = .ok (.if_acmp .ne 5, 3) := dk_166 0 5 (dk_at dksJ9_equals_0 2 rfl rfl)
theorem dJ9_equals_5 : decode cJ9_equals 5 = .ok (.iconst 1, 1) := dk_4 (dk_at dksJ9_equals_0 5 rfl rfl)
theorem dJ9_equals_6 : decode cJ9_equals 6 = .ok (.ireturn, 1) := dk_172 (dk_at dksJ9_equals_0 6 rfl rfl)
theorem dJ9_equals_7 : decode cJ9_equals 7 = .ok (.aload_n 1, 1) := dk_43 (dk_at dksJ9_equals_0 7 rfl rfl)
theorem dJ9_equals_8 : decode cJ9_equals 8 = .ok (.instanceof 10, 3) := dk_193 0 10 (dk_at dksJ9_equals_0 8 rfl rfl)
theorem dJ9_equals_11 : decode cJ9_equals 11 = .ok (.ifCond .eq 43, 3) := dk_153 0 43 (dk_at dksJ9_equals_0 11 rfl rfl)
theorem dJ9_equals_14 : decode cJ9_equals 14 = .ok (.aload_n 1, 1) := dk_43 (dk_at dksJ9_equals_0 14 rfl rfl)
theorem dJ9_equals_15 : decode cJ9_equals 15 = .ok (.checkcast 10, 3) := dk_192 0 10 (dk_at dksJ9_equals_0 15 rfl rfl)
theorem dJ9_equals_18 : decode cJ9_equals 18 = .ok (.astore_n 2, 1) := dk_77 (dk_at dksJ9_equals_0 18 rfl rfl)
theorem dJ9_equals_19 : decode cJ9_equals 19 = .ok (.getstatic 38, 3) := dk_178 0 38 (dk_at dksJ9_equals_0 19 rfl rfl)
theorem dJ9_equals_22 : decode cJ9_equals 22 = .ok (.ifCond .eq 14, 3) := dk_153 0 14 (dk_at dksJ9_equals_1 0 rfl rfl)
theorem dJ9_equals_25 : decode cJ9_equals 25 = .ok (.aload_n 0, 1) := dk_42 (dk_at dksJ9_equals_1 3 rfl rfl)
theorem dJ9_equals_26 : decode cJ9_equals 26 = .ok (.getfield 15, 3) := dk_180 0 15 (dk_at dksJ9_equals_1 4 rfl rfl)
theorem dJ9_equals_29 : decode cJ9_equals 29 = .ok (.aload_n 2, 1) := dk_44 (dk_at dksJ9_equals_1 7 rfl rfl)
theorem dJ9_equals_30 : decode cJ9_equals 30 = .ok (.getfield 15, 3) := dk_180 0 15 (dk_at dksJ9_equals_1 8 rfl rfl)
theorem dJ9_equals_33 : decode cJ9_equals 33 = .ok (.if_icmp .ne 21, 3) := dk_160 0 21 (dk_at dksJ9_equals_1 11 rfl rfl)
theorem dJ9_equals_36 : decode cJ9_equals 36 = .ok (.aload_n 0, 1) := dk_42 (dk_at dksJ9_equals_1 14 rfl rfl)
theorem dJ9_equals_37 : decode cJ9_equals 37 = .ok (.getfield 9, 3) := dk_180 0 9 (dk_at dksJ9_equals_1 15 rfl rfl)
theorem dJ9_equals_40 : decode cJ9_equals 40 = .ok (.aload_n 2, 1) := dk_44 (dk_at dksJ9_equals_1 18 rfl rfl)
theorem dJ9_equals_41 : decode cJ9_equals 41 = .ok (.getfield 9, 3) := dk_180 0 9 (dk_at dksJ9_equals_1 19 rfl rfl)
theorem dJ9_equals_44 : decode cJ9_equals 44 = .ok (.invokestatic 541, 3) := dk_184 2 29 (dk_at dksJ9_equals_2 0 rfl rfl)
theorem dJ9_equals_47 : decode cJ9_equals 47 = .ok (.ifCond .eq 7, 3) := dk_153 0 7 (dk_at dksJ9_equals_2 3 rfl rfl)
theorem dJ9_equals_50 : decode cJ9_equals 50 = .ok (.iconst 1, 1) := dk_4 (dk_at dksJ9_equals_2 6 rfl rfl)
theorem dJ9_equals_51 : decode cJ9_equals 51 = .ok (.goto 4, 3) := dk_167 0 4 (dk_at dksJ9_equals_2 7 rfl rfl)
theorem dJ9_equals_54 : decode cJ9_equals 54 = .ok (.iconst 0, 1) := dk_3 (dk_at dksJ9_equals_2 10 rfl rfl)
theorem dJ9_equals_55 : decode cJ9_equals 55 = .ok (.ireturn, 1) := dk_172 (dk_at dksJ9_equals_2 11 rfl rfl)
theorem q65 : (Jvm.Cond.initialized "java/lang/String") ∈ lw_all := lw_g (lw_at lw_m1 17 rfl) rfl
theorem q618 : (Jvm.Cond.instantiable "java/lang/String" (4 : Nat)) ∈ lw_all := lw_g (lw_at lw_m3 90 rfl) rfl
theorem q620 : (Jvm.Cond.laysFinal "java/lang/String" "java/lang/String" "value" "[B") ∈ lw_all := lw_g (lw_at lw_m3 92 rfl) rfl
theorem q621 : (Jvm.Cond.soleField "java/lang/String" "value") ∈ lw_all := lw_g (lw_at lw_m3 93 rfl) rfl
theorem q622 : (Jvm.Cond.laysFinal "java/lang/String" "java/lang/String" "coder" "B") ∈ lw_all := lw_g (lw_at lw_m3 94 rfl) rfl
theorem q623 : (Jvm.Cond.soleField "java/lang/String" "coder") ∈ lw_all := lw_g (lw_at lw_m3 95 rfl) rfl
theorem q844 : (Jvm.Cond.selects "java/lang/String" ({ cls := "java/lang/Object", name := "getClass", desc := "()Ljava/lang/Class;" } : Jvm.MethodName) ({ cls := "java/lang/Object", name := "getClass", desc := "()Ljava/lang/Class;" } : Jvm.MethodName)) ∈ lw_all := lw_g (lw_at lw_m4 76 rfl) rfl
theorem q1047 : (Jvm.Cond.laysStatic "java/lang/String" "COMPACT_STRINGS" "Z") ∈ lw_tbl := lw_at lw_m5 39 rfl
theorem q1057 : (Jvm.Cond.fieldLink "java/lang/String" (1048 : Nat) "java/lang/AbstractStringBuilder" "maybeLatin1" "Z") ∈ lw_all := lw_g (lw_at lw_m5 49 rfl) rfl
theorem q1122 : (Jvm.Cond.static ({ cls := "java/lang/String", name := "checkBoundsOffCount", desc := "(III)I" } : Jvm.MethodName)) ∈ lw_all := lw_g (lw_at lw_m5 114 rfl) rfl
theorem q1123 : (Jvm.Cond.code ({ cls := "java/lang/String", name := "checkBoundsOffCount", desc := "(III)I" } : Jvm.MethodName) prog_33_method_157_code (3 : Nat) (Option.some Jvm.ClassFile.FieldType.int)) ∈ lw_all := lw_g (lw_at lw_m5 115 rfl) rfl
theorem q1124 : (Jvm.Cond.fieldLink "java/lang/String" (1053 : Nat) "jdk/internal/util/Preconditions" "SIOOBE_FORMATTER" "Ljava/util/function/BiFunction;") ∈ lw_all := lw_g (lw_at lw_m5 116 rfl) rfl
theorem q1126 : (Jvm.Cond.methodLink "java/lang/String" (1065 : Nat) ({ cls := "jdk/internal/util/Preconditions", name := "checkFromIndexSize", desc := "(IIILjava/util/function/BiFunction;)I" } : Jvm.MethodName)) ∈ lw_all := lw_g (lw_at lw_m5 118 rfl) rfl
theorem q1145 : (Jvm.Cond.static ({ cls := "java/lang/String", name := "checkIndex", desc := "(II)V" } : Jvm.MethodName)) ∈ lw_all := lw_g (lw_at lw_m5 137 rfl) rfl
theorem q1146 : (Jvm.Cond.code ({ cls := "java/lang/String", name := "checkIndex", desc := "(II)V" } : Jvm.MethodName) prog_33_method_155_code (2 : Nat) (Option.none : Option Jvm.ClassFile.FieldType)) ∈ lw_all := lw_g (lw_at lw_m5 138 rfl) rfl
theorem q1147 : (Jvm.Cond.methodLink "java/lang/String" (1059 : Nat) ({ cls := "jdk/internal/util/Preconditions", name := "checkIndex", desc := "(IILjava/util/function/BiFunction;)I" } : Jvm.MethodName)) ∈ lw_all := lw_g (lw_at lw_m5 139 rfl) rfl
theorem q1154 : (Jvm.Cond.instanceMethod ({ cls := "java/lang/String", name := "<init>", desc := "(Ljava/lang/StringBuilder;)V" } : Jvm.MethodName)) ∈ lw_all := lw_g (lw_at lw_m5 146 rfl) rfl
theorem q1155 : (Jvm.Cond.code ({ cls := "java/lang/String", name := "<init>", desc := "(Ljava/lang/StringBuilder;)V" } : Jvm.MethodName) prog_33_method_53_code (2 : Nat) (Option.none : Option Jvm.ClassFile.FieldType)) ∈ lw_all := lw_g (lw_at lw_m5 147 rfl) rfl
theorem q1156 : (Jvm.Cond.methodLink "java/lang/String" (489 : Nat) ({ cls := "java/lang/String", name := "<init>", desc := "(Ljava/lang/AbstractStringBuilder;Ljava/lang/Void;)V" } : Jvm.MethodName)) ∈ lw_all := lw_g (lw_at lw_m5 148 rfl) rfl
theorem q1157 : (Jvm.Cond.instanceMethod ({ cls := "java/lang/String", name := "<init>", desc := "(Ljava/lang/AbstractStringBuilder;Ljava/lang/Void;)V" } : Jvm.MethodName)) ∈ lw_all := lw_g (lw_at lw_m5 149 rfl) rfl
theorem q1158 : (Jvm.Cond.code ({ cls := "java/lang/String", name := "<init>", desc := "(Ljava/lang/AbstractStringBuilder;Ljava/lang/Void;)V" } : Jvm.MethodName) prog_33_method_150_code (5 : Nat) (Option.none : Option Jvm.ClassFile.FieldType)) ∈ lw_all := lw_g (lw_at lw_m5 150 rfl) rfl
theorem q1159 : (Jvm.Cond.methodLink "java/lang/String" (1 : Nat) ({ cls := "java/lang/Object", name := "<init>", desc := "()V" } : Jvm.MethodName)) ∈ lw_all := lw_g (lw_at lw_m5 151 rfl) rfl
theorem q1160 : (Jvm.Cond.methodLink "java/lang/String" (552 : Nat) ({ cls := "java/lang/AbstractStringBuilder", name := "getValue", desc := "()[B" } : Jvm.MethodName)) ∈ lw_all := lw_g (lw_at lw_m5 152 rfl) rfl
theorem q1165 : (Jvm.Cond.methodLink "java/lang/String" (549 : Nat) ({ cls := "java/lang/AbstractStringBuilder", name := "length", desc := "()I" } : Jvm.MethodName)) ∈ lw_all := lw_g (lw_at lw_m5 157 rfl) rfl
theorem q1173 : (Jvm.Cond.methodLink "java/lang/String" (1047 : Nat) ({ cls := "java/lang/AbstractStringBuilder", name := "isLatin1", desc := "()Z" } : Jvm.MethodName)) ∈ lw_all := lw_g (lw_at lw_m5 165 rfl) rfl
theorem q1174 : (Jvm.Cond.methodLink "java/lang/String" (54 : Nat) ({ cls := "java/util/Arrays", name := "copyOfRange", desc := "([BII)[B" } : Jvm.MethodName)) ∈ lw_all := lw_g (lw_at lw_m5 166 rfl) rfl
theorem q1210 : (Jvm.Cond.static ({ cls := "java/lang/String", name := "checkBoundsBeginEnd", desc := "(III)V" } : Jvm.MethodName)) ∈ lw_all := lw_g (lw_at lw_m5 202 rfl) rfl
theorem q1211 : (Jvm.Cond.code ({ cls := "java/lang/String", name := "checkBoundsBeginEnd", desc := "(III)V" } : Jvm.MethodName) prog_33_method_158_code (3 : Nat) (Option.none : Option Jvm.ClassFile.FieldType)) ∈ lw_all := lw_g (lw_at lw_m5 203 rfl) rfl
theorem q1212 : (Jvm.Cond.methodLink "java/lang/String" (1062 : Nat) ({ cls := "jdk/internal/util/Preconditions", name := "checkFromToIndex", desc := "(IIILjava/util/function/BiFunction;)I" } : Jvm.MethodName)) ∈ lw_all := lw_g (lw_at lw_m5 204 rfl) rfl
theorem q1236 : (Jvm.Cond.instanceMethod ({ cls := "java/lang/String", name := "length", desc := "()I" } : Jvm.MethodName)) ∈ lw_all := lw_g (lw_at lw_m5 228 rfl) rfl
theorem q1237 : (Jvm.Cond.selects "java/lang/String" ({ cls := "java/lang/String", name := "length", desc := "()I" } : Jvm.MethodName) ({ cls := "java/lang/String", name := "length", desc := "()I" } : Jvm.MethodName)) ∈ lw_all := lw_g (lw_at lw_m5 229 rfl) rfl
theorem q1238 : (Jvm.Cond.code ({ cls := "java/lang/String", name := "length", desc := "()I" } : Jvm.MethodName) prog_33_method_54_code (1 : Nat) (Option.some Jvm.ClassFile.FieldType.int)) ∈ lw_all := lw_g (lw_at lw_m5 230 rfl) rfl
theorem q1239 : (Jvm.Cond.methodLink "java/lang/String" (335 : Nat) ({ cls := "java/lang/String", name := "coder", desc := "()B" } : Jvm.MethodName)) ∈ lw_all := lw_g (lw_at lw_m5 231 rfl) rfl
theorem q1240 : (Jvm.Cond.instanceMethod ({ cls := "java/lang/String", name := "coder", desc := "()B" } : Jvm.MethodName)) ∈ lw_all := lw_g (lw_at lw_m5 232 rfl) rfl
theorem q1241 : (Jvm.Cond.selects "java/lang/String" ({ cls := "java/lang/String", name := "coder", desc := "()B" } : Jvm.MethodName) ({ cls := "java/lang/String", name := "coder", desc := "()B" } : Jvm.MethodName)) ∈ lw_all := lw_g (lw_at lw_m5 233 rfl) rfl
theorem q1242 : (Jvm.Cond.code ({ cls := "java/lang/String", name := "coder", desc := "()B" } : Jvm.MethodName) prog_33_method_152_code (1 : Nat) (Option.some Jvm.ClassFile.FieldType.byte)) ∈ lw_all := lw_g (lw_at lw_m5 234 rfl) rfl
theorem q1243 : (Jvm.Cond.fieldLink "java/lang/String" (38 : Nat) "java/lang/String" "COMPACT_STRINGS" "Z") ∈ lw_all := lw_g (lw_at lw_m5 235 rfl) rfl
theorem q1254 : (Jvm.Cond.instanceMethod ({ cls := "java/lang/String", name := "getBytes", desc := "([BIB)V" } : Jvm.MethodName)) ∈ lw_all := lw_g (lw_at lw_m6 6 rfl) rfl
theorem q1255 : (Jvm.Cond.selects "java/lang/String" ({ cls := "java/lang/String", name := "getBytes", desc := "([BIB)V" } : Jvm.MethodName) ({ cls := "java/lang/String", name := "getBytes", desc := "([BIB)V" } : Jvm.MethodName)) ∈ lw_all := lw_g (lw_at lw_m6 7 rfl) rfl
theorem q1256 : (Jvm.Cond.code ({ cls := "java/lang/String", name := "getBytes", desc := "([BIB)V" } : Jvm.MethodName) prog_33_method_147_code (4 : Nat) (Option.none : Option Jvm.ClassFile.FieldType)) ∈ lw_all := lw_g (lw_at lw_m6 8 rfl) rfl
theorem q1257 : (Jvm.Cond.methodLink "java/lang/String" (212 : Nat) ({ cls := "java/lang/System", name := "arraycopy", desc := "(Ljava/lang/Object;ILjava/lang/Object;II)V" } : Jvm.MethodName)) ∈ lw_all := lw_g (lw_at lw_m6 9 rfl) rfl
theorem q1258 : (Jvm.Cond.methodLink "java/lang/String" (106 : Nat) ({ cls := "java/lang/StringLatin1", name := "inflate", desc := "([BI[BII)V" } : Jvm.MethodName)) ∈ lw_all := lw_g (lw_at lw_m6 10 rfl) rfl
theorem q1261 : (Jvm.Cond.methodLink "java/lang/String" (1051 : Nat) ({ cls := "java/lang/StringUTF16", name := "compress", desc := "([BII)[B" } : Jvm.MethodName)) ∈ lw_all := lw_g (lw_at lw_m6 13 rfl) rfl
theorem q1271 : (Jvm.Cond.methodLink "java/lang/String" (47 : Nat) ({ cls := "java/lang/StringUTF16", name := "coderFromArrayLen", desc := "([BI)B" } : Jvm.MethodName)) ∈ lw_all := lw_g (lw_at lw_m6 23 rfl) rfl
theorem q1274 : (Jvm.Cond.fieldLink "java/lang/String" (9 : Nat) "java/lang/String" "value" "[B") ∈ lw_all := lw_g (lw_at lw_m6 26 rfl) rfl
theorem q1275 : (Jvm.Cond.fieldLink "java/lang/String" (15 : Nat) "java/lang/String" "coder" "B") ∈ lw_all := lw_g (lw_at lw_m6 27 rfl) rfl
theorem q1276 : (Jvm.Cond.lays "java/lang/String" "java/lang/String" "hash" "I") ∈ lw_all := lw_g (lw_at lw_m6 28 rfl) rfl
theorem q1277 : (Jvm.Cond.soleField "java/lang/String" "hash") ∈ lw_all := lw_g (lw_at lw_m6 29 rfl) rfl
theorem q1278 : (Jvm.Cond.lays "java/lang/String" "java/lang/String" "hashIsZero" "Z") ∈ lw_all := lw_g (lw_at lw_m6 30 rfl) rfl
theorem q1279 : (Jvm.Cond.soleField "java/lang/String" "hashIsZero") ∈ lw_all := lw_g (lw_at lw_m6 31 rfl) rfl
theorem q1280 : (Jvm.Cond.superclass "java/lang/String" "java/lang/Object") ∈ lw_all := lw_g (lw_at lw_m6 32 rfl) rfl
theorem q1656 : (Jvm.Cond.static ({ cls := "java/lang/String", name := "valueOf", desc := "(I)Ljava/lang/String;" } : Jvm.MethodName)) ∈ lw_all := lw_g (lw_at lw_m7 168 rfl) rfl
theorem q1657 : (Jvm.Cond.code ({ cls := "java/lang/String", name := "valueOf", desc := "(I)Ljava/lang/String;" } : Jvm.MethodName) prog_33_method_140_code (1 : Nat) (Option.some (Jvm.ClassFile.FieldType.object "java/lang/String"))) ∈ lw_all := lw_g (lw_at lw_m7 169 rfl) rfl
theorem q1658 : (Jvm.Cond.methodLink "java/lang/String" (1022 : Nat) ({ cls := "java/lang/Integer", name := "toString", desc := "(I)Ljava/lang/String;" } : Jvm.MethodName)) ∈ lw_all := lw_g (lw_at lw_m7 170 rfl) rfl
theorem q1666 : (Jvm.Cond.instanceMethod ({ cls := "java/lang/String", name := "<init>", desc := "([BB)V" } : Jvm.MethodName)) ∈ lw_all := lw_g (lw_at lw_m7 178 rfl) rfl
theorem q1667 : (Jvm.Cond.code ({ cls := "java/lang/String", name := "<init>", desc := "([BB)V" } : Jvm.MethodName) prog_33_method_151_code (3 : Nat) (Option.none : Option Jvm.ClassFile.FieldType)) ∈ lw_all := lw_g (lw_at lw_m7 179 rfl) rfl
theorem q1675 : (Jvm.Cond.instanceMethod ({ cls := "java/lang/String", name := "charAt", desc := "(I)C" } : Jvm.MethodName)) ∈ lw_all := lw_g (lw_at lw_m7 187 rfl) rfl
theorem q1676 : (Jvm.Cond.selects "java/lang/String" ({ cls := "java/lang/String", name := "charAt", desc := "(I)C" } : Jvm.MethodName) ({ cls := "java/lang/String", name := "charAt", desc := "(I)C" } : Jvm.MethodName)) ∈ lw_all := lw_g (lw_at lw_m7 188 rfl) rfl
theorem q1677 : (Jvm.Cond.code ({ cls := "java/lang/String", name := "charAt", desc := "(I)C" } : Jvm.MethodName) prog_33_method_56_code (2 : Nat) (Option.some Jvm.ClassFile.FieldType.char)) ∈ lw_all := lw_g (lw_at lw_m7 189 rfl) rfl
theorem q1678 : (Jvm.Cond.methodLink "java/lang/String" (492 : Nat) ({ cls := "java/lang/String", name := "isLatin1", desc := "()Z" } : Jvm.MethodName)) ∈ lw_all := lw_g (lw_at lw_m7 190 rfl) rfl
theorem q1679 : (Jvm.Cond.instanceMethod ({ cls := "java/lang/String", name := "isLatin1", desc := "()Z" } : Jvm.MethodName)) ∈ lw_all := lw_g (lw_at lw_m7 191 rfl) rfl
theorem q1680 : (Jvm.Cond.selects "java/lang/String" ({ cls := "java/lang/String", name := "isLatin1", desc := "()Z" } : Jvm.MethodName) ({ cls := "java/lang/String", name := "isLatin1", desc := "()Z" } : Jvm.MethodName)) ∈ lw_all := lw_g (lw_at lw_m7 192 rfl) rfl
theorem q1681 : (Jvm.Cond.code ({ cls := "java/lang/String", name := "isLatin1", desc := "()Z" } : Jvm.MethodName) prog_33_method_154_code (1 : Nat) (Option.some Jvm.ClassFile.FieldType.boolean)) ∈ lw_all := lw_g (lw_at lw_m7 193 rfl) rfl
theorem q1682 : (Jvm.Cond.methodLink "java/lang/String" (495 : Nat) ({ cls := "java/lang/StringLatin1", name := "charAt", desc := "([BI)C" } : Jvm.MethodName)) ∈ lw_all := lw_g (lw_at lw_m7 194 rfl) rfl
theorem q1686 : (Jvm.Cond.methodLink "java/lang/String" (498 : Nat) ({ cls := "java/lang/StringUTF16", name := "charAt", desc := "([BI)C" } : Jvm.MethodName)) ∈ lw_all := lw_g (lw_at lw_m7 198 rfl) rfl
theorem q1773 : (Jvm.Cond.instanceMethod ({ cls := "java/lang/String", name := "equals", desc := "(Ljava/lang/Object;)Z" } : Jvm.MethodName)) ∈ lw_all := lw_g (lw_at lw_m8 45 rfl) rfl
theorem q1774 : (Jvm.Cond.selects "java/lang/String" ({ cls := "java/lang/String", name := "equals", desc := "(Ljava/lang/Object;)Z" } : Jvm.MethodName) ({ cls := "java/lang/String", name := "equals", desc := "(Ljava/lang/Object;)Z" } : Jvm.MethodName)) ∈ lw_all := lw_g (lw_at lw_m8 46 rfl) rfl
theorem q1775 : (Jvm.Cond.code ({ cls := "java/lang/String", name := "equals", desc := "(Ljava/lang/Object;)Z" } : Jvm.MethodName) prog_33_method_66_code (3 : Nat) (Option.some Jvm.ClassFile.FieldType.boolean)) ∈ lw_all := lw_g (lw_at lw_m8 47 rfl) rfl
theorem q1776 : (Jvm.Cond.classLink "java/lang/String" (10 : Nat) "java/lang/String") ∈ lw_all := lw_g (lw_at lw_m8 48 rfl) rfl
theorem q1777 : (Jvm.Cond.methodLink "java/lang/String" (541 : Nat) ({ cls := "java/lang/StringLatin1", name := "equals", desc := "([B[B)Z" } : Jvm.MethodName)) ∈ lw_all := lw_g (lw_at lw_m8 49 rfl) rfl
theorem q1813 : (Jvm.Cond.castable "java/lang/String" "java/lang/Object") ∈ lw_tbl := lw_at lw_m8 85 rfl
theorem in_J9 : ∀ w ∈ wsJ90, w ∈ lw_all := lw_in wsJ90 [620, 622, 1276, 1278] (by decide +kernel) (by decide +kernel)
/-! java/lang/Math -/
set_option maxRecDepth 100000
def RJ10 : String := "java/lang/Math"
abbrev cJ10_min : ByteArray := prog_30_method_69_code
def yJ10_min : MethodName := ⟨RJ10, "min", "(II)I"⟩
def dkwJ10_min_0 : List UInt8 := [26, 27, 163, 0, 7, 26, 167, 0, 4, 27, 172]
abbrev dktJ10_min_0 : List UInt8 := dkwJ10_min_0 ++ []
theorem dksJ10_min_0 : cJ10_min.data.toList.drop 0 = dktJ10_min_0 := by decide +kernel
theorem dJ10_min_0 : decode cJ10_min 0 = .ok (.iload_n 0, 1) := dk_26 (dk_at dksJ10_min_0 0 rfl rfl)
theorem dJ10_min_1 : decode cJ10_min 1 = .ok (.iload_n 1, 1) := dk_27 (dk_at dksJ10_min_0 1 rfl rfl)
theorem dJ10_min_2 : decode cJ10_min 2 = .ok (.if_icmp .gt 7, 3) := dk_163 0 7 (dk_at dksJ10_min_0 2 rfl rfl)
theorem dJ10_min_5 : decode cJ10_min 5 = .ok (.iload_n 0, 1) := dk_26 (dk_at dksJ10_min_0 5 rfl rfl)
theorem dJ10_min_6 : decode cJ10_min 6 = .ok (.goto 4, 3) := dk_167 0 4 (dk_at dksJ10_min_0 6 rfl rfl)
theorem dJ10_min_9 : decode cJ10_min 9 = .ok (.iload_n 1, 1) := dk_27 (dk_at dksJ10_min_0 9 rfl rfl)
theorem dJ10_min_10 : decode cJ10_min 10 = .ok (.ireturn, 1) := dk_172 (dk_at dksJ10_min_0 10 rfl rfl)
abbrev cJ10_max : ByteArray := prog_30_method_65_code
def yJ10_max : MethodName := ⟨RJ10, "max", "(II)I"⟩
def dkwJ10_max_0 : List UInt8 := [26, 27, 161, 0, 7, 26, 167, 0, 4, 27, 172]
abbrev dktJ10_max_0 : List UInt8 := dkwJ10_max_0 ++ []
theorem dksJ10_max_0 : cJ10_max.data.toList.drop 0 = dktJ10_max_0 := by decide +kernel
theorem dJ10_max_0 : decode cJ10_max 0 = .ok (.iload_n 0, 1) := dk_26 (dk_at dksJ10_max_0 0 rfl rfl)
theorem dJ10_max_1 : decode cJ10_max 1 = .ok (.iload_n 1, 1) := dk_27 (dk_at dksJ10_max_0 1 rfl rfl)
theorem dJ10_max_2 : decode cJ10_max 2 = .ok (.if_icmp .lt 7, 3) := dk_161 0 7 (dk_at dksJ10_max_0 2 rfl rfl)
theorem dJ10_max_5 : decode cJ10_max 5 = .ok (.iload_n 0, 1) := dk_26 (dk_at dksJ10_max_0 5 rfl rfl)
theorem dJ10_max_6 : decode cJ10_max 6 = .ok (.goto 4, 3) := dk_167 0 4 (dk_at dksJ10_max_0 6 rfl rfl)
theorem dJ10_max_9 : decode cJ10_max 9 = .ok (.iload_n 1, 1) := dk_27 (dk_at dksJ10_max_0 9 rfl rfl)
theorem dJ10_max_10 : decode cJ10_max 10 = .ok (.ireturn, 1) := dk_172 (dk_at dksJ10_max_0 10 rfl rfl)
abbrev cJ10_abs : ByteArray := prog_30_method_59_code
def yJ10_abs : MethodName := ⟨RJ10, "abs", "(I)I"⟩
def dkwJ10_abs_0 : List UInt8 := [26, 156, 0, 8, 26, 116, 167, 0, 4, 26, 172]
abbrev dktJ10_abs_0 : List UInt8 := dkwJ10_abs_0 ++ []
theorem dksJ10_abs_0 : cJ10_abs.data.toList.drop 0 = dktJ10_abs_0 := by decide +kernel
theorem dJ10_abs_0 : decode cJ10_abs 0 = .ok (.iload_n 0, 1) := dk_26 (dk_at dksJ10_abs_0 0 rfl rfl)
theorem dJ10_abs_1 : decode cJ10_abs 1 = .ok (.ifCond .ge 8, 3) := dk_156 0 8 (dk_at dksJ10_abs_0 1 rfl rfl)
theorem dJ10_abs_4 : decode cJ10_abs 4 = .ok (.iload_n 0, 1) := dk_26 (dk_at dksJ10_abs_0 4 rfl rfl)
theorem dJ10_abs_5 : decode cJ10_abs 5 = .ok (.ineg, 1) := dk_116 (dk_at dksJ10_abs_0 5 rfl rfl)
theorem dJ10_abs_6 : decode cJ10_abs 6 = .ok (.goto 4, 3) := dk_167 0 4 (dk_at dksJ10_abs_0 6 rfl rfl)
theorem dJ10_abs_9 : decode cJ10_abs 9 = .ok (.iload_n 0, 1) := dk_26 (dk_at dksJ10_abs_0 9 rfl rfl)
theorem dJ10_abs_10 : decode cJ10_abs 10 = .ok (.ireturn, 1) := dk_172 (dk_at dksJ10_abs_0 10 rfl rfl)
theorem q66 : (Jvm.Cond.initialized "java/lang/Math") ∈ lw_all := lw_g (lw_at lw_m1 18 rfl) rfl
theorem q363 : (Jvm.Cond.static ({ cls := "java/lang/Math", name := "min", desc := "(II)I" } : Jvm.MethodName)) ∈ lw_all := lw_g (lw_at lw_m2 75 rfl) rfl
theorem q364 : (Jvm.Cond.code ({ cls := "java/lang/Math", name := "min", desc := "(II)I" } : Jvm.MethodName) prog_30_method_69_code (2 : Nat) (Option.some Jvm.ClassFile.FieldType.int)) ∈ lw_all := lw_g (lw_at lw_m2 76 rfl) rfl
theorem q502 : (Jvm.Cond.static ({ cls := "java/lang/Math", name := "max", desc := "(II)I" } : Jvm.MethodName)) ∈ lw_all := lw_g (lw_at lw_m2 214 rfl) rfl
theorem q503 : (Jvm.Cond.code ({ cls := "java/lang/Math", name := "max", desc := "(II)I" } : Jvm.MethodName) prog_30_method_65_code (2 : Nat) (Option.some Jvm.ClassFile.FieldType.int)) ∈ lw_all := lw_g (lw_at lw_m2 215 rfl) rfl
theorem q962 : (Jvm.Cond.static ({ cls := "java/lang/Math", name := "abs", desc := "(I)I" } : Jvm.MethodName)) ∈ lw_all := lw_g (lw_at lw_m4 194 rfl) rfl
theorem q963 : (Jvm.Cond.code ({ cls := "java/lang/Math", name := "abs", desc := "(I)I" } : Jvm.MethodName) prog_30_method_59_code (1 : Nat) (Option.some Jvm.ClassFile.FieldType.int)) ∈ lw_all := lw_g (lw_at lw_m4 195 rfl) rfl
/-! java/util/Optional -/
set_option maxRecDepth 100000
def RJ11 : String := "java/util/Optional"
def TJ11 : u_T := fun k => match k with
  | _ => ("java/util/Optional", "value", "Ljava/lang/Object;", true)
def tyJ11 : Nat → FieldType := fun k => match k with
  | _ => .object "java/lang/Object"
abbrev wsJ110 : List Cond := u_ws RJ11 TJ11 1
theorem nmJ11 : ∀ a, a < 1 → ∀ b, b < 1 → a ≠ b → (TJ11 a).2.1 ≠ (TJ11 b).2.1 := by decide +kernel
theorem tyJ11_ok : ∀ k, k < 1 → parseFieldDescriptor (TJ11 k).2.2.1 = some (tyJ11 k) := by decide +kernel
abbrev cJ11_empty : ByteArray := prog_50_method_1_code
def yJ11_empty : MethodName := ⟨RJ11, "empty", "()Ljava/util/Optional;"⟩
def dkwJ11_empty_0 : List UInt8 := [178, 0, 1, 75, 42, 176]
abbrev dktJ11_empty_0 : List UInt8 := dkwJ11_empty_0 ++ []
theorem dksJ11_empty_0 : cJ11_empty.data.toList.drop 0 = dktJ11_empty_0 := by decide +kernel
theorem dJ11_empty_0 : decode cJ11_empty 0 = .ok (.getstatic 1, 3) := dk_178 0 1 (dk_at dksJ11_empty_0 0 rfl rfl)
theorem dJ11_empty_3 : decode cJ11_empty 3 = .ok (.astore_n 0, 1) := dk_75 (dk_at dksJ11_empty_0 3 rfl rfl)
theorem dJ11_empty_4 : decode cJ11_empty 4 = .ok (.aload_n 0, 1) := dk_42 (dk_at dksJ11_empty_0 4 rfl rfl)
theorem dJ11_empty_5 : decode cJ11_empty 5 = .ok (.areturn, 1) := dk_176 (dk_at dksJ11_empty_0 5 rfl rfl)
abbrev cJ11_of : ByteArray := prog_50_method_3_code
def yJ11_of : MethodName := ⟨RJ11, "of", "(Ljava/lang/Object;)Ljava/util/Optional;"⟩
def dkwJ11_of_0 : List UInt8 := [187, 0, 2, 89, 42, 184, 0, 17, 183, 0, 23, 176]
abbrev dktJ11_of_0 : List UInt8 := dkwJ11_of_0 ++ []
theorem dksJ11_of_0 : cJ11_of.data.toList.drop 0 = dktJ11_of_0 := by decide +kernel
theorem dJ11_of_0 : decode cJ11_of 0 = .ok (.new 2, 3) := dk_187 0 2 (dk_at dksJ11_of_0 0 rfl rfl)
theorem dJ11_of_3 : decode cJ11_of 3 = .ok (.dup, 1) := dk_89 (dk_at dksJ11_of_0 3 rfl rfl)
theorem dJ11_of_4 : decode cJ11_of 4 = .ok (.aload_n 0, 1) := dk_42 (dk_at dksJ11_of_0 4 rfl rfl)
theorem dJ11_of_5 : decode cJ11_of 5 = .ok (.invokestatic 17, 3) := dk_184 0 17 (dk_at dksJ11_of_0 5 rfl rfl)
theorem dJ11_of_8 : decode cJ11_of 8 = .ok (.invokespecial 23, 3) := dk_183 0 23 (dk_at dksJ11_of_0 8 rfl rfl)
theorem dJ11_of_11 : decode cJ11_of 11 = .ok (.areturn, 1) := dk_176 (dk_at dksJ11_of_0 11 rfl rfl)
abbrev cJ11_init : ByteArray := prog_50_method_2_code
def yJ11_init : MethodName := ⟨RJ11, "<init>", "(Ljava/lang/Object;)V"⟩
def dkwJ11_init_0 : List UInt8 := [42, 183, 0, 7, 42, 43, 181, 0, 13, 177]
abbrev dktJ11_init_0 : List UInt8 := dkwJ11_init_0 ++ []
theorem dksJ11_init_0 : cJ11_init.data.toList.drop 0 = dktJ11_init_0 := by decide +kernel
theorem dJ11_init_0 : decode cJ11_init 0 = .ok (.aload_n 0, 1) := dk_42 (dk_at dksJ11_init_0 0 rfl rfl)
theorem dJ11_init_1 : decode cJ11_init 1 = .ok (.invokespecial 7, 3) := dk_183 0 7 (dk_at dksJ11_init_0 1 rfl rfl)
theorem dJ11_init_4 : decode cJ11_init 4 = .ok (.aload_n 0, 1) := dk_42 (dk_at dksJ11_init_0 4 rfl rfl)
theorem dJ11_init_5 : decode cJ11_init 5 = .ok (.aload_n 1, 1) := dk_43 (dk_at dksJ11_init_0 5 rfl rfl)
theorem dJ11_init_6 : decode cJ11_init 6 = .ok (.putfield 13, 3) := dk_181 0 13 (dk_at dksJ11_init_0 6 rfl rfl)
theorem dJ11_init_9 : decode cJ11_init 9 = .ok (.return_, 1) := dk_177 (dk_at dksJ11_init_0 9 rfl rfl)
abbrev cJ11_isEmpty : ByteArray := prog_50_method_7_code
def yJ11_isEmpty : MethodName := ⟨RJ11, "isEmpty", "()Z"⟩
def dkwJ11_isEmpty_0 : List UInt8 := [42, 180, 0, 13, 199, 0, 7, 4, 167, 0, 4, 3, 172]
abbrev dktJ11_isEmpty_0 : List UInt8 := dkwJ11_isEmpty_0 ++ []
theorem dksJ11_isEmpty_0 : cJ11_isEmpty.data.toList.drop 0 = dktJ11_isEmpty_0 := by decide +kernel
theorem dJ11_isEmpty_0 : decode cJ11_isEmpty 0 = .ok (.aload_n 0, 1) := dk_42 (dk_at dksJ11_isEmpty_0 0 rfl rfl)
theorem dJ11_isEmpty_1 : decode cJ11_isEmpty 1 = .ok (.getfield 13, 3) := dk_180 0 13 (dk_at dksJ11_isEmpty_0 1 rfl rfl)
theorem dJ11_isEmpty_4 : decode cJ11_isEmpty 4 = .ok (.ifnonnull 7, 3) := dk_199 0 7 (dk_at dksJ11_isEmpty_0 4 rfl rfl)
theorem dJ11_isEmpty_7 : decode cJ11_isEmpty 7 = .ok (.iconst 1, 1) := dk_4 (dk_at dksJ11_isEmpty_0 7 rfl rfl)
theorem dJ11_isEmpty_8 : decode cJ11_isEmpty 8 = .ok (.goto 4, 3) := dk_167 0 4 (dk_at dksJ11_isEmpty_0 8 rfl rfl)
theorem dJ11_isEmpty_11 : decode cJ11_isEmpty 11 = .ok (.iconst 0, 1) := dk_3 (dk_at dksJ11_isEmpty_0 11 rfl rfl)
theorem dJ11_isEmpty_12 : decode cJ11_isEmpty 12 = .ok (.ireturn, 1) := dk_172 (dk_at dksJ11_isEmpty_0 12 rfl rfl)
abbrev cJ11_get : ByteArray := prog_50_method_5_code
def yJ11_get : MethodName := ⟨RJ11, "get", "()Ljava/lang/Object;"⟩
def dkwJ11_get_0 : List UInt8 := [42, 180, 0, 13, 199, 0, 13, 187, 0, 26, 89, 18, 28, 183, 0, 30, 191, 42, 180, 0, 13, 176]
abbrev dktJ11_get_0 : List UInt8 := dkwJ11_get_0 ++ []
theorem dksJ11_get_0 : cJ11_get.data.toList.drop 0 = dktJ11_get_0 := by decide +kernel
theorem dJ11_get_0 : decode cJ11_get 0 = .ok (.aload_n 0, 1) := dk_42 (dk_at dksJ11_get_0 0 rfl rfl)
theorem dJ11_get_1 : decode cJ11_get 1 = .ok (.getfield 13, 3) := dk_180 0 13 (dk_at dksJ11_get_0 1 rfl rfl)
theorem dJ11_get_4 : decode cJ11_get 4 = .ok (.ifnonnull 13, 3) := dk_199 0 13 (dk_at dksJ11_get_0 4 rfl rfl)
theorem dJ11_get_7 : decode cJ11_get 7 = .ok (.new 26, 3) := dk_187 0 26 (dk_at dksJ11_get_0 7 rfl rfl)
theorem dJ11_get_10 : decode cJ11_get 10 = .ok (.dup, 1) := dk_89 (dk_at dksJ11_get_0 10 rfl rfl)
theorem dJ11_get_11 : decode cJ11_get 11 = .ok (.ldc 28, 2) := dk_18 28 (dk_at dksJ11_get_0 11 rfl rfl)
theorem dJ11_get_13 : decode cJ11_get 13 = .ok (.invokespecial 30, 3) := dk_183 0 30 (dk_at dksJ11_get_0 13 rfl rfl)
theorem dJ11_get_16 : decode cJ11_get 16 = .ok (.athrow, 1) := dk_191 (dk_at dksJ11_get_0 16 rfl rfl)
theorem dJ11_get_17 : decode cJ11_get 17 = .ok (.aload_n 0, 1) := dk_42 (dk_at dksJ11_get_0 17 rfl rfl)
theorem dJ11_get_18 : decode cJ11_get 18 = .ok (.getfield 13, 3) := dk_180 0 13 (dk_at dksJ11_get_0 18 rfl rfl)
theorem dJ11_get_21 : decode cJ11_get 21 = .ok (.areturn, 1) := dk_176 (dk_at dksJ11_get_0 21 rfl rfl)
abbrev cJ11_isPresent : ByteArray := prog_50_method_6_code
def yJ11_isPresent : MethodName := ⟨RJ11, "isPresent", "()Z"⟩
def dkwJ11_isPresent_0 : List UInt8 := [42, 180, 0, 13, 198, 0, 7, 4, 167, 0, 4, 3, 172]
abbrev dktJ11_isPresent_0 : List UInt8 := dkwJ11_isPresent_0 ++ []
theorem dksJ11_isPresent_0 : cJ11_isPresent.data.toList.drop 0 = dktJ11_isPresent_0 := by decide +kernel
theorem dJ11_isPresent_0 : decode cJ11_isPresent 0 = .ok (.aload_n 0, 1) := dk_42 (dk_at dksJ11_isPresent_0 0 rfl rfl)
theorem dJ11_isPresent_1 : decode cJ11_isPresent 1 = .ok (.getfield 13, 3) := dk_180 0 13 (dk_at dksJ11_isPresent_0 1 rfl rfl)
theorem dJ11_isPresent_4 : decode cJ11_isPresent 4 = .ok (.ifnull 7, 3) := dk_198 0 7 (dk_at dksJ11_isPresent_0 4 rfl rfl)
theorem dJ11_isPresent_7 : decode cJ11_isPresent 7 = .ok (.iconst 1, 1) := dk_4 (dk_at dksJ11_isPresent_0 7 rfl rfl)
theorem dJ11_isPresent_8 : decode cJ11_isPresent 8 = .ok (.goto 4, 3) := dk_167 0 4 (dk_at dksJ11_isPresent_0 8 rfl rfl)
theorem dJ11_isPresent_11 : decode cJ11_isPresent 11 = .ok (.iconst 0, 1) := dk_3 (dk_at dksJ11_isPresent_0 11 rfl rfl)
theorem dJ11_isPresent_12 : decode cJ11_isPresent 12 = .ok (.ireturn, 1) := dk_172 (dk_at dksJ11_isPresent_0 12 rfl rfl)
theorem q67 : (Jvm.Cond.initialized "java/util/Optional") ∈ lw_all := lw_g (lw_at lw_m1 19 rfl) rfl
theorem q366 : (Jvm.Cond.static ({ cls := "java/util/Optional", name := "empty", desc := "()Ljava/util/Optional;" } : Jvm.MethodName)) ∈ lw_all := lw_g (lw_at lw_m2 78 rfl) rfl
theorem q367 : (Jvm.Cond.code ({ cls := "java/util/Optional", name := "empty", desc := "()Ljava/util/Optional;" } : Jvm.MethodName) prog_50_method_1_code (1 : Nat) (Option.some (Jvm.ClassFile.FieldType.object "java/util/Optional"))) ∈ lw_all := lw_g (lw_at lw_m2 79 rfl) rfl
theorem q368 : (Jvm.Cond.fieldLink "java/util/Optional" (1 : Nat) "java/util/Optional" "EMPTY" "Ljava/util/Optional;") ∈ lw_all := lw_g (lw_at lw_m2 80 rfl) rfl
theorem q369 : (Jvm.Cond.laysStatic "java/util/Optional" "EMPTY" "Ljava/util/Optional;") ∈ lw_tbl := lw_at lw_m2 81 rfl
theorem q371 : (Jvm.Cond.static ({ cls := "java/util/Optional", name := "of", desc := "(Ljava/lang/Object;)Ljava/util/Optional;" } : Jvm.MethodName)) ∈ lw_all := lw_g (lw_at lw_m2 83 rfl) rfl
theorem q372 : (Jvm.Cond.code ({ cls := "java/util/Optional", name := "of", desc := "(Ljava/lang/Object;)Ljava/util/Optional;" } : Jvm.MethodName) prog_50_method_3_code (1 : Nat) (Option.some (Jvm.ClassFile.FieldType.object "java/util/Optional"))) ∈ lw_all := lw_g (lw_at lw_m2 84 rfl) rfl
theorem q373 : (Jvm.Cond.classLink "java/util/Optional" (2 : Nat) "java/util/Optional") ∈ lw_all := lw_g (lw_at lw_m2 85 rfl) rfl
theorem q374 : (Jvm.Cond.instantiable "java/util/Optional" (1 : Nat)) ∈ lw_all := lw_g (lw_at lw_m2 86 rfl) rfl
theorem q375 : (Jvm.Cond.methodLink "java/util/Optional" (17 : Nat) ({ cls := "java/util/Objects", name := "requireNonNull", desc := "(Ljava/lang/Object;)Ljava/lang/Object;" } : Jvm.MethodName)) ∈ lw_all := lw_g (lw_at lw_m2 87 rfl) rfl
theorem q378 : (Jvm.Cond.methodLink "java/util/Optional" (23 : Nat) ({ cls := "java/util/Optional", name := "<init>", desc := "(Ljava/lang/Object;)V" } : Jvm.MethodName)) ∈ lw_all := lw_g (lw_at lw_m2 90 rfl) rfl
theorem q379 : (Jvm.Cond.instanceMethod ({ cls := "java/util/Optional", name := "<init>", desc := "(Ljava/lang/Object;)V" } : Jvm.MethodName)) ∈ lw_all := lw_g (lw_at lw_m2 91 rfl) rfl
theorem q380 : (Jvm.Cond.code ({ cls := "java/util/Optional", name := "<init>", desc := "(Ljava/lang/Object;)V" } : Jvm.MethodName) prog_50_method_2_code (2 : Nat) (Option.none : Option Jvm.ClassFile.FieldType)) ∈ lw_all := lw_g (lw_at lw_m2 92 rfl) rfl
theorem q381 : (Jvm.Cond.methodLink "java/util/Optional" (7 : Nat) ({ cls := "java/lang/Object", name := "<init>", desc := "()V" } : Jvm.MethodName)) ∈ lw_all := lw_g (lw_at lw_m2 93 rfl) rfl
theorem q382 : (Jvm.Cond.fieldLink "java/util/Optional" (13 : Nat) "java/util/Optional" "value" "Ljava/lang/Object;") ∈ lw_all := lw_g (lw_at lw_m2 94 rfl) rfl
theorem q383 : (Jvm.Cond.laysFinal "java/util/Optional" "java/util/Optional" "value" "Ljava/lang/Object;") ∈ lw_all := lw_g (lw_at lw_m2 95 rfl) rfl
theorem q384 : (Jvm.Cond.soleField "java/util/Optional" "value") ∈ lw_all := lw_g (lw_at lw_m2 96 rfl) rfl
theorem q385 : (Jvm.Cond.superclass "java/util/Optional" "java/lang/Object") ∈ lw_all := lw_g (lw_at lw_m2 97 rfl) rfl
theorem q391 : (Jvm.Cond.instanceMethod ({ cls := "java/util/Optional", name := "isEmpty", desc := "()Z" } : Jvm.MethodName)) ∈ lw_all := lw_g (lw_at lw_m2 103 rfl) rfl
theorem q392 : (Jvm.Cond.selects "java/util/Optional" ({ cls := "java/util/Optional", name := "isEmpty", desc := "()Z" } : Jvm.MethodName) ({ cls := "java/util/Optional", name := "isEmpty", desc := "()Z" } : Jvm.MethodName)) ∈ lw_all := lw_g (lw_at lw_m2 104 rfl) rfl
theorem q393 : (Jvm.Cond.code ({ cls := "java/util/Optional", name := "isEmpty", desc := "()Z" } : Jvm.MethodName) prog_50_method_7_code (1 : Nat) (Option.some Jvm.ClassFile.FieldType.boolean)) ∈ lw_all := lw_g (lw_at lw_m2 105 rfl) rfl
theorem q395 : (Jvm.Cond.instanceMethod ({ cls := "java/util/Optional", name := "get", desc := "()Ljava/lang/Object;" } : Jvm.MethodName)) ∈ lw_all := lw_g (lw_at lw_m2 107 rfl) rfl
theorem q396 : (Jvm.Cond.selects "java/util/Optional" ({ cls := "java/util/Optional", name := "get", desc := "()Ljava/lang/Object;" } : Jvm.MethodName) ({ cls := "java/util/Optional", name := "get", desc := "()Ljava/lang/Object;" } : Jvm.MethodName)) ∈ lw_all := lw_g (lw_at lw_m2 108 rfl) rfl
theorem q397 : (Jvm.Cond.code ({ cls := "java/util/Optional", name := "get", desc := "()Ljava/lang/Object;" } : Jvm.MethodName) prog_50_method_5_code (1 : Nat) (Option.some (Jvm.ClassFile.FieldType.object "java/lang/Object"))) ∈ lw_all := lw_g (lw_at lw_m2 109 rfl) rfl
theorem q653 : (Jvm.Cond.instanceMethod ({ cls := "java/util/Optional", name := "isPresent", desc := "()Z" } : Jvm.MethodName)) ∈ lw_all := lw_g (lw_at lw_m3 125 rfl) rfl
theorem q654 : (Jvm.Cond.selects "java/util/Optional" ({ cls := "java/util/Optional", name := "isPresent", desc := "()Z" } : Jvm.MethodName) ({ cls := "java/util/Optional", name := "isPresent", desc := "()Z" } : Jvm.MethodName)) ∈ lw_all := lw_g (lw_at lw_m3 126 rfl) rfl
theorem q655 : (Jvm.Cond.code ({ cls := "java/util/Optional", name := "isPresent", desc := "()Z" } : Jvm.MethodName) prog_50_method_6_code (1 : Nat) (Option.some Jvm.ClassFile.FieldType.boolean)) ∈ lw_all := lw_g (lw_at lw_m3 127 rfl) rfl
theorem q848 : (Jvm.Cond.selects "java/util/Optional" ({ cls := "java/lang/Object", name := "getClass", desc := "()Ljava/lang/Class;" } : Jvm.MethodName) ({ cls := "java/lang/Object", name := "getClass", desc := "()Ljava/lang/Class;" } : Jvm.MethodName)) ∈ lw_all := lw_g (lw_at lw_m4 80 rfl) rfl
theorem q1803 : (Jvm.Cond.castable "java/util/Optional" "java/lang/Object") ∈ lw_tbl := lw_at lw_m8 75 rfl
theorem in_J11 : ∀ w ∈ wsJ110, w ∈ lw_all := lw_in wsJ110 [383] (by decide +kernel) (by decide +kernel)
/-! java/util/Objects -/
set_option maxRecDepth 100000
def RJ12 : String := "java/util/Objects"
abbrev cJ12_requireNonNull : ByteArray := prog_49_method_10_code
def yJ12_requireNonNull : MethodName := ⟨RJ12, "requireNonNull", "(Ljava/lang/Object;)Ljava/lang/Object;"⟩
def dkwJ12_requireNonNull_0 : List UInt8 := [42, 199, 0, 11, 187, 0, 84, 89, 183, 0, 86, 191, 42, 176]
abbrev dktJ12_requireNonNull_0 : List UInt8 := dkwJ12_requireNonNull_0 ++ []
theorem dksJ12_requireNonNull_0 : cJ12_requireNonNull.data.toList.drop 0 = dktJ12_requireNonNull_0 := by decide +kernel
theorem dJ12_requireNonNull_0 : decode cJ12_requireNonNull 0 = .ok (.aload_n 0, 1) := dk_42 (dk_at dksJ12_requireNonNull_0 0 rfl rfl)
theorem dJ12_requireNonNull_1 : decode cJ12_requireNonNull 1 = .ok (.ifnonnull 11, 3) := dk_199 0 11 (dk_at dksJ12_requireNonNull_0 1 rfl rfl)
theorem dJ12_requireNonNull_4 : decode cJ12_requireNonNull 4 = .ok (.new 84, 3) := dk_187 0 84 (dk_at dksJ12_requireNonNull_0 4 rfl rfl)
theorem dJ12_requireNonNull_7 : decode cJ12_requireNonNull 7 = .ok (.dup, 1) := dk_89 (dk_at dksJ12_requireNonNull_0 7 rfl rfl)
theorem dJ12_requireNonNull_8 : decode cJ12_requireNonNull 8 = .ok (.invokespecial 86, 3) := dk_183 0 86 (dk_at dksJ12_requireNonNull_0 8 rfl rfl)
theorem dJ12_requireNonNull_11 : decode cJ12_requireNonNull 11 = .ok (.athrow, 1) := dk_191 (dk_at dksJ12_requireNonNull_0 11 rfl rfl)
theorem dJ12_requireNonNull_12 : decode cJ12_requireNonNull 12 = .ok (.aload_n 0, 1) := dk_42 (dk_at dksJ12_requireNonNull_0 12 rfl rfl)
theorem dJ12_requireNonNull_13 : decode cJ12_requireNonNull 13 = .ok (.areturn, 1) := dk_176 (dk_at dksJ12_requireNonNull_0 13 rfl rfl)
abbrev cJ12_checkIndex : ByteArray := prog_49_method_17_code
def yJ12_checkIndex : MethodName := ⟨RJ12, "checkIndex", "(II)I"⟩
def dkwJ12_checkIndex_0 : List UInt8 := [26, 27, 1, 184, 0, 105, 172]
abbrev dktJ12_checkIndex_0 : List UInt8 := dkwJ12_checkIndex_0 ++ []
theorem dksJ12_checkIndex_0 : cJ12_checkIndex.data.toList.drop 0 = dktJ12_checkIndex_0 := by decide +kernel
theorem dJ12_checkIndex_0 : decode cJ12_checkIndex 0 = .ok (.iload_n 0, 1) := dk_26 (dk_at dksJ12_checkIndex_0 0 rfl rfl)
theorem dJ12_checkIndex_1 : decode cJ12_checkIndex 1 = .ok (.iload_n 1, 1) := dk_27 (dk_at dksJ12_checkIndex_0 1 rfl rfl)
theorem dJ12_checkIndex_2 : decode cJ12_checkIndex 2 = .ok (.aconst_null, 1) := dk_1 (dk_at dksJ12_checkIndex_0 2 rfl rfl)
theorem dJ12_checkIndex_3 : decode cJ12_checkIndex 3 = .ok (.invokestatic 105, 3) := dk_184 0 105 (dk_at dksJ12_checkIndex_0 3 rfl rfl)
theorem dJ12_checkIndex_6 : decode cJ12_checkIndex 6 = .ok (.ireturn, 1) := dk_172 (dk_at dksJ12_checkIndex_0 6 rfl rfl)
theorem q68 : (Jvm.Cond.initialized "java/util/Objects") ∈ lw_all := lw_g (lw_at lw_m1 20 rfl) rfl
theorem q376 : (Jvm.Cond.static ({ cls := "java/util/Objects", name := "requireNonNull", desc := "(Ljava/lang/Object;)Ljava/lang/Object;" } : Jvm.MethodName)) ∈ lw_all := lw_g (lw_at lw_m2 88 rfl) rfl
theorem q377 : (Jvm.Cond.code ({ cls := "java/util/Objects", name := "requireNonNull", desc := "(Ljava/lang/Object;)Ljava/lang/Object;" } : Jvm.MethodName) prog_49_method_10_code (1 : Nat) (Option.some (Jvm.ClassFile.FieldType.object "java/lang/Object"))) ∈ lw_all := lw_g (lw_at lw_m2 89 rfl) rfl
theorem q878 : (Jvm.Cond.static ({ cls := "java/util/Objects", name := "checkIndex", desc := "(II)I" } : Jvm.MethodName)) ∈ lw_all := lw_g (lw_at lw_m4 110 rfl) rfl
theorem q879 : (Jvm.Cond.code ({ cls := "java/util/Objects", name := "checkIndex", desc := "(II)I" } : Jvm.MethodName) prog_49_method_17_code (2 : Nat) (Option.some Jvm.ClassFile.FieldType.int)) ∈ lw_all := lw_g (lw_at lw_m4 111 rfl) rfl
theorem q880 : (Jvm.Cond.methodLink "java/util/Objects" (105 : Nat) ({ cls := "jdk/internal/util/Preconditions", name := "checkIndex", desc := "(IILjava/util/function/BiFunction;)I" } : Jvm.MethodName)) ∈ lw_all := lw_g (lw_at lw_m4 112 rfl) rfl
/-! jdk/internal/util/ArraysSupport -/
set_option maxRecDepth 100000
def RJ15 : String := "jdk/internal/util/ArraysSupport"
abbrev cJ15_newLength : ByteArray := prog_53_method_27_code
def yJ15_newLength : MethodName := ⟨RJ15, "newLength", "(III)I"⟩
def dkwJ15_newLength_1 : List UInt8 := [184, 0, 201, 172]
abbrev dktJ15_newLength_1 : List UInt8 := dkwJ15_newLength_1 ++ []
def dkwJ15_newLength_0 : List UInt8 := [26, 27, 28, 184, 0, 194, 96, 62, 3, 29, 162, 0, 11, 29, 18, 200, 163, 0, 5, 29, 172, 26, 27]
abbrev dktJ15_newLength_0 : List UInt8 := dkwJ15_newLength_0 ++ dktJ15_newLength_1
theorem dksJ15_newLength_0 : cJ15_newLength.data.toList.drop 0 = dktJ15_newLength_0 := by decide +kernel
theorem dksJ15_newLength_1 : cJ15_newLength.data.toList.drop 23 = dktJ15_newLength_1 := dk_seg dksJ15_newLength_0 23 rfl rfl
theorem dJ15_newLength_0 : decode cJ15_newLength 0 = .ok (.iload_n 0, 1) := dk_26 (dk_at dksJ15_newLength_0 0 rfl rfl)
theorem dJ15_newLength_1 : decode cJ15_newLength 1 = .ok (.iload_n 1, 1) := dk_27 (dk_at dksJ15_newLength_0 1 rfl rfl)
theorem dJ15_newLength_2 : decode cJ15_newLength 2 = .ok (.iload_n 2, 1) := dk_28 (dk_at dksJ15_newLength_0 2 rfl rfl)
theorem dJ15_newLength_3 : decode cJ15_newLength 3 = .ok (.invokestatic 194, 3) := dk_184 0 194 (dk_at dksJ15_newLength_0 3 rfl rfl)
theorem dJ15_newLength_6 : decode cJ15_newLength 6 = .ok (.iadd, 1) := dk_96 (dk_at dksJ15_newLength_0 6 rfl rfl)
theorem dJ15_newLength_7 : decode cJ15_newLength 7 = .ok (.istore_n 3, 1) := dk_62 (dk_at dksJ15_newLength_0 7 rfl rfl)
theorem dJ15_newLength_8 : decode cJ15_newLength 8 = .ok (.iconst 0, 1) := dk_3 (dk_at dksJ15_newLength_0 8 rfl rfl)
theorem dJ15_newLength_9 : decode cJ15_newLength 9 = .ok (.iload_n 3, 1) := dk_29 (dk_at dksJ15_newLength_0 9 rfl rfl)
theorem dJ15_newLength_10 : decode cJ15_newLength 10 = .ok (.if_icmp .ge 11, 3) := dk_162 0 11 (dk_at dksJ15_newLength_0 10 rfl rfl)
theorem dJ15_newLength_13 : decode cJ15_newLength 13 = .ok (.iload_n 3, 1) := dk_29 (dk_at dksJ15_newLength_0 13 rfl rfl)
theorem dJ15_newLength_14 : decode cJ15_newLength 14 = .ok (.ldc 200, 2) := dk_18 200 (dk_at dksJ15_newLength_0 14 rfl rfl)
theorem dJ15_newLength_16 : decode cJ15_newLength 16 = .ok (.if_icmp .gt 5, 3) := dk_163 0 5 (dk_at dksJ15_newLength_0 16 rfl rfl)
theorem dJ15_newLength_19 : decode cJ15_newLength 19 = .ok (.iload_n 3, 1) := dk_29 (dk_at dksJ15_newLength_0 19 rfl rfl)
theorem dJ15_newLength_20 : decode cJ15_newLength 20 = .ok (.ireturn, 1) := dk_172 (dk_at dksJ15_newLength_0 20 rfl rfl)
theorem dJ15_newLength_21 : decode cJ15_newLength 21 = .ok (.iload_n 0, 1) := dk_26 (dk_at dksJ15_newLength_0 21 rfl rfl)
theorem dJ15_newLength_22 : decode cJ15_newLength 22 = .ok (.iload_n 1, 1) := dk_27 (dk_at dksJ15_newLength_0 22 rfl rfl)
theorem dJ15_newLength_23 : decode cJ15_newLength 23 = .ok (.invokestatic 201, 3) := dk_184 0 201 (dk_at dksJ15_newLength_1 0 rfl rfl)
theorem dJ15_newLength_26 : decode cJ15_newLength 26 = .ok (.ireturn, 1) := dk_172 (dk_at dksJ15_newLength_1 3 rfl rfl)
abbrev cJ15_hugeLength : ByteArray := prog_53_method_28_code
def yJ15_hugeLength : MethodName := ⟨RJ15, "hugeLength", "(II)I"⟩
def dkwJ15_hugeLength_2 : List UInt8 := [191, 28, 18, 200, 163, 0, 6, 18, 200, 172, 28, 172]
abbrev dktJ15_hugeLength_2 : List UInt8 := dkwJ15_hugeLength_2 ++ []
def dkwJ15_hugeLength_1 : List UInt8 := [26, 182, 0, 98, 18, 208, 182, 0, 94, 27, 182, 0, 98, 18, 210, 182, 0, 94, 182, 0, 101, 183, 0, 212]
abbrev dktJ15_hugeLength_1 : List UInt8 := dkwJ15_hugeLength_1 ++ dktJ15_hugeLength_2
def dkwJ15_hugeLength_0 : List UInt8 := [26, 27, 96, 61, 28, 156, 0, 44, 187, 0, 204, 89, 187, 0, 89, 89, 183, 0, 91, 18, 206, 182, 0, 94]
abbrev dktJ15_hugeLength_0 : List UInt8 := dkwJ15_hugeLength_0 ++ dktJ15_hugeLength_1
theorem dksJ15_hugeLength_0 : cJ15_hugeLength.data.toList.drop 0 = dktJ15_hugeLength_0 := by decide +kernel
theorem dksJ15_hugeLength_1 : cJ15_hugeLength.data.toList.drop 24 = dktJ15_hugeLength_1 := dk_seg dksJ15_hugeLength_0 24 rfl rfl
theorem dksJ15_hugeLength_2 : cJ15_hugeLength.data.toList.drop 48 = dktJ15_hugeLength_2 := dk_seg dksJ15_hugeLength_1 24 rfl rfl
theorem dJ15_hugeLength_0 : decode cJ15_hugeLength 0 = .ok (.iload_n 0, 1) := dk_26 (dk_at dksJ15_hugeLength_0 0 rfl rfl)
theorem dJ15_hugeLength_1 : decode cJ15_hugeLength 1 = .ok (.iload_n 1, 1) := dk_27 (dk_at dksJ15_hugeLength_0 1 rfl rfl)
theorem dJ15_hugeLength_2 : decode cJ15_hugeLength 2 = .ok (.iadd, 1) := dk_96 (dk_at dksJ15_hugeLength_0 2 rfl rfl)
theorem dJ15_hugeLength_3 : decode cJ15_hugeLength 3 = .ok (.istore_n 2, 1) := dk_61 (dk_at dksJ15_hugeLength_0 3 rfl rfl)
theorem dJ15_hugeLength_4 : decode cJ15_hugeLength 4 = .ok (.iload_n 2, 1) := dk_28 (dk_at dksJ15_hugeLength_0 4 rfl rfl)
theorem dJ15_hugeLength_5 : decode cJ15_hugeLength 5 = .ok (.ifCond .ge 44, 3) := dk_156 0 44 (dk_at dksJ15_hugeLength_0 5 rfl rfl)
theorem dJ15_hugeLength_8 : decode cJ15_hugeLength 8 = .ok (.new 204, 3) := dk_187 0 204 (dk_at dksJ15_hugeLength_0 8 rfl rfl)
theorem dJ15_hugeLength_11 : decode cJ15_hugeLength 11 = .ok (.dup, 1) := dk_89 (dk_at dksJ15_hugeLength_0 11 rfl rfl)
theorem dJ15_hugeLength_12 : decode cJ15_hugeLength 12 = .ok (.new 89, 3) := dk_187 0 89 (dk_at dksJ15_hugeLength_0 12 rfl rfl)
theorem dJ15_hugeLength_15 : decode cJ15_hugeLength 15 = .ok (.dup, 1) := dk_89 (dk_at dksJ15_hugeLength_0 15 rfl rfl)
theorem dJ15_hugeLength_16 : decode cJ15_hugeLength 16 = .ok (.invokespecial 91, 3) := dk_183 0 91 (dk_at dksJ15_hugeLength_0 16 rfl rfl)
theorem dJ15_hugeLength_19 : decode cJ15_hugeLength 19 = .ok (.ldc 206, 2) := dk_18 206 (dk_at dksJ15_hugeLength_0 19 rfl rfl)
theorem dJ15_hugeLength_21 : decode cJ15_hugeLength 21 = .ok (.invokevirtual 94, 3) := dk_182 0 94 (dk_at dksJ15_hugeLength_0 21 rfl rfl)
theorem dJ15_hugeLength_24 : decode cJ15_hugeLength 24 = .ok (.iload_n 0, 1) := dk_26 (dk_at dksJ15_hugeLength_1 0 rfl rfl)
theorem dJ15_hugeLength_25 : decode cJ15_hugeLength 25 = .ok (.invokevirtual 98, 3) := dk_182 0 98 (dk_at dksJ15_hugeLength_1 1 rfl rfl)
theorem dJ15_hugeLength_28 : decode cJ15_hugeLength 28 = .ok (.ldc 208, 2) := dk_18 208 (dk_at dksJ15_hugeLength_1 4 rfl rfl)
theorem dJ15_hugeLength_30 : decode cJ15_hugeLength 30 = .ok (.invokevirtual 94, 3) := dk_182 0 94 (dk_at dksJ15_hugeLength_1 6 rfl rfl)
theorem dJ15_hugeLength_33 : decode cJ15_hugeLength 33 = .ok (.iload_n 1, 1) := dk_27 (dk_at dksJ15_hugeLength_1 9 rfl rfl)
theorem dJ15_hugeLength_34 : decode cJ15_hugeLength 34 = .ok (.invokevirtual 98, 3) := dk_182 0 98 (dk_at dksJ15_hugeLength_1 10 rfl rfl)
theorem dJ15_hugeLength_37 : decode cJ15_hugeLength 37 = .ok (.ldc 210, 2) := dk_18 210 (dk_at dksJ15_hugeLength_1 13 rfl rfl)
theorem dJ15_hugeLength_39 : decode cJ15_hugeLength 39 = .ok (.invokevirtual 94, 3) := dk_182 0 94 (dk_at dksJ15_hugeLength_1 15 rfl rfl)
theorem dJ15_hugeLength_42 : decode cJ15_hugeLength 42 = .ok (.invokevirtual 101, 3) := dk_182 0 101 (dk_at dksJ15_hugeLength_1 18 rfl rfl)
theorem dJ15_hugeLength_45 : decode cJ15_hugeLength 45 = .ok (.invokespecial 212, 3) := dk_183 0 212 (dk_at dksJ15_hugeLength_1 21 rfl rfl)
theorem dJ15_hugeLength_48 : decode cJ15_hugeLength 48 = .ok (.athrow, 1) := dk_191 (dk_at dksJ15_hugeLength_2 0 rfl rfl)
theorem dJ15_hugeLength_49 : decode cJ15_hugeLength 49 = .ok (.iload_n 2, 1) := dk_28 (dk_at dksJ15_hugeLength_2 1 rfl rfl)
theorem dJ15_hugeLength_50 : decode cJ15_hugeLength 50 = .ok (.ldc 200, 2) := dk_18 200 (dk_at dksJ15_hugeLength_2 2 rfl rfl)
theorem dJ15_hugeLength_52 : decode cJ15_hugeLength 52 = .ok (.if_icmp .gt 6, 3) := dk_163 0 6 (dk_at dksJ15_hugeLength_2 4 rfl rfl)
theorem dJ15_hugeLength_55 : decode cJ15_hugeLength 55 = .ok (.ldc 200, 2) := dk_18 200 (dk_at dksJ15_hugeLength_2 7 rfl rfl)
theorem dJ15_hugeLength_57 : decode cJ15_hugeLength 57 = .ok (.ireturn, 1) := dk_172 (dk_at dksJ15_hugeLength_2 9 rfl rfl)
theorem dJ15_hugeLength_58 : decode cJ15_hugeLength 58 = .ok (.iload_n 2, 1) := dk_28 (dk_at dksJ15_hugeLength_2 10 rfl rfl)
theorem dJ15_hugeLength_59 : decode cJ15_hugeLength 59 = .ok (.ireturn, 1) := dk_172 (dk_at dksJ15_hugeLength_2 11 rfl rfl)
theorem q74 : (Jvm.Cond.initialized "jdk/internal/util/ArraysSupport") ∈ lw_all := lw_g (lw_at lw_m1 26 rfl) rfl
theorem q814 : (Jvm.Cond.static ({ cls := "jdk/internal/util/ArraysSupport", name := "newLength", desc := "(III)I" } : Jvm.MethodName)) ∈ lw_all := lw_g (lw_at lw_m4 46 rfl) rfl
theorem q815 : (Jvm.Cond.code ({ cls := "jdk/internal/util/ArraysSupport", name := "newLength", desc := "(III)I" } : Jvm.MethodName) prog_53_method_27_code (4 : Nat) (Option.some Jvm.ClassFile.FieldType.int)) ∈ lw_all := lw_g (lw_at lw_m4 47 rfl) rfl
theorem q816 : (Jvm.Cond.methodLink "jdk/internal/util/ArraysSupport" (194 : Nat) ({ cls := "java/lang/Math", name := "max", desc := "(II)I" } : Jvm.MethodName)) ∈ lw_all := lw_g (lw_at lw_m4 48 rfl) rfl
theorem q817 : (Jvm.Cond.constant "jdk/internal/util/ArraysSupport" (200 : Nat) (2147483639 : Int32)) ∈ lw_all := lw_g (lw_at lw_m4 49 rfl) rfl
theorem q818 : (Jvm.Cond.methodLink "jdk/internal/util/ArraysSupport" (201 : Nat) ({ cls := "jdk/internal/util/ArraysSupport", name := "hugeLength", desc := "(II)I" } : Jvm.MethodName)) ∈ lw_all := lw_g (lw_at lw_m4 50 rfl) rfl
theorem q819 : (Jvm.Cond.static ({ cls := "jdk/internal/util/ArraysSupport", name := "hugeLength", desc := "(II)I" } : Jvm.MethodName)) ∈ lw_all := lw_g (lw_at lw_m4 51 rfl) rfl
theorem q820 : (Jvm.Cond.code ({ cls := "jdk/internal/util/ArraysSupport", name := "hugeLength", desc := "(II)I" } : Jvm.MethodName) prog_53_method_28_code (3 : Nat) (Option.some Jvm.ClassFile.FieldType.int)) ∈ lw_all := lw_g (lw_at lw_m4 52 rfl) rfl
/-! java/util/Arrays -/
set_option maxRecDepth 100000
def RJ16 : String := "java/util/Arrays"
abbrev cJ16_copyOf : ByteArray := prog_45_method_119_code
def yJ16_copyOf : MethodName := ⟨RJ16, "copyOf", "([Ljava/lang/Object;I)[Ljava/lang/Object;"⟩
def dkwJ16_copyOf_0 : List UInt8 := [42, 27, 42, 182, 0, 86, 184, 1, 44, 176]
abbrev dktJ16_copyOf_0 : List UInt8 := dkwJ16_copyOf_0 ++ []
theorem dksJ16_copyOf_0 : cJ16_copyOf.data.toList.drop 0 = dktJ16_copyOf_0 := by decide +kernel
theorem dJ16_copyOf_0 : decode cJ16_copyOf 0 = .ok (.aload_n 0, 1) := dk_42 (dk_at dksJ16_copyOf_0 0 rfl rfl)
theorem dJ16_copyOf_1 : decode cJ16_copyOf 1 = .ok (.iload_n 1, 1) := dk_27 (dk_at dksJ16_copyOf_0 1 rfl rfl)
theorem dJ16_copyOf_2 : decode cJ16_copyOf 2 = .ok (.aload_n 0, 1) := dk_42 (dk_at dksJ16_copyOf_0 2 rfl rfl)
theorem dJ16_copyOf_3 : decode cJ16_copyOf 3 = .ok (.invokevirtual 86, 3) := dk_182 0 86 (dk_at dksJ16_copyOf_0 3 rfl rfl)
theorem dJ16_copyOf_6 : decode cJ16_copyOf 6 = .ok (.invokestatic 300, 3) := dk_184 1 44 (dk_at dksJ16_copyOf_0 6 rfl rfl)
theorem dJ16_copyOf_9 : decode cJ16_copyOf 9 = .ok (.areturn, 1) := dk_176 (dk_at dksJ16_copyOf_0 9 rfl rfl)
abbrev cJ16_copyOf_2 : ByteArray := prog_45_method_120_code
def yJ16_copyOf_2 : MethodName := ⟨RJ16, "copyOf", "([Ljava/lang/Object;ILjava/lang/Class;)[Ljava/lang/Object;"⟩
def dkwJ16_copyOf_2_1 : List UInt8 := [78, 42, 3, 45, 3, 42, 190, 27, 184, 1, 48, 184, 0, 150, 45, 176]
abbrev dktJ16_copyOf_2_1 : List UInt8 := dkwJ16_copyOf_2_1 ++ []
def dkwJ16_copyOf_2_0 : List UInt8 := [44, 18, 110, 166, 0, 10, 27, 189, 0, 2, 167, 0, 14, 44, 182, 0, 90, 27, 184, 0, 95, 192, 0, 110]
abbrev dktJ16_copyOf_2_0 : List UInt8 := dkwJ16_copyOf_2_0 ++ dktJ16_copyOf_2_1
theorem dksJ16_copyOf_2_0 : cJ16_copyOf_2.data.toList.drop 0 = dktJ16_copyOf_2_0 := by decide +kernel
theorem dksJ16_copyOf_2_1 : cJ16_copyOf_2.data.toList.drop 24 = dktJ16_copyOf_2_1 := dk_seg dksJ16_copyOf_2_0 24 rfl rfl
theorem dJ16_copyOf_2_0 : decode cJ16_copyOf_2 0 = .ok (.aload_n 2, 1) := dk_44 (dk_at dksJ16_copyOf_2_0 0 rfl rfl)
theorem dJ16_copyOf_2_1 : decode cJ16_copyOf_2 1 = .ok (.ldc 110, 2) := dk_18 110 (dk_at dksJ16_copyOf_2_0 1 rfl rfl)
theorem dJ16_copyOf_2_3 : decode cJ16_copyOf_2 3 = .ok (.if_acmp .ne 10, 3) := dk_166 0 10 (dk_at dksJ16_copyOf_2_0 3 rfl rfl)
theorem dJ16_copyOf_2_6 : decode cJ16_copyOf_2 6 = .ok (.iload_n 1, 1) := dk_27 (dk_at dksJ16_copyOf_2_0 6 rfl rfl)
theorem dJ16_copyOf_2_7 : decode cJ16_copyOf_2 7 = .ok (.anewarray 2, 3) := dk_189 0 2 (dk_at dksJ16_copyOf_2_0 7 rfl rfl)
theorem dJ16_copyOf_2_10 : decode cJ16_copyOf_2 10 = .ok (.goto 14, 3) := dk_167 0 14 (dk_at dksJ16_copyOf_2_0 10 rfl rfl)
theorem dJ16_copyOf_2_13 : decode cJ16_copyOf_2 13 = .ok (.aload_n 2, 1) := dk_44 (dk_at dksJ16_copyOf_2_0 13 rfl rfl)
theorem dJ16_copyOf_2_14 : decode cJ16_copyOf_2 14 = .ok (.invokevirtual 90, 3) := dk_182 0 90 (dk_at dksJ16_copyOf_2_0 14 rfl rfl)
theorem dJ16_copyOf_2_17 : decode cJ16_copyOf_2 17 = .ok (.iload_n 1, 1) := dk_27 (dk_at dksJ16_copyOf_2_0 17 rfl rfl)
theorem dJ16_copyOf_2_18 : decode cJ16_copyOf_2 18 = .ok (.invokestatic 95, 3) := dk_184 0 95 (dk_at dksJ16_copyOf_2_0 18 rfl rfl)
theorem dJ16_copyOf_2_21 : decode cJ16_copyOf_2 21 = .ok (.checkcast 110, 3) := dk_192 0 110 (dk_at dksJ16_copyOf_2_0 21 rfl rfl)
theorem dJ16_copyOf_2_24 : decode cJ16_copyOf_2 24 = .ok (.astore_n 3, 1) := dk_78 (dk_at dksJ16_copyOf_2_1 0 rfl rfl)
theorem dJ16_copyOf_2_25 : decode cJ16_copyOf_2 25 = .ok (.aload_n 0, 1) := dk_42 (dk_at dksJ16_copyOf_2_1 1 rfl rfl)
theorem dJ16_copyOf_2_26 : decode cJ16_copyOf_2 26 = .ok (.iconst 0, 1) := dk_3 (dk_at dksJ16_copyOf_2_1 2 rfl rfl)
theorem dJ16_copyOf_2_27 : decode cJ16_copyOf_2 27 = .ok (.aload_n 3, 1) := dk_45 (dk_at dksJ16_copyOf_2_1 3 rfl rfl)
theorem dJ16_copyOf_2_28 : decode cJ16_copyOf_2 28 = .ok (.iconst 0, 1) := dk_3 (dk_at dksJ16_copyOf_2_1 4 rfl rfl)
theorem dJ16_copyOf_2_29 : decode cJ16_copyOf_2 29 = .ok (.aload_n 0, 1) := dk_42 (dk_at dksJ16_copyOf_2_1 5 rfl rfl)
theorem dJ16_copyOf_2_30 : decode cJ16_copyOf_2 30 = .ok (.arraylength, 1) := dk_190 (dk_at dksJ16_copyOf_2_1 6 rfl rfl)
theorem dJ16_copyOf_2_31 : decode cJ16_copyOf_2 31 = .ok (.iload_n 1, 1) := dk_27 (dk_at dksJ16_copyOf_2_1 7 rfl rfl)
theorem dJ16_copyOf_2_32 : decode cJ16_copyOf_2 32 = .ok (.invokestatic 304, 3) := dk_184 1 48 (dk_at dksJ16_copyOf_2_1 8 rfl rfl)
theorem dJ16_copyOf_2_35 : decode cJ16_copyOf_2 35 = .ok (.invokestatic 150, 3) := dk_184 0 150 (dk_at dksJ16_copyOf_2_1 11 rfl rfl)
theorem dJ16_copyOf_2_38 : decode cJ16_copyOf_2 38 = .ok (.aload_n 3, 1) := dk_45 (dk_at dksJ16_copyOf_2_1 14 rfl rfl)
theorem dJ16_copyOf_2_39 : decode cJ16_copyOf_2 39 = .ok (.areturn, 1) := dk_176 (dk_at dksJ16_copyOf_2_1 15 rfl rfl)
abbrev cJ16_copyOf_3 : ByteArray := prog_45_method_121_code
def yJ16_copyOf_3 : MethodName := ⟨RJ16, "copyOf", "([BI)[B"⟩
def dkwJ16_copyOf_3_1 : List UInt8 := [27, 184, 1, 48, 184, 0, 150, 44, 176]
abbrev dktJ16_copyOf_3_1 : List UInt8 := dkwJ16_copyOf_3_1 ++ []
def dkwJ16_copyOf_3_0 : List UInt8 := [27, 42, 190, 160, 0, 11, 42, 182, 1, 54, 192, 1, 55, 176, 27, 188, 8, 77, 42, 3, 44, 3, 42, 190]
abbrev dktJ16_copyOf_3_0 : List UInt8 := dkwJ16_copyOf_3_0 ++ dktJ16_copyOf_3_1
theorem dksJ16_copyOf_3_0 : cJ16_copyOf_3.data.toList.drop 0 = dktJ16_copyOf_3_0 := by decide +kernel
theorem dksJ16_copyOf_3_1 : cJ16_copyOf_3.data.toList.drop 24 = dktJ16_copyOf_3_1 := dk_seg dksJ16_copyOf_3_0 24 rfl rfl
theorem dJ16_copyOf_3_0 : decode cJ16_copyOf_3 0 = .ok (.iload_n 1, 1) := dk_27 (dk_at dksJ16_copyOf_3_0 0 rfl rfl)
theorem dJ16_copyOf_3_1 : decode cJ16_copyOf_3 1 = .ok (.aload_n 0, 1) := dk_42 (dk_at dksJ16_copyOf_3_0 1 rfl rfl)
theorem dJ16_copyOf_3_2 : decode cJ16_copyOf_3 2 = .ok (.arraylength, 1) := dk_190 (dk_at dksJ16_copyOf_3_0 2 rfl rfl)
theorem dJ16_copyOf_3_3 : decode cJ16_copyOf_3 3 = .ok (.if_icmp .ne 11, 3) := dk_160 0 11 (dk_at dksJ16_copyOf_3_0 3 rfl rfl)
theorem dJ16_copyOf_3_6 : decode cJ16_copyOf_3 6 = .ok (.aload_n 0, 1) := dk_42 (dk_at dksJ16_copyOf_3_0 6 rfl rfl)
theorem dJ16_copyOf_3_7 : decode cJ16_copyOf_3 7 = .ok (.invokevirtual 310, 3) := dk_182 1 54 (dk_at dksJ16_copyOf_3_0 7 rfl rfl)
theorem dJ16_copyOf_3_10 : decode cJ16_copyOf_3 10 = .ok (.checkcast 311, 3) := dk_192 1 55 (dk_at dksJ16_copyOf_3_0 10 rfl rfl)
theorem dJ16_copyOf_3_13 : decode cJ16_copyOf_3 13 = .ok (.areturn, 1) := dk_176 (dk_at dksJ16_copyOf_3_0 13 rfl rfl)
theorem dJ16_copyOf_3_14 : decode cJ16_copyOf_3 14 = .ok (.iload_n 1, 1) := dk_27 (dk_at dksJ16_copyOf_3_0 14 rfl rfl)
theorem dJ16_copyOf_3_15 : decode cJ16_copyOf_3 15 = .ok (.newarray .byte, 2) := dk_188_8 (dk_at dksJ16_copyOf_3_0 15 rfl rfl)
theorem dJ16_copyOf_3_17 : decode cJ16_copyOf_3 17 = .ok (.astore_n 2, 1) := dk_77 (dk_at dksJ16_copyOf_3_0 17 rfl rfl)
theorem dJ16_copyOf_3_18 : decode cJ16_copyOf_3 18 = .ok (.aload_n 0, 1) := dk_42 (dk_at dksJ16_copyOf_3_0 18 rfl rfl)
theorem dJ16_copyOf_3_19 : decode cJ16_copyOf_3 19 = .ok (.iconst 0, 1) := dk_3 (dk_at dksJ16_copyOf_3_0 19 rfl rfl)
theorem dJ16_copyOf_3_20 : decode cJ16_copyOf_3 20 = .ok (.aload_n 2, 1) := dk_44 (dk_at dksJ16_copyOf_3_0 20 rfl rfl)
theorem dJ16_copyOf_3_21 : decode cJ16_copyOf_3 21 = .ok (.iconst 0, 1) := dk_3 (dk_at dksJ16_copyOf_3_0 21 rfl rfl)
theorem dJ16_copyOf_3_22 : decode cJ16_copyOf_3 22 = .ok (.aload_n 0, 1) := dk_42 (dk_at dksJ16_copyOf_3_0 22 rfl rfl)
theorem dJ16_copyOf_3_23 : decode cJ16_copyOf_3 23 = .ok (.arraylength, 1) := dk_190 (dk_at dksJ16_copyOf_3_0 23 rfl rfl)
theorem dJ16_copyOf_3_24 : decode cJ16_copyOf_3 24 = .ok (.iload_n 1, 1) := dk_27 (dk_at dksJ16_copyOf_3_1 0 rfl rfl)
theorem dJ16_copyOf_3_25 : decode cJ16_copyOf_3 25 = .ok (.invokestatic 304, 3) := dk_184 1 48 (dk_at dksJ16_copyOf_3_1 1 rfl rfl)
theorem dJ16_copyOf_3_28 : decode cJ16_copyOf_3 28 = .ok (.invokestatic 150, 3) := dk_184 0 150 (dk_at dksJ16_copyOf_3_1 4 rfl rfl)
theorem dJ16_copyOf_3_31 : decode cJ16_copyOf_3 31 = .ok (.aload_n 2, 1) := dk_44 (dk_at dksJ16_copyOf_3_1 7 rfl rfl)
theorem dJ16_copyOf_3_32 : decode cJ16_copyOf_3 32 = .ok (.areturn, 1) := dk_176 (dk_at dksJ16_copyOf_3_1 8 rfl rfl)
abbrev cJ16_copyOfRange : ByteArray := prog_45_method_132_code
def yJ16_copyOfRange : MethodName := ⟨RJ16, "copyOfRange", "([BII)[B"⟩
def dkwJ16_copyOfRange_1 : List UInt8 := [176]
abbrev dktJ16_copyOfRange_1 : List UInt8 := dkwJ16_copyOfRange_1 ++ []
def dkwJ16_copyOfRange_0 : List UInt8 := [27, 154, 0, 9, 28, 42, 190, 159, 0, 10, 42, 27, 28, 184, 1, 83, 176, 42, 182, 1, 54, 192, 1, 55]
abbrev dktJ16_copyOfRange_0 : List UInt8 := dkwJ16_copyOfRange_0 ++ dktJ16_copyOfRange_1
theorem dksJ16_copyOfRange_0 : cJ16_copyOfRange.data.toList.drop 0 = dktJ16_copyOfRange_0 := by decide +kernel
theorem dksJ16_copyOfRange_1 : cJ16_copyOfRange.data.toList.drop 24 = dktJ16_copyOfRange_1 := dk_seg dksJ16_copyOfRange_0 24 rfl rfl
theorem dJ16_copyOfRange_0 : decode cJ16_copyOfRange 0 = .ok (.iload_n 1, 1) := dk_27 (dk_at dksJ16_copyOfRange_0 0 rfl rfl)
theorem dJ16_copyOfRange_1 : decode cJ16_copyOfRange 1 = .ok (.ifCond .ne 9, 3) := dk_154 0 9 (dk_at dksJ16_copyOfRange_0 1 rfl rfl)
theorem dJ16_copyOfRange_4 : decode cJ16_copyOfRange 4 = .ok (.iload_n 2, 1) := dk_28 (dk_at dksJ16_copyOfRange_0 4 rfl rfl)
theorem dJ16_copyOfRange_5 : decode cJ16_copyOfRange 5 = .ok (.aload_n 0, 1) := dk_42 (dk_at dksJ16_copyOfRange_0 5 rfl rfl)
theorem dJ16_copyOfRange_6 : decode cJ16_copyOfRange 6 = .ok (.arraylength, 1) := dk_190 (dk_at dksJ16_copyOfRange_0 6 rfl rfl)
theorem dJ16_copyOfRange_7 : decode cJ16_copyOfRange 7 = .ok (.if_icmp .eq 10, 3) := dk_159 0 10 (dk_at dksJ16_copyOfRange_0 7 rfl rfl)
theorem dJ16_copyOfRange_10 : decode cJ16_copyOfRange 10 = .ok (.aload_n 0, 1) := dk_42 (dk_at dksJ16_copyOfRange_0 10 rfl rfl)
theorem dJ16_copyOfRange_11 : decode cJ16_copyOfRange 11 = .ok (.iload_n 1, 1) := dk_27 (dk_at dksJ16_copyOfRange_0 11 rfl rfl)
theorem dJ16_copyOfRange_12 : decode cJ16_copyOfRange 12 = .ok (.iload_n 2, 1) := dk_28 (dk_at dksJ16_copyOfRange_0 12 rfl rfl)
theorem dJ16_copyOfRange_13 : decode cJ16_copyOfRange 13 = .ok (.invokestatic 339, 3) := dk_184 1 83 (dk_at dksJ16_copyOfRange_0 13 rfl rfl)
theorem dJ16_copyOfRange_16 : decode cJ16_copyOfRange 16 = .ok (.areturn, 1) := dk_176 (dk_at dksJ16_copyOfRange_0 16 rfl rfl)
theorem dJ16_copyOfRange_17 : decode cJ16_copyOfRange 17 = .ok (.aload_n 0, 1) := dk_42 (dk_at dksJ16_copyOfRange_0 17 rfl rfl)
theorem dJ16_copyOfRange_18 : decode cJ16_copyOfRange 18 = .ok (.invokevirtual 310, 3) := dk_182 1 54 (dk_at dksJ16_copyOfRange_0 18 rfl rfl)
theorem dJ16_copyOfRange_21 : decode cJ16_copyOfRange 21 = .ok (.checkcast 311, 3) := dk_192 1 55 (dk_at dksJ16_copyOfRange_0 21 rfl rfl)
theorem dJ16_copyOfRange_24 : decode cJ16_copyOfRange 24 = .ok (.areturn, 1) := dk_176 (dk_at dksJ16_copyOfRange_1 0 rfl rfl)
abbrev cJ16_copyOfRangeByte : ByteArray := prog_45_method_133_code
def yJ16_copyOfRangeByte : MethodName := ⟨RJ16, "copyOfRangeByte", "([BII)[B"⟩
def dkwJ16_copyOfRangeByte_1 : List UInt8 := [184, 1, 48, 184, 0, 150, 25, 4, 176]
abbrev dktJ16_copyOfRangeByte_1 : List UInt8 := dkwJ16_copyOfRangeByte_1 ++ []
def dkwJ16_copyOfRangeByte_0 : List UInt8 := [27, 28, 184, 1, 87, 28, 27, 100, 62, 29, 188, 8, 58, 4, 42, 27, 25, 4, 3, 42, 190, 27, 100, 29]
abbrev dktJ16_copyOfRangeByte_0 : List UInt8 := dkwJ16_copyOfRangeByte_0 ++ dktJ16_copyOfRangeByte_1
theorem dksJ16_copyOfRangeByte_0 : cJ16_copyOfRangeByte.data.toList.drop 0 = dktJ16_copyOfRangeByte_0 := by decide +kernel
theorem dksJ16_copyOfRangeByte_1 : cJ16_copyOfRangeByte.data.toList.drop 24 = dktJ16_copyOfRangeByte_1 := dk_seg dksJ16_copyOfRangeByte_0 24 rfl rfl
theorem dJ16_copyOfRangeByte_0 : decode cJ16_copyOfRangeByte 0 = .ok (.iload_n 1, 1) := dk_27 (dk_at dksJ16_copyOfRangeByte_0 0 rfl rfl)
theorem dJ16_copyOfRangeByte_1 : decode cJ16_copyOfRangeByte 1 = .ok (.iload_n 2, 1) := dk_28 (dk_at dksJ16_copyOfRangeByte_0 1 rfl rfl)
theorem dJ16_copyOfRangeByte_2 : decode cJ16_copyOfRangeByte 2 = .ok (.invokestatic 343, 3) := dk_184 1 87 (dk_at dksJ16_copyOfRangeByte_0 2 rfl rfl)
theorem dJ16_copyOfRangeByte_5 : decode cJ16_copyOfRangeByte 5 = .ok (.iload_n 2, 1) := dk_28 (dk_at dksJ16_copyOfRangeByte_0 5 rfl rfl)
theorem dJ16_copyOfRangeByte_6 : decode cJ16_copyOfRangeByte 6 = .ok (.iload_n 1, 1) := dk_27 (dk_at dksJ16_copyOfRangeByte_0 6 rfl rfl)
theorem dJ16_copyOfRangeByte_7 : decode cJ16_copyOfRangeByte 7 = .ok (.isub, 1) := dk_100 (dk_at dksJ16_copyOfRangeByte_0 7 rfl rfl)
theorem dJ16_copyOfRangeByte_8 : decode cJ16_copyOfRangeByte 8 = .ok (.istore_n 3, 1) := dk_62 (dk_at dksJ16_copyOfRangeByte_0 8 rfl rfl)
theorem dJ16_copyOfRangeByte_9 : decode cJ16_copyOfRangeByte 9 = .ok (.iload_n 3, 1) := dk_29 (dk_at dksJ16_copyOfRangeByte_0 9 rfl rfl)
theorem dJ16_copyOfRangeByte_10 : decode cJ16_copyOfRangeByte 10 = .ok (.newarray .byte, 2) := dk_188_8 (dk_at dksJ16_copyOfRangeByte_0 10 rfl rfl)
theorem dJ16_copyOfRangeByte_12 : decode cJ16_copyOfRangeByte 12 = .ok (.astore 4, 2) := dk_58 4 (dk_at dksJ16_copyOfRangeByte_0 12 rfl rfl)
theorem dJ16_copyOfRangeByte_14 : decode cJ16_copyOfRangeByte 14 = .ok (.aload_n 0, 1) := dk_42 (dk_at dksJ16_copyOfRangeByte_0 14 rfl rfl)
theorem dJ16_copyOfRangeByte_15 : decode cJ16_copyOfRangeByte 15 = .ok (.iload_n 1, 1) := dk_27 (dk_at dksJ16_copyOfRangeByte_0 15 rfl rfl)
theorem dJ16_copyOfRangeByte_16 : decode cJ16_copyOfRangeByte 16 = .ok (.aload 4, 2) := dk_25 4 (dk_at dksJ16_copyOfRangeByte_0 16 rfl rfl)
theorem dJ16_copyOfRangeByte_18 : decode cJ16_copyOfRangeByte 18 = .ok (.iconst 0, 1) := dk_3 (dk_at dksJ16_copyOfRangeByte_0 18 rfl rfl)
theorem dJ16_copyOfRangeByte_19 : decode cJ16_copyOfRangeByte 19 = .ok (.aload_n 0, 1) := dk_42 (dk_at dksJ16_copyOfRangeByte_0 19 rfl rfl)
theorem dJ16_copyOfRangeByte_20 : decode cJ16_copyOfRangeByte 20 = .ok (.arraylength, 1) := dk_190 (dk_at dksJ16_copyOfRangeByte_0 20 rfl rfl)
theorem dJ16_copyOfRangeByte_21 : decode cJ16_copyOfRangeByte 21 = .ok (.iload_n 1, 1) := dk_27 (dk_at dksJ16_copyOfRangeByte_0 21 rfl rfl)
theorem dJ16_copyOfRangeByte_22 : decode cJ16_copyOfRangeByte 22 = .ok (.isub, 1) := dk_100 (dk_at dksJ16_copyOfRangeByte_0 22 rfl rfl)
theorem dJ16_copyOfRangeByte_23 : decode cJ16_copyOfRangeByte 23 = .ok (.iload_n 3, 1) := dk_29 (dk_at dksJ16_copyOfRangeByte_0 23 rfl rfl)
theorem dJ16_copyOfRangeByte_24 : decode cJ16_copyOfRangeByte 24 = .ok (.invokestatic 304, 3) := dk_184 1 48 (dk_at dksJ16_copyOfRangeByte_1 0 rfl rfl)
theorem dJ16_copyOfRangeByte_27 : decode cJ16_copyOfRangeByte 27 = .ok (.invokestatic 150, 3) := dk_184 0 150 (dk_at dksJ16_copyOfRangeByte_1 3 rfl rfl)
theorem dJ16_copyOfRangeByte_30 : decode cJ16_copyOfRangeByte 30 = .ok (.aload 4, 2) := dk_25 4 (dk_at dksJ16_copyOfRangeByte_1 6 rfl rfl)
theorem dJ16_copyOfRangeByte_32 : decode cJ16_copyOfRangeByte 32 = .ok (.areturn, 1) := dk_176 (dk_at dksJ16_copyOfRangeByte_1 8 rfl rfl)
abbrev cJ16_checkLength : ByteArray := prog_45_method_131_code
def yJ16_checkLength : MethodName := ⟨RJ16, "checkLength", "(II)V"⟩
def dkwJ16_checkLength_1 : List UInt8 := [182, 0, 50, 27, 182, 0, 54, 182, 0, 61, 183, 0, 65, 191, 177]
abbrev dktJ16_checkLength_1 : List UInt8 := dkwJ16_checkLength_1 ++ []
def dkwJ16_checkLength_0 : List UInt8 := [27, 26, 162, 0, 35, 187, 0, 43, 89, 187, 0, 45, 89, 183, 0, 47, 26, 182, 0, 54, 19, 1, 81]
abbrev dktJ16_checkLength_0 : List UInt8 := dkwJ16_checkLength_0 ++ dktJ16_checkLength_1
theorem dksJ16_checkLength_0 : cJ16_checkLength.data.toList.drop 0 = dktJ16_checkLength_0 := by decide +kernel
theorem dksJ16_checkLength_1 : cJ16_checkLength.data.toList.drop 23 = dktJ16_checkLength_1 := dk_seg dksJ16_checkLength_0 23 rfl rfl
theorem dJ16_checkLength_0 : decode cJ16_checkLength 0 = .ok (.iload_n 1, 1) := dk_27 (dk_at dksJ16_checkLength_0 0 rfl rfl)
theorem dJ16_checkLength_1 : decode cJ16_checkLength 1 = .ok (.iload_n 0, 1) := dk_26 (dk_at dksJ16_checkLength_0 1 rfl rfl)
theorem dJ16_checkLength_2 : decode cJ16_checkLength 2 = .ok (.if_icmp .ge 35, 3) := dk_162 0 35 (dk_at dksJ16_checkLength_0 2 rfl rfl)
theorem dJ16_checkLength_5 : decode cJ16_checkLength 5 = .ok (.new 43, 3) := dk_187 0 43 (dk_at dksJ16_checkLength_0 5 rfl rfl)
theorem dJ16_checkLength_8 : decode cJ16_checkLength 8 = .ok (.dup, 1) := dk_89 (dk_at dksJ16_checkLength_0 8 rfl rfl)
theorem dJ16_checkLength_9 : decode cJ16_checkLength 9 = .ok (.new 45, 3) := dk_187 0 45 (dk_at dksJ16_checkLength_0 9 rfl rfl)
theorem dJ16_checkLength_12 : decode cJ16_checkLength 12 = .ok (.dup, 1) := dk_89 (dk_at dksJ16_checkLength_0 12 rfl rfl)
theorem dJ16_checkLength_13 : decode cJ16_checkLength 13 = .ok (.invokespecial 47, 3) := dk_183 0 47 (dk_at dksJ16_checkLength_0 13 rfl rfl)
theorem dJ16_checkLength_16 : decode cJ16_checkLength 16 = .ok (.iload_n 0, 1) := dk_26 (dk_at dksJ16_checkLength_0 16 rfl rfl)
theorem dJ16_checkLength_17 : decode cJ16_checkLength 17 = .ok (.invokevirtual 54, 3) := dk_182 0 54 (dk_at dksJ16_checkLength_0 17 rfl rfl)
theorem dJ16_checkLength_20 : decode cJ16_checkLength 20 = .ok (.ldc_w 337, 3) := dk_19 1 81 (dk_at dksJ16_checkLength_0 20 rfl rfl)
theorem dJ16_checkLength_23 : decode cJ16_checkLength 23 = .ok (.invokevirtual 50, 3) := dk_182 0 50 (dk_at dksJ16_checkLength_1 0 rfl rfl)
theorem dJ16_checkLength_26 : decode cJ16_checkLength 26 = .ok (.iload_n 1, 1) := dk_27 (dk_at dksJ16_checkLength_1 3 rfl rfl)
theorem dJ16_checkLength_27 : decode cJ16_checkLength 27 = .ok (.invokevirtual 54, 3) := dk_182 0 54 (dk_at dksJ16_checkLength_1 4 rfl rfl)
theorem dJ16_checkLength_30 : decode cJ16_checkLength 30 = .ok (.invokevirtual 61, 3) := dk_182 0 61 (dk_at dksJ16_checkLength_1 7 rfl rfl)
theorem dJ16_checkLength_33 : decode cJ16_checkLength 33 = .ok (.invokespecial 65, 3) := dk_183 0 65 (dk_at dksJ16_checkLength_1 10 rfl rfl)
theorem dJ16_checkLength_36 : decode cJ16_checkLength 36 = .ok (.athrow, 1) := dk_191 (dk_at dksJ16_checkLength_1 13 rfl rfl)
theorem dJ16_checkLength_37 : decode cJ16_checkLength 37 = .ok (.return_, 1) := dk_177 (dk_at dksJ16_checkLength_1 14 rfl rfl)
theorem q75 : (Jvm.Cond.initialized "java/util/Arrays") ∈ lw_all := lw_g (lw_at lw_m1 27 rfl) rfl
theorem q822 : (Jvm.Cond.static ({ cls := "java/util/Arrays", name := "copyOf", desc := "([Ljava/lang/Object;I)[Ljava/lang/Object;" } : Jvm.MethodName)) ∈ lw_all := lw_g (lw_at lw_m4 54 rfl) rfl
theorem q823 : (Jvm.Cond.code ({ cls := "java/util/Arrays", name := "copyOf", desc := "([Ljava/lang/Object;I)[Ljava/lang/Object;" } : Jvm.MethodName) prog_45_method_119_code (2 : Nat) (Option.some (Jvm.ClassFile.FieldType.array (Jvm.ClassFile.FieldType.object "java/lang/Object")))) ∈ lw_all := lw_g (lw_at lw_m4 55 rfl) rfl
theorem q824 : (Jvm.Cond.methodLink "java/util/Arrays" (86 : Nat) ({ cls := "java/lang/Object", name := "getClass", desc := "()Ljava/lang/Class;" } : Jvm.MethodName)) ∈ lw_all := lw_g (lw_at lw_m4 56 rfl) rfl
theorem q850 : (Jvm.Cond.methodLink "java/util/Arrays" (300 : Nat) ({ cls := "java/util/Arrays", name := "copyOf", desc := "([Ljava/lang/Object;ILjava/lang/Class;)[Ljava/lang/Object;" } : Jvm.MethodName)) ∈ lw_all := lw_g (lw_at lw_m4 82 rfl) rfl
theorem q851 : (Jvm.Cond.static ({ cls := "java/util/Arrays", name := "copyOf", desc := "([Ljava/lang/Object;ILjava/lang/Class;)[Ljava/lang/Object;" } : Jvm.MethodName)) ∈ lw_all := lw_g (lw_at lw_m4 83 rfl) rfl
theorem q852 : (Jvm.Cond.code ({ cls := "java/util/Arrays", name := "copyOf", desc := "([Ljava/lang/Object;ILjava/lang/Class;)[Ljava/lang/Object;" } : Jvm.MethodName) prog_45_method_120_code (4 : Nat) (Option.some (Jvm.ClassFile.FieldType.array (Jvm.ClassFile.FieldType.object "java/lang/Object")))) ∈ lw_all := lw_g (lw_at lw_m4 84 rfl) rfl
theorem q853 : (Jvm.Cond.classLink "java/util/Arrays" (110 : Nat) "[Ljava/lang/Object;") ∈ lw_all := lw_g (lw_at lw_m4 85 rfl) rfl
theorem q855 : (Jvm.Cond.classLink "java/util/Arrays" (2 : Nat) "java/lang/Object") ∈ lw_all := lw_g (lw_at lw_m4 87 rfl) rfl
theorem q856 : (Jvm.Cond.methodLink "java/util/Arrays" (304 : Nat) ({ cls := "java/lang/Math", name := "min", desc := "(II)I" } : Jvm.MethodName)) ∈ lw_all := lw_g (lw_at lw_m4 88 rfl) rfl
theorem q857 : (Jvm.Cond.methodLink "java/util/Arrays" (150 : Nat) ({ cls := "java/lang/System", name := "arraycopy", desc := "(Ljava/lang/Object;ILjava/lang/Object;II)V" } : Jvm.MethodName)) ∈ lw_all := lw_g (lw_at lw_m4 89 rfl) rfl
theorem q1090 : (Jvm.Cond.static ({ cls := "java/util/Arrays", name := "copyOf", desc := "([BI)[B" } : Jvm.MethodName)) ∈ lw_all := lw_g (lw_at lw_m5 82 rfl) rfl
theorem q1091 : (Jvm.Cond.code ({ cls := "java/util/Arrays", name := "copyOf", desc := "([BI)[B" } : Jvm.MethodName) prog_45_method_121_code (3 : Nat) (Option.some (Jvm.ClassFile.FieldType.array Jvm.ClassFile.FieldType.byte))) ∈ lw_all := lw_g (lw_at lw_m5 83 rfl) rfl
theorem q1092 : (Jvm.Cond.methodLink "java/util/Arrays" (310 : Nat) ({ cls := "[B", name := "clone", desc := "()Ljava/lang/Object;" } : Jvm.MethodName)) ∈ lw_all := lw_g (lw_at lw_m5 84 rfl) rfl
theorem q1096 : (Jvm.Cond.classLink "java/util/Arrays" (311 : Nat) "[B") ∈ lw_all := lw_g (lw_at lw_m5 88 rfl) rfl
theorem q1175 : (Jvm.Cond.static ({ cls := "java/util/Arrays", name := "copyOfRange", desc := "([BII)[B" } : Jvm.MethodName)) ∈ lw_all := lw_g (lw_at lw_m5 167 rfl) rfl
theorem q1176 : (Jvm.Cond.code ({ cls := "java/util/Arrays", name := "copyOfRange", desc := "([BII)[B" } : Jvm.MethodName) prog_45_method_132_code (3 : Nat) (Option.some (Jvm.ClassFile.FieldType.array Jvm.ClassFile.FieldType.byte))) ∈ lw_all := lw_g (lw_at lw_m5 168 rfl) rfl
theorem q1177 : (Jvm.Cond.methodLink "java/util/Arrays" (339 : Nat) ({ cls := "java/util/Arrays", name := "copyOfRangeByte", desc := "([BII)[B" } : Jvm.MethodName)) ∈ lw_all := lw_g (lw_at lw_m5 169 rfl) rfl
theorem q1178 : (Jvm.Cond.static ({ cls := "java/util/Arrays", name := "copyOfRangeByte", desc := "([BII)[B" } : Jvm.MethodName)) ∈ lw_all := lw_g (lw_at lw_m5 170 rfl) rfl
theorem q1179 : (Jvm.Cond.code ({ cls := "java/util/Arrays", name := "copyOfRangeByte", desc := "([BII)[B" } : Jvm.MethodName) prog_45_method_133_code (5 : Nat) (Option.some (Jvm.ClassFile.FieldType.array Jvm.ClassFile.FieldType.byte))) ∈ lw_all := lw_g (lw_at lw_m5 171 rfl) rfl
theorem q1180 : (Jvm.Cond.methodLink "java/util/Arrays" (343 : Nat) ({ cls := "java/util/Arrays", name := "checkLength", desc := "(II)V" } : Jvm.MethodName)) ∈ lw_all := lw_g (lw_at lw_m5 172 rfl) rfl
theorem q1181 : (Jvm.Cond.static ({ cls := "java/util/Arrays", name := "checkLength", desc := "(II)V" } : Jvm.MethodName)) ∈ lw_all := lw_g (lw_at lw_m5 173 rfl) rfl
theorem q1182 : (Jvm.Cond.code ({ cls := "java/util/Arrays", name := "checkLength", desc := "(II)V" } : Jvm.MethodName) prog_45_method_131_code (2 : Nat) (Option.none : Option Jvm.ClassFile.FieldType)) ∈ lw_all := lw_g (lw_at lw_m5 174 rfl) rfl
theorem q1183 : (Jvm.Cond.classLink "java/util/Arrays" (43 : Nat) "java/lang/IllegalArgumentException") ∈ lw_all := lw_g (lw_at lw_m5 175 rfl) rfl
theorem q1184 : (Jvm.Cond.classLink "java/util/Arrays" (45 : Nat) "java/lang/StringBuilder") ∈ lw_all := lw_g (lw_at lw_m5 176 rfl) rfl
theorem q1185 : (Jvm.Cond.methodLink "java/util/Arrays" (47 : Nat) ({ cls := "java/lang/StringBuilder", name := "<init>", desc := "()V" } : Jvm.MethodName)) ∈ lw_all := lw_g (lw_at lw_m5 177 rfl) rfl
theorem q1186 : (Jvm.Cond.methodLink "java/util/Arrays" (54 : Nat) ({ cls := "java/lang/StringBuilder", name := "append", desc := "(I)Ljava/lang/StringBuilder;" } : Jvm.MethodName)) ∈ lw_all := lw_g (lw_at lw_m5 178 rfl) rfl
theorem q1220 : (Jvm.Cond.stringRef "java/util/Arrays" (337 : Nat) " > ") ∈ lw_tbl := lw_at lw_m5 212 rfl
theorem q1221 : (Jvm.Cond.methodLink "java/util/Arrays" (50 : Nat) ({ cls := "java/lang/StringBuilder", name := "append", desc := "(Ljava/lang/String;)Ljava/lang/StringBuilder;" } : Jvm.MethodName)) ∈ lw_all := lw_g (lw_at lw_m5 213 rfl) rfl
theorem q1259 : (Jvm.Cond.methodLink "java/util/Arrays" (61 : Nat) ({ cls := "java/lang/StringBuilder", name := "toString", desc := "()Ljava/lang/String;" } : Jvm.MethodName)) ∈ lw_all := lw_g (lw_at lw_m6 11 rfl) rfl
theorem q1260 : (Jvm.Cond.methodLink "java/util/Arrays" (65 : Nat) ({ cls := "java/lang/IllegalArgumentException", name := "<init>", desc := "(Ljava/lang/String;)V" } : Jvm.MethodName)) ∈ lw_all := lw_g (lw_at lw_m6 12 rfl) rfl
/-! jdk/internal/util/Preconditions -/
set_option maxRecDepth 100000
def RJ17 : String := "jdk/internal/util/Preconditions"
abbrev cJ17_checkIndex : ByteArray := prog_54_method_11_code
def yJ17_checkIndex : MethodName := ⟨RJ17, "checkIndex", "(IILjava/util/function/BiFunction;)I"⟩
def dkwJ17_checkIndex_0 : List UInt8 := [26, 155, 0, 8, 26, 27, 161, 0, 10, 44, 26, 27, 184, 0, 95, 191, 26, 172]
abbrev dktJ17_checkIndex_0 : List UInt8 := dkwJ17_checkIndex_0 ++ []
theorem dksJ17_checkIndex_0 : cJ17_checkIndex.data.toList.drop 0 = dktJ17_checkIndex_0 := by decide +kernel
theorem dJ17_checkIndex_0 : decode cJ17_checkIndex 0 = .ok (.iload_n 0, 1) := dk_26 (dk_at dksJ17_checkIndex_0 0 rfl rfl)
theorem dJ17_checkIndex_1 : decode cJ17_checkIndex 1 = .ok (.ifCond .lt 8, 3) := dk_155 0 8 (dk_at dksJ17_checkIndex_0 1 rfl rfl)
theorem dJ17_checkIndex_4 : decode cJ17_checkIndex 4 = .ok (.iload_n 0, 1) := dk_26 (dk_at dksJ17_checkIndex_0 4 rfl rfl)
theorem dJ17_checkIndex_5 : decode cJ17_checkIndex 5 = .ok (.iload_n 1, 1) := dk_27 (dk_at dksJ17_checkIndex_0 5 rfl rfl)
theorem dJ17_checkIndex_6 : decode cJ17_checkIndex 6 = .ok (.if_icmp .lt 10, 3) := dk_161 0 10 (dk_at dksJ17_checkIndex_0 6 rfl rfl)
theorem dJ17_checkIndex_9 : decode cJ17_checkIndex 9 = .ok (.aload_n 2, 1) := dk_44 (dk_at dksJ17_checkIndex_0 9 rfl rfl)
theorem dJ17_checkIndex_10 : decode cJ17_checkIndex 10 = .ok (.iload_n 0, 1) := dk_26 (dk_at dksJ17_checkIndex_0 10 rfl rfl)
theorem dJ17_checkIndex_11 : decode cJ17_checkIndex 11 = .ok (.iload_n 1, 1) := dk_27 (dk_at dksJ17_checkIndex_0 11 rfl rfl)
theorem dJ17_checkIndex_12 : decode cJ17_checkIndex 12 = .ok (.invokestatic 95, 3) := dk_184 0 95 (dk_at dksJ17_checkIndex_0 12 rfl rfl)
theorem dJ17_checkIndex_15 : decode cJ17_checkIndex 15 = .ok (.athrow, 1) := dk_191 (dk_at dksJ17_checkIndex_0 15 rfl rfl)
theorem dJ17_checkIndex_16 : decode cJ17_checkIndex 16 = .ok (.iload_n 0, 1) := dk_26 (dk_at dksJ17_checkIndex_0 16 rfl rfl)
theorem dJ17_checkIndex_17 : decode cJ17_checkIndex 17 = .ok (.ireturn, 1) := dk_172 (dk_at dksJ17_checkIndex_0 17 rfl rfl)
abbrev cJ17_checkFromIndexSize : ByteArray := prog_54_method_13_code
def yJ17_checkFromIndexSize : MethodName := ⟨RJ17, "checkFromIndexSize", "(IIILjava/util/function/BiFunction;)I"⟩
def dkwJ17_checkFromIndexSize_1 : List UInt8 := [172]
abbrev dktJ17_checkFromIndexSize_1 : List UInt8 := dkwJ17_checkFromIndexSize_1 ++ []
def dkwJ17_checkFromIndexSize_0 : List UInt8 := [28, 26, 128, 27, 128, 155, 0, 10, 27, 28, 26, 100, 164, 0, 11, 45, 26, 27, 28, 184, 0, 103, 191, 26]
abbrev dktJ17_checkFromIndexSize_0 : List UInt8 := dkwJ17_checkFromIndexSize_0 ++ dktJ17_checkFromIndexSize_1
theorem dksJ17_checkFromIndexSize_0 : cJ17_checkFromIndexSize.data.toList.drop 0 = dktJ17_checkFromIndexSize_0 := by decide +kernel
theorem dksJ17_checkFromIndexSize_1 : cJ17_checkFromIndexSize.data.toList.drop 24 = dktJ17_checkFromIndexSize_1 := dk_seg dksJ17_checkFromIndexSize_0 24 rfl rfl
theorem dJ17_checkFromIndexSize_0 : decode cJ17_checkFromIndexSize 0 = .ok (.iload_n 2, 1) := dk_28 (dk_at dksJ17_checkFromIndexSize_0 0 rfl rfl)
theorem dJ17_checkFromIndexSize_1 : decode cJ17_checkFromIndexSize 1 = .ok (.iload_n 0, 1) := dk_26 (dk_at dksJ17_checkFromIndexSize_0 1 rfl rfl)
theorem dJ17_checkFromIndexSize_2 : decode cJ17_checkFromIndexSize 2 = .ok (.ior, 1) := dk_128 (dk_at dksJ17_checkFromIndexSize_0 2 rfl rfl)
theorem dJ17_checkFromIndexSize_3 : decode cJ17_checkFromIndexSize 3 = .ok (.iload_n 1, 1) := dk_27 (dk_at dksJ17_checkFromIndexSize_0 3 rfl rfl)
theorem dJ17_checkFromIndexSize_4 : decode cJ17_checkFromIndexSize 4 = .ok (.ior, 1) := dk_128 (dk_at dksJ17_checkFromIndexSize_0 4 rfl rfl)
theorem dJ17_checkFromIndexSize_5 : decode cJ17_checkFromIndexSize 5 = .ok (.ifCond .lt 10, 3) := dk_155 0 10 (dk_at dksJ17_checkFromIndexSize_0 5 rfl rfl)
theorem dJ17_checkFromIndexSize_8 : decode cJ17_checkFromIndexSize 8 = .ok (.iload_n 1, 1) := dk_27 (dk_at dksJ17_checkFromIndexSize_0 8 rfl rfl)
theorem dJ17_checkFromIndexSize_9 : decode cJ17_checkFromIndexSize 9 = .ok (.iload_n 2, 1) := dk_28 (dk_at dksJ17_checkFromIndexSize_0 9 rfl rfl)
theorem dJ17_checkFromIndexSize_10 : decode cJ17_checkFromIndexSize 10 = .ok (.iload_n 0, 1) := dk_26 (dk_at dksJ17_checkFromIndexSize_0 10 rfl rfl)
theorem dJ17_checkFromIndexSize_11 : decode cJ17_checkFromIndexSize 11 = .ok (.isub, 1) := dk_100 (dk_at dksJ17_checkFromIndexSize_0 11 rfl rfl)
theorem dJ17_checkFromIndexSize_12 : decode cJ17_checkFromIndexSize 12 = .ok (.if_icmp .le 11, 3) := dk_164 0 11 (dk_at dksJ17_checkFromIndexSize_0 12 rfl rfl)
theorem dJ17_checkFromIndexSize_15 : decode cJ17_checkFromIndexSize 15 = .ok (.aload_n 3, 1) := dk_45 (dk_at dksJ17_checkFromIndexSize_0 15 rfl rfl)
theorem dJ17_checkFromIndexSize_16 : decode cJ17_checkFromIndexSize 16 = .ok (.iload_n 0, 1) := dk_26 (dk_at dksJ17_checkFromIndexSize_0 16 rfl rfl)
theorem dJ17_checkFromIndexSize_17 : decode cJ17_checkFromIndexSize 17 = .ok (.iload_n 1, 1) := dk_27 (dk_at dksJ17_checkFromIndexSize_0 17 rfl rfl)
theorem dJ17_checkFromIndexSize_18 : decode cJ17_checkFromIndexSize 18 = .ok (.iload_n 2, 1) := dk_28 (dk_at dksJ17_checkFromIndexSize_0 18 rfl rfl)
theorem dJ17_checkFromIndexSize_19 : decode cJ17_checkFromIndexSize 19 = .ok (.invokestatic 103, 3) := dk_184 0 103 (dk_at dksJ17_checkFromIndexSize_0 19 rfl rfl)
theorem dJ17_checkFromIndexSize_22 : decode cJ17_checkFromIndexSize 22 = .ok (.athrow, 1) := dk_191 (dk_at dksJ17_checkFromIndexSize_0 22 rfl rfl)
theorem dJ17_checkFromIndexSize_23 : decode cJ17_checkFromIndexSize 23 = .ok (.iload_n 0, 1) := dk_26 (dk_at dksJ17_checkFromIndexSize_0 23 rfl rfl)
theorem dJ17_checkFromIndexSize_24 : decode cJ17_checkFromIndexSize 24 = .ok (.ireturn, 1) := dk_172 (dk_at dksJ17_checkFromIndexSize_1 0 rfl rfl)
abbrev cJ17_checkFromToIndex : ByteArray := prog_54_method_12_code
def yJ17_checkFromToIndex : MethodName := ⟨RJ17, "checkFromToIndex", "(IIILjava/util/function/BiFunction;)I"⟩
def dkwJ17_checkFromToIndex_0 : List UInt8 := [26, 155, 0, 13, 26, 27, 163, 0, 8, 27, 28, 164, 0, 11, 45, 26, 27, 28, 184, 0, 99, 191, 26, 172]
abbrev dktJ17_checkFromToIndex_0 : List UInt8 := dkwJ17_checkFromToIndex_0 ++ []
theorem dksJ17_checkFromToIndex_0 : cJ17_checkFromToIndex.data.toList.drop 0 = dktJ17_checkFromToIndex_0 := by decide +kernel
theorem dJ17_checkFromToIndex_0 : decode cJ17_checkFromToIndex 0 = .ok (.iload_n 0, 1) := dk_26 (dk_at dksJ17_checkFromToIndex_0 0 rfl rfl)
theorem dJ17_checkFromToIndex_1 : decode cJ17_checkFromToIndex 1 = .ok (.ifCond .lt 13, 3) := dk_155 0 13 (dk_at dksJ17_checkFromToIndex_0 1 rfl rfl)
theorem dJ17_checkFromToIndex_4 : decode cJ17_checkFromToIndex 4 = .ok (.iload_n 0, 1) := dk_26 (dk_at dksJ17_checkFromToIndex_0 4 rfl rfl)
theorem dJ17_checkFromToIndex_5 : decode cJ17_checkFromToIndex 5 = .ok (.iload_n 1, 1) := dk_27 (dk_at dksJ17_checkFromToIndex_0 5 rfl rfl)
theorem dJ17_checkFromToIndex_6 : decode cJ17_checkFromToIndex 6 = .ok (.if_icmp .gt 8, 3) := dk_163 0 8 (dk_at dksJ17_checkFromToIndex_0 6 rfl rfl)
theorem dJ17_checkFromToIndex_9 : decode cJ17_checkFromToIndex 9 = .ok (.iload_n 1, 1) := dk_27 (dk_at dksJ17_checkFromToIndex_0 9 rfl rfl)
theorem dJ17_checkFromToIndex_10 : decode cJ17_checkFromToIndex 10 = .ok (.iload_n 2, 1) := dk_28 (dk_at dksJ17_checkFromToIndex_0 10 rfl rfl)
theorem dJ17_checkFromToIndex_11 : decode cJ17_checkFromToIndex 11 = .ok (.if_icmp .le 11, 3) := dk_164 0 11 (dk_at dksJ17_checkFromToIndex_0 11 rfl rfl)
theorem dJ17_checkFromToIndex_14 : decode cJ17_checkFromToIndex 14 = .ok (.aload_n 3, 1) := dk_45 (dk_at dksJ17_checkFromToIndex_0 14 rfl rfl)
theorem dJ17_checkFromToIndex_15 : decode cJ17_checkFromToIndex 15 = .ok (.iload_n 0, 1) := dk_26 (dk_at dksJ17_checkFromToIndex_0 15 rfl rfl)
theorem dJ17_checkFromToIndex_16 : decode cJ17_checkFromToIndex 16 = .ok (.iload_n 1, 1) := dk_27 (dk_at dksJ17_checkFromToIndex_0 16 rfl rfl)
theorem dJ17_checkFromToIndex_17 : decode cJ17_checkFromToIndex 17 = .ok (.iload_n 2, 1) := dk_28 (dk_at dksJ17_checkFromToIndex_0 17 rfl rfl)
theorem dJ17_checkFromToIndex_18 : decode cJ17_checkFromToIndex 18 = .ok (.invokestatic 99, 3) := dk_184 0 99 (dk_at dksJ17_checkFromToIndex_0 18 rfl rfl)
theorem dJ17_checkFromToIndex_21 : decode cJ17_checkFromToIndex 21 = .ok (.athrow, 1) := dk_191 (dk_at dksJ17_checkFromToIndex_0 21 rfl rfl)
theorem dJ17_checkFromToIndex_22 : decode cJ17_checkFromToIndex 22 = .ok (.iload_n 0, 1) := dk_26 (dk_at dksJ17_checkFromToIndex_0 22 rfl rfl)
theorem dJ17_checkFromToIndex_23 : decode cJ17_checkFromToIndex 23 = .ok (.ireturn, 1) := dk_172 (dk_at dksJ17_checkFromToIndex_0 23 rfl rfl)
theorem q78 : (Jvm.Cond.initialized "jdk/internal/util/Preconditions") ∈ lw_all := lw_g (lw_at lw_m1 30 rfl) rfl
theorem q881 : (Jvm.Cond.static ({ cls := "jdk/internal/util/Preconditions", name := "checkIndex", desc := "(IILjava/util/function/BiFunction;)I" } : Jvm.MethodName)) ∈ lw_all := lw_g (lw_at lw_m4 113 rfl) rfl
theorem q882 : (Jvm.Cond.code ({ cls := "jdk/internal/util/Preconditions", name := "checkIndex", desc := "(IILjava/util/function/BiFunction;)I" } : Jvm.MethodName) prog_54_method_11_code (3 : Nat) (Option.some Jvm.ClassFile.FieldType.int)) ∈ lw_all := lw_g (lw_at lw_m4 114 rfl) rfl
theorem q1125 : (Jvm.Cond.laysStatic "jdk/internal/util/Preconditions" "SIOOBE_FORMATTER" "Ljava/util/function/BiFunction;") ∈ lw_tbl := lw_at lw_m5 117 rfl
theorem q1127 : (Jvm.Cond.static ({ cls := "jdk/internal/util/Preconditions", name := "checkFromIndexSize", desc := "(IIILjava/util/function/BiFunction;)I" } : Jvm.MethodName)) ∈ lw_all := lw_g (lw_at lw_m5 119 rfl) rfl
theorem q1128 : (Jvm.Cond.code ({ cls := "jdk/internal/util/Preconditions", name := "checkFromIndexSize", desc := "(IIILjava/util/function/BiFunction;)I" } : Jvm.MethodName) prog_54_method_13_code (4 : Nat) (Option.some Jvm.ClassFile.FieldType.int)) ∈ lw_all := lw_g (lw_at lw_m5 120 rfl) rfl
theorem q1213 : (Jvm.Cond.static ({ cls := "jdk/internal/util/Preconditions", name := "checkFromToIndex", desc := "(IIILjava/util/function/BiFunction;)I" } : Jvm.MethodName)) ∈ lw_all := lw_g (lw_at lw_m5 205 rfl) rfl
theorem q1214 : (Jvm.Cond.code ({ cls := "jdk/internal/util/Preconditions", name := "checkFromToIndex", desc := "(IIILjava/util/function/BiFunction;)I" } : Jvm.MethodName) prog_54_method_12_code (4 : Nat) (Option.some Jvm.ClassFile.FieldType.int)) ∈ lw_all := lw_g (lw_at lw_m5 206 rfl) rfl
/-! java/util/ArrayList$Itr -/
set_option maxRecDepth 100000
def RJ18 : String := "java/util/ArrayList$Itr"
def TJ18 : u_T := fun k => match k with
  | 0 => ("java/util/ArrayList$Itr", "cursor", "I", false)
  | 1 => ("java/util/ArrayList$Itr", "lastRet", "I", false)
  | 2 => ("java/util/ArrayList$Itr", "expectedModCount", "I", false)
  | _ => ("java/util/ArrayList$Itr", "this$0", "Ljava/util/ArrayList;", true)
def tyJ18 : Nat → FieldType := fun k => match k with
  | 0 => .int
  | 1 => .int
  | 2 => .int
  | _ => .object "java/util/ArrayList"
abbrev wsJ180 : List Cond := u_ws RJ18 TJ18 4
theorem nmJ18 : ∀ a, a < 4 → ∀ b, b < 4 → a ≠ b → (TJ18 a).2.1 ≠ (TJ18 b).2.1 := by decide +kernel
theorem tyJ18_ok : ∀ k, k < 4 → parseFieldDescriptor (TJ18 k).2.2.1 = some (tyJ18 k) := by decide +kernel
abbrev cJ18_init : ByteArray := prog_44_method_1_code
def yJ18_init : MethodName := ⟨RJ18, "<init>", "(Ljava/util/ArrayList;)V"⟩
def dkwJ18_init_1 : List UInt8 := [181, 0, 22, 177]
abbrev dktJ18_init_1 : List UInt8 := dkwJ18_init_1 ++ []
def dkwJ18_init_0 : List UInt8 := [42, 43, 181, 0, 1, 42, 183, 0, 7, 42, 2, 181, 0, 13, 42, 42, 180, 0, 1, 180, 0, 17]
abbrev dktJ18_init_0 : List UInt8 := dkwJ18_init_0 ++ dktJ18_init_1
theorem dksJ18_init_0 : cJ18_init.data.toList.drop 0 = dktJ18_init_0 := by decide +kernel
theorem dksJ18_init_1 : cJ18_init.data.toList.drop 22 = dktJ18_init_1 := dk_seg dksJ18_init_0 22 rfl rfl
theorem dJ18_init_0 : decode cJ18_init 0 = .ok (.aload_n 0, 1) := dk_42 (dk_at dksJ18_init_0 0 rfl rfl)
theorem dJ18_init_1 : decode cJ18_init 1 = .ok (.aload_n 1, 1) := dk_43 (dk_at dksJ18_init_0 1 rfl rfl)
theorem dJ18_init_2 : decode cJ18_init 2 = .ok (.putfield 1, 3) := dk_181 0 1 (dk_at dksJ18_init_0 2 rfl rfl)
theorem dJ18_init_5 : decode cJ18_init 5 = .ok (.aload_n 0, 1) := dk_42 (dk_at dksJ18_init_0 5 rfl rfl)
theorem dJ18_init_6 : decode cJ18_init 6 = .ok (.invokespecial 7, 3) := dk_183 0 7 (dk_at dksJ18_init_0 6 rfl rfl)
theorem dJ18_init_9 : decode cJ18_init 9 = .ok (.aload_n 0, 1) := dk_42 (dk_at dksJ18_init_0 9 rfl rfl)
theorem dJ18_init_10 : decode cJ18_init 10 = .ok (.iconst (-1), 1) := dk_2 (dk_at dksJ18_init_0 10 rfl rfl)
theorem dJ18_init_11 : decode cJ18_init 11 = .ok (.putfield 13, 3) := dk_181 0 13 (dk_at dksJ18_init_0 11 rfl rfl)
theorem dJ18_init_14 : decode cJ18_init 14 = .ok (.aload_n 0, 1) := dk_42 (dk_at dksJ18_init_0 14 rfl rfl)
theorem dJ18_init_15 : decode cJ18_init 15 = .ok (.aload_n 0, 1) := dk_42 (dk_at dksJ18_init_0 15 rfl rfl)
theorem dJ18_init_16 : decode cJ18_init 16 = .ok (.getfield 1, 3) := dk_180 0 1 (dk_at dksJ18_init_0 16 rfl rfl)
theorem dJ18_init_19 : decode cJ18_init 19 = .ok (.getfield 17, 3) := dk_180 0 17 (dk_at dksJ18_init_0 19 rfl rfl)
theorem dJ18_init_22 : decode cJ18_init 22 = .ok (.putfield 22, 3) := dk_181 0 22 (dk_at dksJ18_init_1 0 rfl rfl)
theorem dJ18_init_25 : decode cJ18_init 25 = .ok (.return_, 1) := dk_177 (dk_at dksJ18_init_1 3 rfl rfl)
abbrev cJ18_hasNext : ByteArray := prog_44_method_2_code
def yJ18_hasNext : MethodName := ⟨RJ18, "hasNext", "()Z"⟩
def dkwJ18_hasNext_0 : List UInt8 := [42, 180, 0, 25, 42, 180, 0, 1, 180, 0, 28, 159, 0, 7, 4, 167, 0, 4, 3, 172]
abbrev dktJ18_hasNext_0 : List UInt8 := dkwJ18_hasNext_0 ++ []
theorem dksJ18_hasNext_0 : cJ18_hasNext.data.toList.drop 0 = dktJ18_hasNext_0 := by decide +kernel
theorem dJ18_hasNext_0 : decode cJ18_hasNext 0 = .ok (.aload_n 0, 1) := dk_42 (dk_at dksJ18_hasNext_0 0 rfl rfl)
theorem dJ18_hasNext_1 : decode cJ18_hasNext 1 = .ok (.getfield 25, 3) := dk_180 0 25 (dk_at dksJ18_hasNext_0 1 rfl rfl)
theorem dJ18_hasNext_4 : decode cJ18_hasNext 4 = .ok (.aload_n 0, 1) := dk_42 (dk_at dksJ18_hasNext_0 4 rfl rfl)
theorem dJ18_hasNext_5 : decode cJ18_hasNext 5 = .ok (.getfield 1, 3) := dk_180 0 1 (dk_at dksJ18_hasNext_0 5 rfl rfl)
theorem dJ18_hasNext_8 : decode cJ18_hasNext 8 = .ok (.getfield 28, 3) := dk_180 0 28 (dk_at dksJ18_hasNext_0 8 rfl rfl)
theorem dJ18_hasNext_11 : decode cJ18_hasNext 11 = .ok (.if_icmp .eq 7, 3) := dk_159 0 7 (dk_at dksJ18_hasNext_0 11 rfl rfl)
theorem dJ18_hasNext_14 : decode cJ18_hasNext 14 = .ok (.iconst 1, 1) := dk_4 (dk_at dksJ18_hasNext_0 14 rfl rfl)
theorem dJ18_hasNext_15 : decode cJ18_hasNext 15 = .ok (.goto 4, 3) := dk_167 0 4 (dk_at dksJ18_hasNext_0 15 rfl rfl)
theorem dJ18_hasNext_18 : decode cJ18_hasNext 18 = .ok (.iconst 0, 1) := dk_3 (dk_at dksJ18_hasNext_0 18 rfl rfl)
theorem dJ18_hasNext_19 : decode cJ18_hasNext 19 = .ok (.ireturn, 1) := dk_172 (dk_at dksJ18_hasNext_0 19 rfl rfl)
abbrev cJ18_next : ByteArray := prog_44_method_3_code
def yJ18_next : MethodName := ⟨RJ18, "next", "()Ljava/lang/Object;"⟩
def dkwJ18_next_2 : List UInt8 := [183, 0, 43, 191, 42, 27, 4, 96, 181, 0, 25, 44, 42, 27, 90, 181, 0, 13, 50, 176]
abbrev dktJ18_next_2 : List UInt8 := dkwJ18_next_2 ++ []
def dkwJ18_next_1 : List UInt8 := [183, 0, 36, 191, 42, 180, 0, 1, 180, 0, 37, 77, 27, 44, 190, 161, 0, 11, 187, 0, 41, 89]
abbrev dktJ18_next_1 : List UInt8 := dkwJ18_next_1 ++ dktJ18_next_2
def dkwJ18_next_0 : List UInt8 := [42, 182, 0, 31, 42, 180, 0, 25, 60, 27, 42, 180, 0, 1, 180, 0, 28, 161, 0, 11, 187, 0, 34, 89]
abbrev dktJ18_next_0 : List UInt8 := dkwJ18_next_0 ++ dktJ18_next_1
theorem dksJ18_next_0 : cJ18_next.data.toList.drop 0 = dktJ18_next_0 := by decide +kernel
theorem dksJ18_next_1 : cJ18_next.data.toList.drop 24 = dktJ18_next_1 := dk_seg dksJ18_next_0 24 rfl rfl
theorem dksJ18_next_2 : cJ18_next.data.toList.drop 46 = dktJ18_next_2 := dk_seg dksJ18_next_1 22 rfl rfl
theorem dJ18_next_0 : decode cJ18_next 0 = .ok (.aload_n 0, 1) := dk_42 (dk_at dksJ18_next_0 0 rfl rfl)
theorem dJ18_next_1 : decode cJ18_next 1 = .ok (.invokevirtual 31, 3) := dk_182 0 31 (dk_at dksJ18_next_0 1 rfl rfl)
theorem dJ18_next_4 : decode cJ18_next 4 = .ok (.aload_n 0, 1) := dk_42 (dk_at dksJ18_next_0 4 rfl rfl)
theorem dJ18_next_5 : decode cJ18_next 5 = .ok (.getfield 25, 3) := dk_180 0 25 (dk_at dksJ18_next_0 5 rfl rfl)
theorem dJ18_next_8 : decode cJ18_next 8 = .ok (.istore_n 1, 1) := dk_60 (dk_at dksJ18_next_0 8 rfl rfl)
theorem dJ18_next_9 : decode cJ18_next 9 = .ok (.iload_n 1, 1) := dk_27 (dk_at dksJ18_next_0 9 rfl rfl)
theorem dJ18_next_10 : decode cJ18_next 10 = .ok (.aload_n 0, 1) := dk_42 (dk_at dksJ18_next_0 10 rfl rfl)
theorem dJ18_next_11 : decode cJ18_next 11 = .ok (.getfield 1, 3) := dk_180 0 1 (dk_at dksJ18_next_0 11 rfl rfl)
theorem dJ18_next_14 : decode cJ18_next 14 = .ok (.getfield 28, 3) := dk_180 0 28 (dk_at dksJ18_next_0 14 rfl rfl)
theorem dJ18_next_17 : decode cJ18_next 17 = .ok (.if_icmp .lt 11, 3) := dk_161 0 11 (dk_at dksJ18_next_0 17 rfl rfl)
theorem dJ18_next_20 : decode cJ18_next 20 = .ok (.new 34, 3) := dk_187 0 34 (dk_at dksJ18_next_0 20 rfl rfl)
theorem dJ18_next_23 : decode cJ18_next 23 = .ok (.dup, 1) := dk_89 (dk_at dksJ18_next_0 23 rfl rfl)
theorem dJ18_next_24 : decode cJ18_next 24 = .ok (.invokespecial 36, 3) := dk_183 0 36 (dk_at dksJ18_next_1 0 rfl rfl)
theorem dJ18_next_27 : decode cJ18_next 27 = .ok (.athrow, 1) := dk_191 (dk_at dksJ18_next_1 3 rfl rfl)
theorem dJ18_next_28 : decode cJ18_next 28 = .ok (.aload_n 0, 1) := dk_42 (dk_at dksJ18_next_1 4 rfl rfl)
theorem dJ18_next_29 : decode cJ18_next 29 = .ok (.getfield 1, 3) := dk_180 0 1 (dk_at dksJ18_next_1 5 rfl rfl)
theorem dJ18_next_32 : decode cJ18_next 32 = .ok (.getfield 37, 3) := dk_180 0 37 (dk_at dksJ18_next_1 8 rfl rfl)
theorem dJ18_next_35 : decode cJ18_next 35 = .ok (.astore_n 2, 1) := dk_77 (dk_at dksJ18_next_1 11 rfl rfl)
theorem dJ18_next_36 : decode cJ18_next 36 = .ok (.iload_n 1, 1) := dk_27 (dk_at dksJ18_next_1 12 rfl rfl)
theorem dJ18_next_37 : decode cJ18_next 37 = .ok (.aload_n 2, 1) := dk_44 (dk_at dksJ18_next_1 13 rfl rfl)
theorem dJ18_next_38 : decode cJ18_next 38 = .ok (.arraylength, 1) := dk_190 (dk_at dksJ18_next_1 14 rfl rfl)
theorem dJ18_next_39 : decode cJ18_next 39 = .ok (.if_icmp .lt 11, 3) := dk_161 0 11 (dk_at dksJ18_next_1 15 rfl rfl)
theorem dJ18_next_42 : decode cJ18_next 42 = .ok (.new 41, 3) := dk_187 0 41 (dk_at dksJ18_next_1 18 rfl rfl)
theorem dJ18_next_45 : decode cJ18_next 45 = .ok (.dup, 1) := dk_89 (dk_at dksJ18_next_1 21 rfl rfl)
theorem dJ18_next_46 : decode cJ18_next 46 = .ok (.invokespecial 43, 3) := dk_183 0 43 (dk_at dksJ18_next_2 0 rfl rfl)
theorem dJ18_next_49 : decode cJ18_next 49 = .ok (.athrow, 1) := dk_191 (dk_at dksJ18_next_2 3 rfl rfl)
theorem dJ18_next_50 : decode cJ18_next 50 = .ok (.aload_n 0, 1) := dk_42 (dk_at dksJ18_next_2 4 rfl rfl)
theorem dJ18_next_51 : decode cJ18_next 51 = .ok (.iload_n 1, 1) := dk_27 (dk_at dksJ18_next_2 5 rfl rfl)
theorem dJ18_next_52 : decode cJ18_next 52 = .ok (.iconst 1, 1) := dk_4 (dk_at dksJ18_next_2 6 rfl rfl)
theorem dJ18_next_53 : decode cJ18_next 53 = .ok (.iadd, 1) := dk_96 (dk_at dksJ18_next_2 7 rfl rfl)
theorem dJ18_next_54 : decode cJ18_next 54 = .ok (.putfield 25, 3) := dk_181 0 25 (dk_at dksJ18_next_2 8 rfl rfl)
theorem dJ18_next_57 : decode cJ18_next 57 = .ok (.aload_n 2, 1) := dk_44 (dk_at dksJ18_next_2 11 rfl rfl)
theorem dJ18_next_58 : decode cJ18_next 58 = .ok (.aload_n 0, 1) := dk_42 (dk_at dksJ18_next_2 12 rfl rfl)
theorem dJ18_next_59 : decode cJ18_next 59 = .ok (.iload_n 1, 1) := dk_27 (dk_at dksJ18_next_2 13 rfl rfl)
theorem dJ18_next_60 : decode cJ18_next 60 = .ok (.dup_x1, 1) := dk_90 (dk_at dksJ18_next_2 14 rfl rfl)
theorem dJ18_next_61 : decode cJ18_next 61 = .ok (.putfield 13, 3) := dk_181 0 13 (dk_at dksJ18_next_2 15 rfl rfl)
theorem dJ18_next_64 : decode cJ18_next 64 = .ok (.aaload, 1) := dk_50 (dk_at dksJ18_next_2 18 rfl rfl)
theorem dJ18_next_65 : decode cJ18_next 65 = .ok (.areturn, 1) := dk_176 (dk_at dksJ18_next_2 19 rfl rfl)
abbrev cJ18_checkForComodification : ByteArray := prog_44_method_6_code
def yJ18_checkForComodification : MethodName := ⟨RJ18, "checkForComodification", "()V"⟩
def dkwJ18_checkForComodification_0 : List UInt8 := [42, 180, 0, 1, 180, 0, 17, 42, 180, 0, 22, 159, 0, 11, 187, 0, 41, 89, 183, 0, 43, 191, 177]
abbrev dktJ18_checkForComodification_0 : List UInt8 := dkwJ18_checkForComodification_0 ++ []
theorem dksJ18_checkForComodification_0 : cJ18_checkForComodification.data.toList.drop 0 = dktJ18_checkForComodification_0 := by decide +kernel
theorem dJ18_checkForComodification_0 : decode cJ18_checkForComodification 0 = .ok (.aload_n 0, 1) := dk_42 (dk_at dksJ18_checkForComodification_0 0 rfl rfl)
theorem dJ18_checkForComodification_1 : decode cJ18_checkForComodification 1 = .ok (.getfield 1, 3) := dk_180 0 1 (dk_at dksJ18_checkForComodification_0 1 rfl rfl)
theorem dJ18_checkForComodification_4 : decode cJ18_checkForComodification 4 = .ok (.getfield 17, 3) := dk_180 0 17 (dk_at dksJ18_checkForComodification_0 4 rfl rfl)
theorem dJ18_checkForComodification_7 : decode cJ18_checkForComodification 7 = .ok (.aload_n 0, 1) := dk_42 (dk_at dksJ18_checkForComodification_0 7 rfl rfl)
theorem dJ18_checkForComodification_8 : decode cJ18_checkForComodification 8 = .ok (.getfield 22, 3) := dk_180 0 22 (dk_at dksJ18_checkForComodification_0 8 rfl rfl)
theorem dJ18_checkForComodification_11 : decode cJ18_checkForComodification 11 = .ok (.if_icmp .eq 11, 3) := dk_159 0 11 (dk_at dksJ18_checkForComodification_0 11 rfl rfl)
theorem dJ18_checkForComodification_14 : decode cJ18_checkForComodification 14 = .ok (.new 41, 3) := dk_187 0 41 (dk_at dksJ18_checkForComodification_0 14 rfl rfl)
theorem dJ18_checkForComodification_17 : decode cJ18_checkForComodification 17 = .ok (.dup, 1) := dk_89 (dk_at dksJ18_checkForComodification_0 17 rfl rfl)
theorem dJ18_checkForComodification_18 : decode cJ18_checkForComodification 18 = .ok (.invokespecial 43, 3) := dk_183 0 43 (dk_at dksJ18_checkForComodification_0 18 rfl rfl)
theorem dJ18_checkForComodification_21 : decode cJ18_checkForComodification 21 = .ok (.athrow, 1) := dk_191 (dk_at dksJ18_checkForComodification_0 21 rfl rfl)
theorem dJ18_checkForComodification_22 : decode cJ18_checkForComodification 22 = .ok (.return_, 1) := dk_177 (dk_at dksJ18_checkForComodification_0 22 rfl rfl)
theorem q79 : (Jvm.Cond.initialized "java/util/ArrayList$Itr") ∈ lw_all := lw_g (lw_at lw_m1 31 rfl) rfl
theorem q112 : (Jvm.Cond.fieldLink "java/util/ArrayList$Itr" (37 : Nat) "java/util/ArrayList" "elementData" "[Ljava/lang/Object;") ∈ lw_all := lw_g (lw_at lw_m1 64 rfl) rfl
theorem q113 : (Jvm.Cond.fieldLinkNest "java/util/ArrayList$Itr" (28 : Nat) "java/util/ArrayList" "size" "I" "java/util/ArrayList") ∈ lw_tbl := lw_at lw_m1 65 rfl
theorem q116 : (Jvm.Cond.fieldLink "java/util/ArrayList$Itr" (17 : Nat) "java/util/ArrayList" "modCount" "I") ∈ lw_all := lw_g (lw_at lw_m1 68 rfl) rfl
theorem q218 : (Jvm.Cond.instantiable "java/util/ArrayList$Itr" (4 : Nat)) ∈ lw_all := lw_g (lw_at lw_m1 170 rfl) rfl
theorem q220 : (Jvm.Cond.instanceMethod ({ cls := "java/util/ArrayList$Itr", name := "<init>", desc := "(Ljava/util/ArrayList;)V" } : Jvm.MethodName)) ∈ lw_all := lw_g (lw_at lw_m1 172 rfl) rfl
theorem q221 : (Jvm.Cond.code ({ cls := "java/util/ArrayList$Itr", name := "<init>", desc := "(Ljava/util/ArrayList;)V" } : Jvm.MethodName) prog_44_method_1_code (2 : Nat) (Option.none : Option Jvm.ClassFile.FieldType)) ∈ lw_all := lw_g (lw_at lw_m1 173 rfl) rfl
theorem q222 : (Jvm.Cond.methodLink "java/util/ArrayList$Itr" (7 : Nat) ({ cls := "java/lang/Object", name := "<init>", desc := "()V" } : Jvm.MethodName)) ∈ lw_all := lw_g (lw_at lw_m1 174 rfl) rfl
theorem q223 : (Jvm.Cond.fieldLink "java/util/ArrayList$Itr" (25 : Nat) "java/util/ArrayList$Itr" "cursor" "I") ∈ lw_all := lw_g (lw_at lw_m1 175 rfl) rfl
theorem q224 : (Jvm.Cond.fieldLink "java/util/ArrayList$Itr" (13 : Nat) "java/util/ArrayList$Itr" "lastRet" "I") ∈ lw_all := lw_g (lw_at lw_m1 176 rfl) rfl
theorem q225 : (Jvm.Cond.fieldLink "java/util/ArrayList$Itr" (22 : Nat) "java/util/ArrayList$Itr" "expectedModCount" "I") ∈ lw_all := lw_g (lw_at lw_m1 177 rfl) rfl
theorem q226 : (Jvm.Cond.fieldLink "java/util/ArrayList$Itr" (1 : Nat) "java/util/ArrayList$Itr" "this$0" "Ljava/util/ArrayList;") ∈ lw_all := lw_g (lw_at lw_m1 178 rfl) rfl
theorem q227 : (Jvm.Cond.lays "java/util/ArrayList$Itr" "java/util/ArrayList$Itr" "cursor" "I") ∈ lw_all := lw_g (lw_at lw_m1 179 rfl) rfl
theorem q228 : (Jvm.Cond.soleField "java/util/ArrayList$Itr" "cursor") ∈ lw_all := lw_g (lw_at lw_m1 180 rfl) rfl
theorem q229 : (Jvm.Cond.lays "java/util/ArrayList$Itr" "java/util/ArrayList$Itr" "lastRet" "I") ∈ lw_all := lw_g (lw_at lw_m1 181 rfl) rfl
theorem q230 : (Jvm.Cond.soleField "java/util/ArrayList$Itr" "lastRet") ∈ lw_all := lw_g (lw_at lw_m1 182 rfl) rfl
theorem q231 : (Jvm.Cond.lays "java/util/ArrayList$Itr" "java/util/ArrayList$Itr" "expectedModCount" "I") ∈ lw_all := lw_g (lw_at lw_m1 183 rfl) rfl
theorem q232 : (Jvm.Cond.soleField "java/util/ArrayList$Itr" "expectedModCount") ∈ lw_all := lw_g (lw_at lw_m1 184 rfl) rfl
theorem q233 : (Jvm.Cond.laysFinal "java/util/ArrayList$Itr" "java/util/ArrayList$Itr" "this$0" "Ljava/util/ArrayList;") ∈ lw_all := lw_g (lw_at lw_m1 185 rfl) rfl
theorem q234 : (Jvm.Cond.soleField "java/util/ArrayList$Itr" "this$0") ∈ lw_all := lw_g (lw_at lw_m1 186 rfl) rfl
theorem q235 : (Jvm.Cond.superclass "java/util/ArrayList$Itr" "java/lang/Object") ∈ lw_all := lw_g (lw_at lw_m1 187 rfl) rfl
theorem q240 : (Jvm.Cond.castable "java/util/ArrayList$Itr" "java/util/Iterator") ∈ lw_tbl := lw_at lw_m1 192 rfl
theorem q241 : (Jvm.Cond.selects "java/util/ArrayList$Itr" ({ cls := "java/util/Iterator", name := "hasNext", desc := "()Z" } : Jvm.MethodName) ({ cls := "java/util/ArrayList$Itr", name := "hasNext", desc := "()Z" } : Jvm.MethodName)) ∈ lw_all := lw_g (lw_at lw_m1 193 rfl) rfl
theorem q242 : (Jvm.Cond.unhidden "java/util/ArrayList$Itr" "hasNext" "()Z") ∈ lw_tbl := lw_at lw_m1 194 rfl
theorem q243 : (Jvm.Cond.instanceMethod ({ cls := "java/util/ArrayList$Itr", name := "hasNext", desc := "()Z" } : Jvm.MethodName)) ∈ lw_all := lw_g (lw_at lw_m1 195 rfl) rfl
theorem q244 : (Jvm.Cond.publicMethod ({ cls := "java/util/ArrayList$Itr", name := "hasNext", desc := "()Z" } : Jvm.MethodName)) ∈ lw_tbl := lw_at lw_m1 196 rfl
theorem q245 : (Jvm.Cond.code ({ cls := "java/util/ArrayList$Itr", name := "hasNext", desc := "()Z" } : Jvm.MethodName) prog_44_method_2_code (1 : Nat) (Option.some Jvm.ClassFile.FieldType.boolean)) ∈ lw_all := lw_g (lw_at lw_m1 197 rfl) rfl
theorem q250 : (Jvm.Cond.selects "java/util/ArrayList$Itr" ({ cls := "java/util/Iterator", name := "next", desc := "()Ljava/lang/Object;" } : Jvm.MethodName) ({ cls := "java/util/ArrayList$Itr", name := "next", desc := "()Ljava/lang/Object;" } : Jvm.MethodName)) ∈ lw_all := lw_g (lw_at lw_m1 202 rfl) rfl
theorem q251 : (Jvm.Cond.unhidden "java/util/ArrayList$Itr" "next" "()Ljava/lang/Object;") ∈ lw_tbl := lw_at lw_m1 203 rfl
theorem q252 : (Jvm.Cond.instanceMethod ({ cls := "java/util/ArrayList$Itr", name := "next", desc := "()Ljava/lang/Object;" } : Jvm.MethodName)) ∈ lw_all := lw_g (lw_at lw_m1 204 rfl) rfl
theorem q253 : (Jvm.Cond.publicMethod ({ cls := "java/util/ArrayList$Itr", name := "next", desc := "()Ljava/lang/Object;" } : Jvm.MethodName)) ∈ lw_tbl := lw_at lw_m1 205 rfl
theorem q254 : (Jvm.Cond.code ({ cls := "java/util/ArrayList$Itr", name := "next", desc := "()Ljava/lang/Object;" } : Jvm.MethodName) prog_44_method_3_code (3 : Nat) (Option.some (Jvm.ClassFile.FieldType.object "java/lang/Object"))) ∈ lw_all := lw_g (lw_at lw_m1 206 rfl) rfl
theorem q255 : (Jvm.Cond.methodLink "java/util/ArrayList$Itr" (31 : Nat) ({ cls := "java/util/ArrayList$Itr", name := "checkForComodification", desc := "()V" } : Jvm.MethodName)) ∈ lw_all := lw_g (lw_at lw_m1 207 rfl) rfl
theorem q256 : (Jvm.Cond.instanceMethod ({ cls := "java/util/ArrayList$Itr", name := "checkForComodification", desc := "()V" } : Jvm.MethodName)) ∈ lw_all := lw_g (lw_at lw_m1 208 rfl) rfl
theorem q257 : (Jvm.Cond.selects "java/util/ArrayList$Itr" ({ cls := "java/util/ArrayList$Itr", name := "checkForComodification", desc := "()V" } : Jvm.MethodName) ({ cls := "java/util/ArrayList$Itr", name := "checkForComodification", desc := "()V" } : Jvm.MethodName)) ∈ lw_all := lw_g (lw_at lw_m1 209 rfl) rfl
theorem q258 : (Jvm.Cond.code ({ cls := "java/util/ArrayList$Itr", name := "checkForComodification", desc := "()V" } : Jvm.MethodName) prog_44_method_6_code (1 : Nat) (Option.none : Option Jvm.ClassFile.FieldType)) ∈ lw_all := lw_g (lw_at lw_m1 210 rfl) rfl
theorem q847 : (Jvm.Cond.selects "java/util/ArrayList$Itr" ({ cls := "java/lang/Object", name := "getClass", desc := "()Ljava/lang/Class;" } : Jvm.MethodName) ({ cls := "java/lang/Object", name := "getClass", desc := "()Ljava/lang/Class;" } : Jvm.MethodName)) ∈ lw_all := lw_g (lw_at lw_m4 79 rfl) rfl
theorem q1811 : (Jvm.Cond.castable "java/util/ArrayList$Itr" "java/lang/Object") ∈ lw_tbl := lw_at lw_m8 83 rfl
theorem in_J18 : ∀ w ∈ wsJ180, w ∈ lw_all := lw_in wsJ180 [227, 229, 231, 233] (by decide +kernel) (by decide +kernel)
/-! java/lang/AbstractStringBuilder -/
set_option maxRecDepth 100000
def RJ19 : String := "java/lang/AbstractStringBuilder"
abbrev cJ19_init : ByteArray := prog_16_method_2_code
def yJ19_init : MethodName := ⟨RJ19, "<init>", "(I)V"⟩
def dkwJ19_init_1 : List UInt8 := [167, 0, 16, 42, 27, 184, 0, 26, 181, 0, 15, 42, 4, 181, 0, 22, 177]
abbrev dktJ19_init_1 : List UInt8 := dkwJ19_init_1 ++ []
def dkwJ19_init_0 : List UInt8 := [42, 183, 0, 3, 178, 0, 18, 153, 0, 18, 42, 27, 188, 8, 181, 0, 15, 42, 3, 181, 0, 22]
abbrev dktJ19_init_0 : List UInt8 := dkwJ19_init_0 ++ dktJ19_init_1
theorem dksJ19_init_0 : cJ19_init.data.toList.drop 0 = dktJ19_init_0 := by decide +kernel
theorem dksJ19_init_1 : cJ19_init.data.toList.drop 22 = dktJ19_init_1 := dk_seg dksJ19_init_0 22 rfl rfl
theorem dJ19_init_0 : decode cJ19_init 0 = .ok (.aload_n 0, 1) := dk_42 (dk_at dksJ19_init_0 0 rfl rfl)
theorem dJ19_init_1 : decode cJ19_init 1 = .ok (.invokespecial 3, 3) := dk_183 0 3 (dk_at dksJ19_init_0 1 rfl rfl)
theorem dJ19_init_4 : decode cJ19_init 4 = .ok (.getstatic 18, 3) := dk_178 0 18 (dk_at dksJ19_init_0 4 rfl rfl)
theorem dJ19_init_7 : decode cJ19_init 7 = .ok (.ifCond .eq 18, 3) := dk_153 0 18 (dk_at dksJ19_init_0 7 rfl rfl)
theorem dJ19_init_10 : decode cJ19_init 10 = .ok (.aload_n 0, 1) := dk_42 (dk_at dksJ19_init_0 10 rfl rfl)
theorem dJ19_init_11 : decode cJ19_init 11 = .ok (.iload_n 1, 1) := dk_27 (dk_at dksJ19_init_0 11 rfl rfl)
theorem dJ19_init_12 : decode cJ19_init 12 = .ok (.newarray .byte, 2) := dk_188_8 (dk_at dksJ19_init_0 12 rfl rfl)
theorem dJ19_init_14 : decode cJ19_init 14 = .ok (.putfield 15, 3) := dk_181 0 15 (dk_at dksJ19_init_0 14 rfl rfl)
theorem dJ19_init_17 : decode cJ19_init 17 = .ok (.aload_n 0, 1) := dk_42 (dk_at dksJ19_init_0 17 rfl rfl)
theorem dJ19_init_18 : decode cJ19_init 18 = .ok (.iconst 0, 1) := dk_3 (dk_at dksJ19_init_0 18 rfl rfl)
theorem dJ19_init_19 : decode cJ19_init 19 = .ok (.putfield 22, 3) := dk_181 0 22 (dk_at dksJ19_init_0 19 rfl rfl)
theorem dJ19_init_22 : decode cJ19_init 22 = .ok (.goto 16, 3) := dk_167 0 16 (dk_at dksJ19_init_1 0 rfl rfl)
theorem dJ19_init_25 : decode cJ19_init 25 = .ok (.aload_n 0, 1) := dk_42 (dk_at dksJ19_init_1 3 rfl rfl)
theorem dJ19_init_26 : decode cJ19_init 26 = .ok (.iload_n 1, 1) := dk_27 (dk_at dksJ19_init_1 4 rfl rfl)
theorem dJ19_init_27 : decode cJ19_init 27 = .ok (.invokestatic 26, 3) := dk_184 0 26 (dk_at dksJ19_init_1 5 rfl rfl)
theorem dJ19_init_30 : decode cJ19_init 30 = .ok (.putfield 15, 3) := dk_181 0 15 (dk_at dksJ19_init_1 8 rfl rfl)
theorem dJ19_init_33 : decode cJ19_init 33 = .ok (.aload_n 0, 1) := dk_42 (dk_at dksJ19_init_1 11 rfl rfl)
theorem dJ19_init_34 : decode cJ19_init 34 = .ok (.iconst 1, 1) := dk_4 (dk_at dksJ19_init_1 12 rfl rfl)
theorem dJ19_init_35 : decode cJ19_init 35 = .ok (.putfield 22, 3) := dk_181 0 22 (dk_at dksJ19_init_1 13 rfl rfl)
theorem dJ19_init_38 : decode cJ19_init 38 = .ok (.return_, 1) := dk_177 (dk_at dksJ19_init_1 16 rfl rfl)
abbrev cJ19_append : ByteArray := prog_16_method_31_code
def yJ19_append : MethodName := ⟨RJ19, "append", "(C)Ljava/lang/AbstractStringBuilder;"⟩
def dkwJ19_append_3 : List UInt8 := [181, 0, 79, 27, 184, 0, 197, 42, 176]
abbrev dktJ19_append_3 : List UInt8 := dkwJ19_append_3 ++ []
def dkwJ19_append_2 : List UInt8 := [182, 0, 83, 153, 0, 7, 42, 182, 0, 195, 42, 180, 0, 15, 42, 89, 180, 0, 79, 90, 4, 96]
abbrev dktJ19_append_2 : List UInt8 := dkwJ19_append_2 ++ dktJ19_append_3
def dkwJ19_append_1 : List UInt8 := [42, 180, 0, 15, 42, 89, 180, 0, 79, 90, 4, 96, 181, 0, 79, 27, 145, 84, 167, 0, 33, 42]
abbrev dktJ19_append_1 : List UInt8 := dkwJ19_append_1 ++ dktJ19_append_2
def dkwJ19_append_0 : List UInt8 := [42, 42, 180, 0, 79, 4, 96, 182, 0, 100, 42, 182, 0, 83, 153, 0, 31, 27, 184, 0, 191, 153, 0, 24]
abbrev dktJ19_append_0 : List UInt8 := dkwJ19_append_0 ++ dktJ19_append_1
theorem dksJ19_append_0 : cJ19_append.data.toList.drop 0 = dktJ19_append_0 := by decide +kernel
theorem dksJ19_append_1 : cJ19_append.data.toList.drop 24 = dktJ19_append_1 := dk_seg dksJ19_append_0 24 rfl rfl
theorem dksJ19_append_2 : cJ19_append.data.toList.drop 46 = dktJ19_append_2 := dk_seg dksJ19_append_1 22 rfl rfl
theorem dksJ19_append_3 : cJ19_append.data.toList.drop 68 = dktJ19_append_3 := dk_seg dksJ19_append_2 22 rfl rfl
theorem dJ19_append_0 : decode cJ19_append 0 = .ok (.aload_n 0, 1) := dk_42 (dk_at dksJ19_append_0 0 rfl rfl)
theorem dJ19_append_1 : decode cJ19_append 1 = .ok (.aload_n 0, 1) := dk_42 (dk_at dksJ19_append_0 1 rfl rfl)
theorem dJ19_append_2 : decode cJ19_append 2 = .ok (.getfield 79, 3) := dk_180 0 79 (dk_at dksJ19_append_0 2 rfl rfl)
theorem dJ19_append_5 : decode cJ19_append 5 = .ok (.iconst 1, 1) := dk_4 (dk_at dksJ19_append_0 5 rfl rfl)
theorem dJ19_append_6 : decode cJ19_append 6 = .ok (.iadd, 1) := dk_96 (dk_at dksJ19_append_0 6 rfl rfl)
theorem dJ19_append_7 : decode cJ19_append 7 = .ok (.invokevirtual 100, 3) := dk_182 0 100 (dk_at dksJ19_append_0 7 rfl rfl)
theorem dJ19_append_10 : decode cJ19_append 10 = .ok (.aload_n 0, 1) := dk_42 (dk_at dksJ19_append_0 10 rfl rfl)
theorem dJ19_append_11 : decode cJ19_append 11 = .ok (.invokevirtual 83, 3) := dk_182 0 83 (dk_at dksJ19_append_0 11 rfl rfl)
theorem dJ19_append_14 : decode cJ19_append 14 = .ok (.ifCond .eq 31, 3) := dk_153 0 31 (dk_at dksJ19_append_0 14 rfl rfl)
theorem dJ19_append_17 : decode cJ19_append 17 = .ok (.iload_n 1, 1) := dk_27 (dk_at dksJ19_append_0 17 rfl rfl)
theorem dJ19_append_18 : decode cJ19_append 18 = .ok (.invokestatic 191, 3) := dk_184 0 191 (dk_at dksJ19_append_0 18 rfl rfl)
theorem dJ19_append_21 : decode cJ19_append 21 = .ok (.ifCond .eq 24, 3) := dk_153 0 24 (dk_at dksJ19_append_0 21 rfl rfl)
theorem dJ19_append_24 : decode cJ19_append 24 = .ok (.aload_n 0, 1) := dk_42 (dk_at dksJ19_append_1 0 rfl rfl)
theorem dJ19_append_25 : decode cJ19_append 25 = .ok (.getfield 15, 3) := dk_180 0 15 (dk_at dksJ19_append_1 1 rfl rfl)
theorem dJ19_append_28 : decode cJ19_append 28 = .ok (.aload_n 0, 1) := dk_42 (dk_at dksJ19_append_1 4 rfl rfl)
theorem dJ19_append_29 : decode cJ19_append 29 = .ok (.dup, 1) := dk_89 (dk_at dksJ19_append_1 5 rfl rfl)
theorem dJ19_append_30 : decode cJ19_append 30 = .ok (.getfield 79, 3) := dk_180 0 79 (dk_at dksJ19_append_1 6 rfl rfl)
theorem dJ19_append_33 : decode cJ19_append 33 = .ok (.dup_x1, 1) := dk_90 (dk_at dksJ19_append_1 9 rfl rfl)
theorem dJ19_append_34 : decode cJ19_append 34 = .ok (.iconst 1, 1) := dk_4 (dk_at dksJ19_append_1 10 rfl rfl)
theorem dJ19_append_35 : decode cJ19_append 35 = .ok (.iadd, 1) := dk_96 (dk_at dksJ19_append_1 11 rfl rfl)
theorem dJ19_append_36 : decode cJ19_append 36 = .ok (.putfield 79, 3) := dk_181 0 79 (dk_at dksJ19_append_1 12 rfl rfl)
theorem dJ19_append_39 : decode cJ19_append 39 = .ok (.iload_n 1, 1) := dk_27 (dk_at dksJ19_append_1 15 rfl rfl)
theorem dJ19_append_40 : decode cJ19_append 40 = .ok (.i2b, 1) := dk_145 (dk_at dksJ19_append_1 16 rfl rfl)
theorem dJ19_append_41 : decode cJ19_append 41 = .ok (.bastore, 1) := dk_84 (dk_at dksJ19_append_1 17 rfl rfl)
theorem dJ19_append_42 : decode cJ19_append 42 = .ok (.goto 33, 3) := dk_167 0 33 (dk_at dksJ19_append_1 18 rfl rfl)
theorem dJ19_append_45 : decode cJ19_append 45 = .ok (.aload_n 0, 1) := dk_42 (dk_at dksJ19_append_1 21 rfl rfl)
theorem dJ19_append_46 : decode cJ19_append 46 = .ok (.invokevirtual 83, 3) := dk_182 0 83 (dk_at dksJ19_append_2 0 rfl rfl)
theorem dJ19_append_49 : decode cJ19_append 49 = .ok (.ifCond .eq 7, 3) := dk_153 0 7 (dk_at dksJ19_append_2 3 rfl rfl)
theorem dJ19_append_52 : decode cJ19_append 52 = .ok (.aload_n 0, 1) := dk_42 (dk_at dksJ19_append_2 6 rfl rfl)
theorem dJ19_append_53 : decode cJ19_append 53 = .ok (.invokevirtual 195, 3) := dk_182 0 195 (dk_at dksJ19_append_2 7 rfl rfl)
theorem dJ19_append_56 : decode cJ19_append 56 = .ok (.aload_n 0, 1) := dk_42 (dk_at dksJ19_append_2 10 rfl rfl)
theorem dJ19_append_57 : decode cJ19_append 57 = .ok (.getfield 15, 3) := dk_180 0 15 (dk_at dksJ19_append_2 11 rfl rfl)
theorem dJ19_append_60 : decode cJ19_append 60 = .ok (.aload_n 0, 1) := dk_42 (dk_at dksJ19_append_2 14 rfl rfl)
theorem dJ19_append_61 : decode cJ19_append 61 = .ok (.dup, 1) := dk_89 (dk_at dksJ19_append_2 15 rfl rfl)
theorem dJ19_append_62 : decode cJ19_append 62 = .ok (.getfield 79, 3) := dk_180 0 79 (dk_at dksJ19_append_2 16 rfl rfl)
theorem dJ19_append_65 : decode cJ19_append 65 = .ok (.dup_x1, 1) := dk_90 (dk_at dksJ19_append_2 19 rfl rfl)
theorem dJ19_append_66 : decode cJ19_append 66 = .ok (.iconst 1, 1) := dk_4 (dk_at dksJ19_append_2 20 rfl rfl)
theorem dJ19_append_67 : decode cJ19_append 67 = .ok (.iadd, 1) := dk_96 (dk_at dksJ19_append_2 21 rfl rfl)
theorem dJ19_append_68 : decode cJ19_append 68 = .ok (.putfield 79, 3) := dk_181 0 79 (dk_at dksJ19_append_3 0 rfl rfl)
theorem dJ19_append_71 : decode cJ19_append 71 = .ok (.iload_n 1, 1) := dk_27 (dk_at dksJ19_append_3 3 rfl rfl)
theorem dJ19_append_72 : decode cJ19_append 72 = .ok (.invokestatic 197, 3) := dk_184 0 197 (dk_at dksJ19_append_3 4 rfl rfl)
theorem dJ19_append_75 : decode cJ19_append 75 = .ok (.aload_n 0, 1) := dk_42 (dk_at dksJ19_append_3 7 rfl rfl)
theorem dJ19_append_76 : decode cJ19_append 76 = .ok (.areturn, 1) := dk_176 (dk_at dksJ19_append_3 8 rfl rfl)
abbrev cJ19_ensureCapacityInternal : ByteArray := prog_16_method_9_code
def yJ19_ensureCapacityInternal : MethodName := ⟨RJ19, "ensureCapacityInternal", "(I)V"⟩
def dkwJ19_ensureCapacityInternal_1 : List UInt8 := [182, 0, 104, 42, 180, 0, 22, 120, 184, 0, 108, 181, 0, 15, 177]
abbrev dktJ19_ensureCapacityInternal_1 : List UInt8 := dkwJ19_ensureCapacityInternal_1 ++ []
def dkwJ19_ensureCapacityInternal_0 : List UInt8 := [42, 180, 0, 15, 190, 42, 180, 0, 22, 122, 61, 27, 28, 100, 158, 0, 24, 42, 42, 180, 0, 15, 42, 27]
abbrev dktJ19_ensureCapacityInternal_0 : List UInt8 := dkwJ19_ensureCapacityInternal_0 ++ dktJ19_ensureCapacityInternal_1
theorem dksJ19_ensureCapacityInternal_0 : cJ19_ensureCapacityInternal.data.toList.drop 0 = dktJ19_ensureCapacityInternal_0 := by decide +kernel
theorem dksJ19_ensureCapacityInternal_1 : cJ19_ensureCapacityInternal.data.toList.drop 24 = dktJ19_ensureCapacityInternal_1 := dk_seg dksJ19_ensureCapacityInternal_0 24 rfl rfl
theorem dJ19_ensureCapacityInternal_0 : decode cJ19_ensureCapacityInternal 0 = .ok (.aload_n 0, 1) := dk_42 (dk_at dksJ19_ensureCapacityInternal_0 0 rfl rfl)
theorem dJ19_ensureCapacityInternal_1 : decode cJ19_ensureCapacityInternal 1 = .ok (.getfield 15, 3) := dk_180 0 15 (dk_at dksJ19_ensureCapacityInternal_0 1 rfl rfl)
theorem dJ19_ensureCapacityInternal_4 : decode cJ19_ensureCapacityInternal 4 = .ok (.arraylength, 1) := dk_190 (dk_at dksJ19_ensureCapacityInternal_0 4 rfl rfl)
theorem dJ19_ensureCapacityInternal_5 : decode cJ19_ensureCapacityInternal 5 = .ok (.aload_n 0, 1) := dk_42 (dk_at dksJ19_ensureCapacityInternal_0 5 rfl rfl)
theorem dJ19_ensureCapacityInternal_6 : decode cJ19_ensureCapacityInternal 6 = .ok (.getfield 22, 3) := dk_180 0 22 (dk_at dksJ19_ensureCapacityInternal_0 6 rfl rfl)
theorem dJ19_ensureCapacityInternal_9 : decode cJ19_ensureCapacityInternal 9 = .ok (.ishr, 1) := dk_122 (dk_at dksJ19_ensureCapacityInternal_0 9 rfl rfl)
theorem dJ19_ensureCapacityInternal_10 : decode cJ19_ensureCapacityInternal 10 = .ok (.istore_n 2, 1) := dk_61 (dk_at dksJ19_ensureCapacityInternal_0 10 rfl rfl)
theorem dJ19_ensureCapacityInternal_11 : decode cJ19_ensureCapacityInternal 11 = .ok (.iload_n 1, 1) := dk_27 (dk_at dksJ19_ensureCapacityInternal_0 11 rfl rfl)
theorem dJ19_ensureCapacityInternal_12 : decode cJ19_ensureCapacityInternal 12 = .ok (.iload_n 2, 1) := dk_28 (dk_at dksJ19_ensureCapacityInternal_0 12 rfl rfl)
theorem dJ19_ensureCapacityInternal_13 : decode cJ19_ensureCapacityInternal 13 = .ok (.isub, 1) := dk_100 (dk_at dksJ19_ensureCapacityInternal_0 13 rfl rfl)
theorem dJ19_ensureCapacityInternal_14 : decode cJ19_ensureCapacityInternal 14 = .ok (.ifCond .le 24, 3) := dk_158 0 24 (dk_at dksJ19_ensureCapacityInternal_0 14 rfl rfl)
theorem dJ19_ensureCapacityInternal_17 : decode cJ19_ensureCapacityInternal 17 = .ok (.aload_n 0, 1) := dk_42 (dk_at dksJ19_ensureCapacityInternal_0 17 rfl rfl)
theorem dJ19_ensureCapacityInternal_18 : decode cJ19_ensureCapacityInternal 18 = .ok (.aload_n 0, 1) := dk_42 (dk_at dksJ19_ensureCapacityInternal_0 18 rfl rfl)
theorem dJ19_ensureCapacityInternal_19 : decode cJ19_ensureCapacityInternal 19 = .ok (.getfield 15, 3) := dk_180 0 15 (dk_at dksJ19_ensureCapacityInternal_0 19 rfl rfl)
theorem dJ19_ensureCapacityInternal_22 : decode cJ19_ensureCapacityInternal 22 = .ok (.aload_n 0, 1) := dk_42 (dk_at dksJ19_ensureCapacityInternal_0 22 rfl rfl)
theorem dJ19_ensureCapacityInternal_23 : decode cJ19_ensureCapacityInternal 23 = .ok (.iload_n 1, 1) := dk_27 (dk_at dksJ19_ensureCapacityInternal_0 23 rfl rfl)
theorem dJ19_ensureCapacityInternal_24 : decode cJ19_ensureCapacityInternal 24 = .ok (.invokevirtual 104, 3) := dk_182 0 104 (dk_at dksJ19_ensureCapacityInternal_1 0 rfl rfl)
theorem dJ19_ensureCapacityInternal_27 : decode cJ19_ensureCapacityInternal 27 = .ok (.aload_n 0, 1) := dk_42 (dk_at dksJ19_ensureCapacityInternal_1 3 rfl rfl)
theorem dJ19_ensureCapacityInternal_28 : decode cJ19_ensureCapacityInternal 28 = .ok (.getfield 22, 3) := dk_180 0 22 (dk_at dksJ19_ensureCapacityInternal_1 4 rfl rfl)
theorem dJ19_ensureCapacityInternal_31 : decode cJ19_ensureCapacityInternal 31 = .ok (.ishl, 1) := dk_120 (dk_at dksJ19_ensureCapacityInternal_1 7 rfl rfl)
theorem dJ19_ensureCapacityInternal_32 : decode cJ19_ensureCapacityInternal 32 = .ok (.invokestatic 108, 3) := dk_184 0 108 (dk_at dksJ19_ensureCapacityInternal_1 8 rfl rfl)
theorem dJ19_ensureCapacityInternal_35 : decode cJ19_ensureCapacityInternal 35 = .ok (.putfield 15, 3) := dk_181 0 15 (dk_at dksJ19_ensureCapacityInternal_1 11 rfl rfl)
theorem dJ19_ensureCapacityInternal_38 : decode cJ19_ensureCapacityInternal 38 = .ok (.return_, 1) := dk_177 (dk_at dksJ19_ensureCapacityInternal_1 14 rfl rfl)
abbrev cJ19_newCapacity : ByteArray := prog_16_method_10_code
def yJ19_newCapacity : MethodName := ⟨RJ19, "newCapacity", "(I)I"⟩
def dkwJ19_newCapacity_2 : List UInt8 := [183, 0, 124, 191, 21, 5, 42, 180, 0, 22, 122, 172]
abbrev dktJ19_newCapacity_2 : List UInt8 := dkwJ19_newCapacity_2 ++ []
def dkwJ19_newCapacity_1 : List UInt8 := [180, 0, 22, 120, 96, 184, 0, 114, 54, 5, 21, 5, 18, 39, 160, 0, 13, 187, 0, 120, 89, 18, 122]
abbrev dktJ19_newCapacity_1 : List UInt8 := dkwJ19_newCapacity_1 ++ dktJ19_newCapacity_2
def dkwJ19_newCapacity_0 : List UInt8 := [42, 180, 0, 15, 190, 61, 27, 42, 180, 0, 22, 120, 62, 29, 28, 100, 54, 4, 28, 21, 4, 28, 5, 42]
abbrev dktJ19_newCapacity_0 : List UInt8 := dkwJ19_newCapacity_0 ++ dktJ19_newCapacity_1
theorem dksJ19_newCapacity_0 : cJ19_newCapacity.data.toList.drop 0 = dktJ19_newCapacity_0 := by decide +kernel
theorem dksJ19_newCapacity_1 : cJ19_newCapacity.data.toList.drop 24 = dktJ19_newCapacity_1 := dk_seg dksJ19_newCapacity_0 24 rfl rfl
theorem dksJ19_newCapacity_2 : cJ19_newCapacity.data.toList.drop 47 = dktJ19_newCapacity_2 := dk_seg dksJ19_newCapacity_1 23 rfl rfl
theorem dJ19_newCapacity_0 : decode cJ19_newCapacity 0 = .ok (.aload_n 0, 1) := dk_42 (dk_at dksJ19_newCapacity_0 0 rfl rfl)
theorem dJ19_newCapacity_1 : decode cJ19_newCapacity 1 = .ok (.getfield 15, 3) := dk_180 0 15 (dk_at dksJ19_newCapacity_0 1 rfl rfl)
theorem dJ19_newCapacity_4 : decode cJ19_newCapacity 4 = .ok (.arraylength, 1) := dk_190 (dk_at dksJ19_newCapacity_0 4 rfl rfl)
theorem dJ19_newCapacity_5 : decode cJ19_newCapacity 5 = .ok (.istore_n 2, 1) := dk_61 (dk_at dksJ19_newCapacity_0 5 rfl rfl)
theorem dJ19_newCapacity_6 : decode cJ19_newCapacity 6 = .ok (.iload_n 1, 1) := dk_27 (dk_at dksJ19_newCapacity_0 6 rfl rfl)
theorem dJ19_newCapacity_7 : decode cJ19_newCapacity 7 = .ok (.aload_n 0, 1) := dk_42 (dk_at dksJ19_newCapacity_0 7 rfl rfl)
theorem dJ19_newCapacity_8 : decode cJ19_newCapacity 8 = .ok (.getfield 22, 3) := dk_180 0 22 (dk_at dksJ19_newCapacity_0 8 rfl rfl)
theorem dJ19_newCapacity_11 : decode cJ19_newCapacity 11 = .ok (.ishl, 1) := dk_120 (dk_at dksJ19_newCapacity_0 11 rfl rfl)
theorem dJ19_newCapacity_12 : decode cJ19_newCapacity 12 = .ok (.istore_n 3, 1) := dk_62 (dk_at dksJ19_newCapacity_0 12 rfl rfl)
theorem dJ19_newCapacity_13 : decode cJ19_newCapacity 13 = .ok (.iload_n 3, 1) := dk_29 (dk_at dksJ19_newCapacity_0 13 rfl rfl)
theorem dJ19_newCapacity_14 : decode cJ19_newCapacity 14 = .ok (.iload_n 2, 1) := dk_28 (dk_at dksJ19_newCapacity_0 14 rfl rfl)
theorem dJ19_newCapacity_15 : decode cJ19_newCapacity 15 = .ok (.isub, 1) := dk_100 (dk_at dksJ19_newCapacity_0 15 rfl rfl)
theorem dJ19_newCapacity_16 : decode cJ19_newCapacity 16 = .ok (.istore 4, 2) := dk_54 4 (dk_at dksJ19_newCapacity_0 16 rfl rfl)
theorem dJ19_newCapacity_18 : decode cJ19_newCapacity 18 = .ok (.iload_n 2, 1) := dk_28 (dk_at dksJ19_newCapacity_0 18 rfl rfl)
theorem dJ19_newCapacity_19 : decode cJ19_newCapacity 19 = .ok (.iload 4, 2) := dk_21 4 (dk_at dksJ19_newCapacity_0 19 rfl rfl)
theorem dJ19_newCapacity_21 : decode cJ19_newCapacity 21 = .ok (.iload_n 2, 1) := dk_28 (dk_at dksJ19_newCapacity_0 21 rfl rfl)
theorem dJ19_newCapacity_22 : decode cJ19_newCapacity 22 = .ok (.iconst 2, 1) := dk_5 (dk_at dksJ19_newCapacity_0 22 rfl rfl)
theorem dJ19_newCapacity_23 : decode cJ19_newCapacity 23 = .ok (.aload_n 0, 1) := dk_42 (dk_at dksJ19_newCapacity_0 23 rfl rfl)
theorem dJ19_newCapacity_24 : decode cJ19_newCapacity 24 = .ok (.getfield 22, 3) := dk_180 0 22 (dk_at dksJ19_newCapacity_1 0 rfl rfl)
theorem dJ19_newCapacity_27 : decode cJ19_newCapacity 27 = .ok (.ishl, 1) := dk_120 (dk_at dksJ19_newCapacity_1 3 rfl rfl)
theorem dJ19_newCapacity_28 : decode cJ19_newCapacity 28 = .ok (.iadd, 1) := dk_96 (dk_at dksJ19_newCapacity_1 4 rfl rfl)
theorem dJ19_newCapacity_29 : decode cJ19_newCapacity 29 = .ok (.invokestatic 114, 3) := dk_184 0 114 (dk_at dksJ19_newCapacity_1 5 rfl rfl)
theorem dJ19_newCapacity_32 : decode cJ19_newCapacity 32 = .ok (.istore 5, 2) := dk_54 5 (dk_at dksJ19_newCapacity_1 8 rfl rfl)
theorem dJ19_newCapacity_34 : decode cJ19_newCapacity 34 = .ok (.iload 5, 2) := dk_21 5 (dk_at dksJ19_newCapacity_1 10 rfl rfl)
theorem dJ19_newCapacity_36 : decode cJ19_newCapacity 36 = .ok (.ldc 39, 2) := dk_18 39 (dk_at dksJ19_newCapacity_1 12 rfl rfl)
theorem dJ19_newCapacity_38 : decode cJ19_newCapacity 38 = .ok (.if_icmp .ne 13, 3) := dk_160 0 13 (dk_at dksJ19_newCapacity_1 14 rfl rfl)
theorem dJ19_newCapacity_41 : decode cJ19_newCapacity 41 = .ok (.new 120, 3) := dk_187 0 120 (dk_at dksJ19_newCapacity_1 17 rfl rfl)
theorem dJ19_newCapacity_44 : decode cJ19_newCapacity 44 = .ok (.dup, 1) := dk_89 (dk_at dksJ19_newCapacity_1 20 rfl rfl)
theorem dJ19_newCapacity_45 : decode cJ19_newCapacity 45 = .ok (.ldc 122, 2) := dk_18 122 (dk_at dksJ19_newCapacity_1 21 rfl rfl)
theorem dJ19_newCapacity_47 : decode cJ19_newCapacity 47 = .ok (.invokespecial 124, 3) := dk_183 0 124 (dk_at dksJ19_newCapacity_2 0 rfl rfl)
theorem dJ19_newCapacity_50 : decode cJ19_newCapacity 50 = .ok (.athrow, 1) := dk_191 (dk_at dksJ19_newCapacity_2 3 rfl rfl)
theorem dJ19_newCapacity_51 : decode cJ19_newCapacity 51 = .ok (.iload 5, 2) := dk_21 5 (dk_at dksJ19_newCapacity_2 4 rfl rfl)
theorem dJ19_newCapacity_53 : decode cJ19_newCapacity 53 = .ok (.aload_n 0, 1) := dk_42 (dk_at dksJ19_newCapacity_2 6 rfl rfl)
theorem dJ19_newCapacity_54 : decode cJ19_newCapacity 54 = .ok (.getfield 22, 3) := dk_180 0 22 (dk_at dksJ19_newCapacity_2 7 rfl rfl)
theorem dJ19_newCapacity_57 : decode cJ19_newCapacity 57 = .ok (.ishr, 1) := dk_122 (dk_at dksJ19_newCapacity_2 10 rfl rfl)
theorem dJ19_newCapacity_58 : decode cJ19_newCapacity 58 = .ok (.ireturn, 1) := dk_172 (dk_at dksJ19_newCapacity_2 11 rfl rfl)
abbrev cJ19_isLatin1 : ByteArray := prog_16_method_68_code
def yJ19_isLatin1 : MethodName := ⟨RJ19, "isLatin1", "()Z"⟩
def dkwJ19_isLatin1_0 : List UInt8 := [178, 0, 18, 153, 0, 14, 42, 180, 0, 22, 154, 0, 7, 4, 167, 0, 4, 3, 172]
abbrev dktJ19_isLatin1_0 : List UInt8 := dkwJ19_isLatin1_0 ++ []
theorem dksJ19_isLatin1_0 : cJ19_isLatin1.data.toList.drop 0 = dktJ19_isLatin1_0 := by decide +kernel
theorem dJ19_isLatin1_0 : decode cJ19_isLatin1 0 = .ok (.getstatic 18, 3) := dk_178 0 18 (dk_at dksJ19_isLatin1_0 0 rfl rfl)
theorem dJ19_isLatin1_3 : decode cJ19_isLatin1 3 = .ok (.ifCond .eq 14, 3) := dk_153 0 14 (dk_at dksJ19_isLatin1_0 3 rfl rfl)
theorem dJ19_isLatin1_6 : decode cJ19_isLatin1 6 = .ok (.aload_n 0, 1) := dk_42 (dk_at dksJ19_isLatin1_0 6 rfl rfl)
theorem dJ19_isLatin1_7 : decode cJ19_isLatin1 7 = .ok (.getfield 22, 3) := dk_180 0 22 (dk_at dksJ19_isLatin1_0 7 rfl rfl)
theorem dJ19_isLatin1_10 : decode cJ19_isLatin1 10 = .ok (.ifCond .ne 7, 3) := dk_154 0 7 (dk_at dksJ19_isLatin1_0 10 rfl rfl)
theorem dJ19_isLatin1_13 : decode cJ19_isLatin1 13 = .ok (.iconst 1, 1) := dk_4 (dk_at dksJ19_isLatin1_0 13 rfl rfl)
theorem dJ19_isLatin1_14 : decode cJ19_isLatin1 14 = .ok (.goto 4, 3) := dk_167 0 4 (dk_at dksJ19_isLatin1_0 14 rfl rfl)
theorem dJ19_isLatin1_17 : decode cJ19_isLatin1 17 = .ok (.iconst 0, 1) := dk_3 (dk_at dksJ19_isLatin1_0 17 rfl rfl)
theorem dJ19_isLatin1_18 : decode cJ19_isLatin1 18 = .ok (.ireturn, 1) := dk_172 (dk_at dksJ19_isLatin1_0 18 rfl rfl)
abbrev cJ19_inflate : ByteArray := prog_16_method_11_code
def yJ19_inflate : MethodName := ⟨RJ19, "inflate", "()V"⟩
def dkwJ19_inflate_1 : List UInt8 := [42, 180, 0, 79, 184, 0, 125, 42, 43, 181, 0, 15, 42, 4, 181, 0, 22, 177]
abbrev dktJ19_inflate_1 : List UInt8 := dkwJ19_inflate_1 ++ []
def dkwJ19_inflate_0 : List UInt8 := [42, 182, 0, 83, 154, 0, 4, 177, 42, 180, 0, 15, 190, 184, 0, 26, 76, 42, 180, 0, 15, 3, 43, 3]
abbrev dktJ19_inflate_0 : List UInt8 := dkwJ19_inflate_0 ++ dktJ19_inflate_1
theorem dksJ19_inflate_0 : cJ19_inflate.data.toList.drop 0 = dktJ19_inflate_0 := by decide +kernel
theorem dksJ19_inflate_1 : cJ19_inflate.data.toList.drop 24 = dktJ19_inflate_1 := dk_seg dksJ19_inflate_0 24 rfl rfl
theorem dJ19_inflate_0 : decode cJ19_inflate 0 = .ok (.aload_n 0, 1) := dk_42 (dk_at dksJ19_inflate_0 0 rfl rfl)
theorem dJ19_inflate_1 : decode cJ19_inflate 1 = .ok (.invokevirtual 83, 3) := dk_182 0 83 (dk_at dksJ19_inflate_0 1 rfl rfl)
theorem dJ19_inflate_4 : decode cJ19_inflate 4 = .ok (.ifCond .ne 4, 3) := dk_154 0 4 (dk_at dksJ19_inflate_0 4 rfl rfl)
theorem dJ19_inflate_7 : decode cJ19_inflate 7 = .ok (.return_, 1) := dk_177 (dk_at dksJ19_inflate_0 7 rfl rfl)
theorem dJ19_inflate_8 : decode cJ19_inflate 8 = .ok (.aload_n 0, 1) := dk_42 (dk_at dksJ19_inflate_0 8 rfl rfl)
theorem dJ19_inflate_9 : decode cJ19_inflate 9 = .ok (.getfield 15, 3) := dk_180 0 15 (dk_at dksJ19_inflate_0 9 rfl rfl)
theorem dJ19_inflate_12 : decode cJ19_inflate 12 = .ok (.arraylength, 1) := dk_190 (dk_at dksJ19_inflate_0 12 rfl rfl)
theorem dJ19_inflate_13 : decode cJ19_inflate 13 = .ok (.invokestatic 26, 3) := dk_184 0 26 (dk_at dksJ19_inflate_0 13 rfl rfl)
theorem dJ19_inflate_16 : decode cJ19_inflate 16 = .ok (.astore_n 1, 1) := dk_76 (dk_at dksJ19_inflate_0 16 rfl rfl)
theorem dJ19_inflate_17 : decode cJ19_inflate 17 = .ok (.aload_n 0, 1) := dk_42 (dk_at dksJ19_inflate_0 17 rfl rfl)
theorem dJ19_inflate_18 : decode cJ19_inflate 18 = .ok (.getfield 15, 3) := dk_180 0 15 (dk_at dksJ19_inflate_0 18 rfl rfl)
theorem dJ19_inflate_21 : decode cJ19_inflate 21 = .ok (.iconst 0, 1) := dk_3 (dk_at dksJ19_inflate_0 21 rfl rfl)
theorem dJ19_inflate_22 : decode cJ19_inflate 22 = .ok (.aload_n 1, 1) := dk_43 (dk_at dksJ19_inflate_0 22 rfl rfl)
theorem dJ19_inflate_23 : decode cJ19_inflate 23 = .ok (.iconst 0, 1) := dk_3 (dk_at dksJ19_inflate_0 23 rfl rfl)
theorem dJ19_inflate_24 : decode cJ19_inflate 24 = .ok (.aload_n 0, 1) := dk_42 (dk_at dksJ19_inflate_1 0 rfl rfl)
theorem dJ19_inflate_25 : decode cJ19_inflate 25 = .ok (.getfield 79, 3) := dk_180 0 79 (dk_at dksJ19_inflate_1 1 rfl rfl)
theorem dJ19_inflate_28 : decode cJ19_inflate 28 = .ok (.invokestatic 125, 3) := dk_184 0 125 (dk_at dksJ19_inflate_1 4 rfl rfl)
theorem dJ19_inflate_31 : decode cJ19_inflate 31 = .ok (.aload_n 0, 1) := dk_42 (dk_at dksJ19_inflate_1 7 rfl rfl)
theorem dJ19_inflate_32 : decode cJ19_inflate 32 = .ok (.aload_n 1, 1) := dk_43 (dk_at dksJ19_inflate_1 8 rfl rfl)
theorem dJ19_inflate_33 : decode cJ19_inflate 33 = .ok (.putfield 15, 3) := dk_181 0 15 (dk_at dksJ19_inflate_1 9 rfl rfl)
theorem dJ19_inflate_36 : decode cJ19_inflate 36 = .ok (.aload_n 0, 1) := dk_42 (dk_at dksJ19_inflate_1 12 rfl rfl)
theorem dJ19_inflate_37 : decode cJ19_inflate 37 = .ok (.iconst 1, 1) := dk_4 (dk_at dksJ19_inflate_1 13 rfl rfl)
theorem dJ19_inflate_38 : decode cJ19_inflate 38 = .ok (.putfield 22, 3) := dk_181 0 22 (dk_at dksJ19_inflate_1 14 rfl rfl)
theorem dJ19_inflate_41 : decode cJ19_inflate 41 = .ok (.return_, 1) := dk_177 (dk_at dksJ19_inflate_1 17 rfl rfl)
abbrev cJ19_getValue : ByteArray := prog_16_method_64_code
def yJ19_getValue : MethodName := ⟨RJ19, "getValue", "()[B"⟩
theorem dJ19_getValue_0 : decode cJ19_getValue 0 = .ok (.aload_n 0, 1) := by decide +kernel
theorem dJ19_getValue_1 : decode cJ19_getValue 1 = .ok (.getfield 15, 3) := by decide +kernel
theorem dJ19_getValue_4 : decode cJ19_getValue 4 = .ok (.areturn, 1) := by decide +kernel
abbrev cJ19_length : ByteArray := prog_16_method_6_code
def yJ19_length : MethodName := ⟨RJ19, "length", "()I"⟩
theorem dJ19_length_0 : decode cJ19_length 0 = .ok (.aload_n 0, 1) := by decide +kernel
theorem dJ19_length_1 : decode cJ19_length 1 = .ok (.getfield 79, 3) := by decide +kernel
theorem dJ19_length_4 : decode cJ19_length 4 = .ok (.ireturn, 1) := by decide +kernel
abbrev cJ19_append_2 : ByteArray := prog_16_method_32_code
def yJ19_append_2 : MethodName := ⟨RJ19, "append", "(I)Ljava/lang/AbstractStringBuilder;"⟩
def dkwJ19_append_2_2 : List UInt8 := [42, 29, 181, 0, 79, 42, 176]
abbrev dktJ19_append_2_2 : List UInt8 := dkwJ19_append_2_2 ++ []
def dkwJ19_append_2_1 : List UInt8 := [27, 29, 42, 180, 0, 15, 184, 0, 248, 87, 167, 0, 14, 27, 28, 29, 42, 180, 0, 15, 184, 0, 251, 87]
abbrev dktJ19_append_2_1 : List UInt8 := dkwJ19_append_2_1 ++ dktJ19_append_2_2
def dkwJ19_append_2_0 : List UInt8 := [42, 180, 0, 79, 61, 28, 27, 184, 0, 245, 96, 62, 42, 29, 182, 0, 100, 42, 182, 0, 83, 153, 0, 16]
abbrev dktJ19_append_2_0 : List UInt8 := dkwJ19_append_2_0 ++ dktJ19_append_2_1
theorem dksJ19_append_2_0 : cJ19_append_2.data.toList.drop 0 = dktJ19_append_2_0 := by decide +kernel
theorem dksJ19_append_2_1 : cJ19_append_2.data.toList.drop 24 = dktJ19_append_2_1 := dk_seg dksJ19_append_2_0 24 rfl rfl
theorem dksJ19_append_2_2 : cJ19_append_2.data.toList.drop 48 = dktJ19_append_2_2 := dk_seg dksJ19_append_2_1 24 rfl rfl
theorem dJ19_append_2_0 : decode cJ19_append_2 0 = .ok (.aload_n 0, 1) := dk_42 (dk_at dksJ19_append_2_0 0 rfl rfl)
theorem dJ19_append_2_1 : decode cJ19_append_2 1 = .ok (.getfield 79, 3) := dk_180 0 79 (dk_at dksJ19_append_2_0 1 rfl rfl)
theorem dJ19_append_2_4 : decode cJ19_append_2 4 = .ok (.istore_n 2, 1) := dk_61 (dk_at dksJ19_append_2_0 4 rfl rfl)
theorem dJ19_append_2_5 : decode cJ19_append_2 5 = .ok (.iload_n 2, 1) := dk_28 (dk_at dksJ19_append_2_0 5 rfl rfl)
theorem dJ19_append_2_6 : decode cJ19_append_2 6 = .ok (.iload_n 1, 1) := dk_27 (dk_at dksJ19_append_2_0 6 rfl rfl)
theorem dJ19_append_2_7 : decode cJ19_append_2 7 = .ok (.invokestatic 245, 3) := dk_184 0 245 (dk_at dksJ19_append_2_0 7 rfl rfl)
theorem dJ19_append_2_10 : decode cJ19_append_2 10 = .ok (.iadd, 1) := dk_96 (dk_at dksJ19_append_2_0 10 rfl rfl)
theorem dJ19_append_2_11 : decode cJ19_append_2 11 = .ok (.istore_n 3, 1) := dk_62 (dk_at dksJ19_append_2_0 11 rfl rfl)
theorem dJ19_append_2_12 : decode cJ19_append_2 12 = .ok (.aload_n 0, 1) := dk_42 (dk_at dksJ19_append_2_0 12 rfl rfl)
theorem dJ19_append_2_13 : decode cJ19_append_2 13 = .ok (.iload_n 3, 1) := dk_29 (dk_at dksJ19_append_2_0 13 rfl rfl)
theorem dJ19_append_2_14 : decode cJ19_append_2 14 = .ok (.invokevirtual 100, 3) := dk_182 0 100 (dk_at dksJ19_append_2_0 14 rfl rfl)
theorem dJ19_append_2_17 : decode cJ19_append_2 17 = .ok (.aload_n 0, 1) := dk_42 (dk_at dksJ19_append_2_0 17 rfl rfl)
theorem dJ19_append_2_18 : decode cJ19_append_2 18 = .ok (.invokevirtual 83, 3) := dk_182 0 83 (dk_at dksJ19_append_2_0 18 rfl rfl)
theorem dJ19_append_2_21 : decode cJ19_append_2 21 = .ok (.ifCond .eq 16, 3) := dk_153 0 16 (dk_at dksJ19_append_2_0 21 rfl rfl)
theorem dJ19_append_2_24 : decode cJ19_append_2 24 = .ok (.iload_n 1, 1) := dk_27 (dk_at dksJ19_append_2_1 0 rfl rfl)
theorem dJ19_append_2_25 : decode cJ19_append_2 25 = .ok (.iload_n 3, 1) := dk_29 (dk_at dksJ19_append_2_1 1 rfl rfl)
theorem dJ19_append_2_26 : decode cJ19_append_2 26 = .ok (.aload_n 0, 1) := dk_42 (dk_at dksJ19_append_2_1 2 rfl rfl)
theorem dJ19_append_2_27 : decode cJ19_append_2 27 = .ok (.getfield 15, 3) := dk_180 0 15 (dk_at dksJ19_append_2_1 3 rfl rfl)
theorem dJ19_append_2_30 : decode cJ19_append_2 30 = .ok (.invokestatic 248, 3) := dk_184 0 248 (dk_at dksJ19_append_2_1 6 rfl rfl)
theorem dJ19_append_2_33 : decode cJ19_append_2 33 = .ok (.pop, 1) := dk_87 (dk_at dksJ19_append_2_1 9 rfl rfl)
theorem dJ19_append_2_34 : decode cJ19_append_2 34 = .ok (.goto 14, 3) := dk_167 0 14 (dk_at dksJ19_append_2_1 10 rfl rfl)
theorem dJ19_append_2_37 : decode cJ19_append_2 37 = .ok (.iload_n 1, 1) := dk_27 (dk_at dksJ19_append_2_1 13 rfl rfl)
theorem dJ19_append_2_38 : decode cJ19_append_2 38 = .ok (.iload_n 2, 1) := dk_28 (dk_at dksJ19_append_2_1 14 rfl rfl)
theorem dJ19_append_2_39 : decode cJ19_append_2 39 = .ok (.iload_n 3, 1) := dk_29 (dk_at dksJ19_append_2_1 15 rfl rfl)
theorem dJ19_append_2_40 : decode cJ19_append_2 40 = .ok (.aload_n 0, 1) := dk_42 (dk_at dksJ19_append_2_1 16 rfl rfl)
theorem dJ19_append_2_41 : decode cJ19_append_2 41 = .ok (.getfield 15, 3) := dk_180 0 15 (dk_at dksJ19_append_2_1 17 rfl rfl)
theorem dJ19_append_2_44 : decode cJ19_append_2 44 = .ok (.invokestatic 251, 3) := dk_184 0 251 (dk_at dksJ19_append_2_1 20 rfl rfl)
theorem dJ19_append_2_47 : decode cJ19_append_2 47 = .ok (.pop, 1) := dk_87 (dk_at dksJ19_append_2_1 23 rfl rfl)
theorem dJ19_append_2_48 : decode cJ19_append_2 48 = .ok (.aload_n 0, 1) := dk_42 (dk_at dksJ19_append_2_2 0 rfl rfl)
theorem dJ19_append_2_49 : decode cJ19_append_2 49 = .ok (.iload_n 3, 1) := dk_29 (dk_at dksJ19_append_2_2 1 rfl rfl)
theorem dJ19_append_2_50 : decode cJ19_append_2 50 = .ok (.putfield 79, 3) := dk_181 0 79 (dk_at dksJ19_append_2_2 2 rfl rfl)
theorem dJ19_append_2_53 : decode cJ19_append_2 53 = .ok (.aload_n 0, 1) := dk_42 (dk_at dksJ19_append_2_2 5 rfl rfl)
theorem dJ19_append_2_54 : decode cJ19_append_2 54 = .ok (.areturn, 1) := dk_176 (dk_at dksJ19_append_2_2 6 rfl rfl)
abbrev cJ19_append_3 : ByteArray := prog_16_method_22_code
def yJ19_append_3 : MethodName := ⟨RJ19, "append", "(Ljava/lang/String;)Ljava/lang/AbstractStringBuilder;"⟩
def dkwJ19_append_3_1 : List UInt8 := [42, 42, 180, 0, 79, 43, 182, 0, 208, 42, 89, 180, 0, 79, 28, 96, 181, 0, 79, 42, 176]
abbrev dktJ19_append_3_1 : List UInt8 := dkwJ19_append_3_1 ++ []
def dkwJ19_append_3_0 : List UInt8 := [43, 199, 0, 8, 42, 182, 0, 204, 176, 43, 182, 0, 32, 61, 42, 42, 180, 0, 79, 28, 96, 182, 0, 100]
abbrev dktJ19_append_3_0 : List UInt8 := dkwJ19_append_3_0 ++ dktJ19_append_3_1
theorem dksJ19_append_3_0 : cJ19_append_3.data.toList.drop 0 = dktJ19_append_3_0 := by decide +kernel
theorem dksJ19_append_3_1 : cJ19_append_3.data.toList.drop 24 = dktJ19_append_3_1 := dk_seg dksJ19_append_3_0 24 rfl rfl
theorem dJ19_append_3_0 : decode cJ19_append_3 0 = .ok (.aload_n 1, 1) := dk_43 (dk_at dksJ19_append_3_0 0 rfl rfl)
theorem dJ19_append_3_1 : decode cJ19_append_3 1 = .ok (.ifnonnull 8, 3) := dk_199 0 8 (dk_at dksJ19_append_3_0 1 rfl rfl)
theorem dJ19_append_3_4 : decode cJ19_append_3 4 = .ok (.aload_n 0, 1) := dk_42 (dk_at dksJ19_append_3_0 4 rfl rfl)
theorem dJ19_append_3_5 : decode cJ19_append_3 5 = .ok (.invokevirtual 204, 3) := dk_182 0 204 (dk_at dksJ19_append_3_0 5 rfl rfl)
theorem dJ19_append_3_8 : decode cJ19_append_3 8 = .ok (.areturn, 1) := dk_176 (dk_at dksJ19_append_3_0 8 rfl rfl)
theorem dJ19_append_3_9 : decode cJ19_append_3 9 = .ok (.aload_n 1, 1) := dk_43 (dk_at dksJ19_append_3_0 9 rfl rfl)
theorem dJ19_append_3_10 : decode cJ19_append_3 10 = .ok (.invokevirtual 32, 3) := dk_182 0 32 (dk_at dksJ19_append_3_0 10 rfl rfl)
theorem dJ19_append_3_13 : decode cJ19_append_3 13 = .ok (.istore_n 2, 1) := dk_61 (dk_at dksJ19_append_3_0 13 rfl rfl)
theorem dJ19_append_3_14 : decode cJ19_append_3 14 = .ok (.aload_n 0, 1) := dk_42 (dk_at dksJ19_append_3_0 14 rfl rfl)
theorem dJ19_append_3_15 : decode cJ19_append_3 15 = .ok (.aload_n 0, 1) := dk_42 (dk_at dksJ19_append_3_0 15 rfl rfl)
theorem dJ19_append_3_16 : decode cJ19_append_3 16 = .ok (.getfield 79, 3) := dk_180 0 79 (dk_at dksJ19_append_3_0 16 rfl rfl)
theorem dJ19_append_3_19 : decode cJ19_append_3 19 = .ok (.iload_n 2, 1) := dk_28 (dk_at dksJ19_append_3_0 19 rfl rfl)
theorem dJ19_append_3_20 : decode cJ19_append_3 20 = .ok (.iadd, 1) := dk_96 (dk_at dksJ19_append_3_0 20 rfl rfl)
theorem dJ19_append_3_21 : decode cJ19_append_3 21 = .ok (.invokevirtual 100, 3) := dk_182 0 100 (dk_at dksJ19_append_3_0 21 rfl rfl)
theorem dJ19_append_3_24 : decode cJ19_append_3 24 = .ok (.aload_n 0, 1) := dk_42 (dk_at dksJ19_append_3_1 0 rfl rfl)
theorem dJ19_append_3_25 : decode cJ19_append_3 25 = .ok (.aload_n 0, 1) := dk_42 (dk_at dksJ19_append_3_1 1 rfl rfl)
theorem dJ19_append_3_26 : decode cJ19_append_3 26 = .ok (.getfield 79, 3) := dk_180 0 79 (dk_at dksJ19_append_3_1 2 rfl rfl)
theorem dJ19_append_3_29 : decode cJ19_append_3 29 = .ok (.aload_n 1, 1) := dk_43 (dk_at dksJ19_append_3_1 5 rfl rfl)
theorem dJ19_append_3_30 : decode cJ19_append_3 30 = .ok (.invokevirtual 208, 3) := dk_182 0 208 (dk_at dksJ19_append_3_1 6 rfl rfl)
theorem dJ19_append_3_33 : decode cJ19_append_3 33 = .ok (.aload_n 0, 1) := dk_42 (dk_at dksJ19_append_3_1 9 rfl rfl)
theorem dJ19_append_3_34 : decode cJ19_append_3 34 = .ok (.dup, 1) := dk_89 (dk_at dksJ19_append_3_1 10 rfl rfl)
theorem dJ19_append_3_35 : decode cJ19_append_3 35 = .ok (.getfield 79, 3) := dk_180 0 79 (dk_at dksJ19_append_3_1 11 rfl rfl)
theorem dJ19_append_3_38 : decode cJ19_append_3 38 = .ok (.iload_n 2, 1) := dk_28 (dk_at dksJ19_append_3_1 14 rfl rfl)
theorem dJ19_append_3_39 : decode cJ19_append_3 39 = .ok (.iadd, 1) := dk_96 (dk_at dksJ19_append_3_1 15 rfl rfl)
theorem dJ19_append_3_40 : decode cJ19_append_3 40 = .ok (.putfield 79, 3) := dk_181 0 79 (dk_at dksJ19_append_3_1 16 rfl rfl)
theorem dJ19_append_3_43 : decode cJ19_append_3 43 = .ok (.aload_n 0, 1) := dk_42 (dk_at dksJ19_append_3_1 19 rfl rfl)
theorem dJ19_append_3_44 : decode cJ19_append_3 44 = .ok (.areturn, 1) := dk_176 (dk_at dksJ19_append_3_1 20 rfl rfl)
abbrev cJ19_appendNull : ByteArray := prog_16_method_26_code
def yJ19_appendNull : MethodName := ⟨RJ19, "appendNull", "()Ljava/lang/AbstractStringBuilder;"⟩
def dkwJ19_appendNull_3 : List UInt8 := [184, 0, 226, 60, 42, 27, 181, 0, 79, 42, 176]
abbrev dktJ19_appendNull_3 : List UInt8 := dkwJ19_appendNull_3 ++ []
def dkwJ19_appendNull_2 : List UInt8 := [16, 108, 84, 44, 27, 132, 1, 1, 16, 108, 84, 167, 0, 17, 44, 27, 16, 110, 16, 117, 16, 108, 16, 108]
abbrev dktJ19_appendNull_2 : List UInt8 := dkwJ19_appendNull_2 ++ dktJ19_appendNull_3
def dkwJ19_appendNull_1 : List UInt8 := [153, 0, 38, 44, 27, 132, 1, 1, 16, 110, 84, 44, 27, 132, 1, 1, 16, 117, 84, 44, 27, 132, 1, 1]
abbrev dktJ19_appendNull_1 : List UInt8 := dkwJ19_appendNull_1 ++ dktJ19_appendNull_2
def dkwJ19_appendNull_0 : List UInt8 := [42, 42, 180, 0, 79, 7, 96, 182, 0, 100, 42, 180, 0, 79, 60, 42, 180, 0, 15, 77, 42, 182, 0, 83]
abbrev dktJ19_appendNull_0 : List UInt8 := dkwJ19_appendNull_0 ++ dktJ19_appendNull_1
theorem dksJ19_appendNull_0 : cJ19_appendNull.data.toList.drop 0 = dktJ19_appendNull_0 := by decide +kernel
theorem dksJ19_appendNull_1 : cJ19_appendNull.data.toList.drop 24 = dktJ19_appendNull_1 := dk_seg dksJ19_appendNull_0 24 rfl rfl
theorem dksJ19_appendNull_2 : cJ19_appendNull.data.toList.drop 48 = dktJ19_appendNull_2 := dk_seg dksJ19_appendNull_1 24 rfl rfl
theorem dksJ19_appendNull_3 : cJ19_appendNull.data.toList.drop 72 = dktJ19_appendNull_3 := dk_seg dksJ19_appendNull_2 24 rfl rfl
theorem dJ19_appendNull_0 : decode cJ19_appendNull 0 = .ok (.aload_n 0, 1) := dk_42 (dk_at dksJ19_appendNull_0 0 rfl rfl)
theorem dJ19_appendNull_1 : decode cJ19_appendNull 1 = .ok (.aload_n 0, 1) := dk_42 (dk_at dksJ19_appendNull_0 1 rfl rfl)
theorem dJ19_appendNull_2 : decode cJ19_appendNull 2 = .ok (.getfield 79, 3) := dk_180 0 79 (dk_at dksJ19_appendNull_0 2 rfl rfl)
theorem dJ19_appendNull_5 : decode cJ19_appendNull 5 = .ok (.iconst 4, 1) := dk_7 (dk_at dksJ19_appendNull_0 5 rfl rfl)
theorem dJ19_appendNull_6 : decode cJ19_appendNull 6 = .ok (.iadd, 1) := dk_96 (dk_at dksJ19_appendNull_0 6 rfl rfl)
theorem dJ19_appendNull_7 : decode cJ19_appendNull 7 = .ok (.invokevirtual 100, 3) := dk_182 0 100 (dk_at dksJ19_appendNull_0 7 rfl rfl)
theorem dJ19_appendNull_10 : decode cJ19_appendNull 10 = .ok (.aload_n 0, 1) := dk_42 (dk_at dksJ19_appendNull_0 10 rfl rfl)
theorem dJ19_appendNull_11 : decode cJ19_appendNull 11 = .ok (.getfield 79, 3) := dk_180 0 79 (dk_at dksJ19_appendNull_0 11 rfl rfl)
theorem dJ19_appendNull_14 : decode cJ19_appendNull 14 = .ok (.istore_n 1, 1) := dk_60 (dk_at dksJ19_appendNull_0 14 rfl rfl)
theorem dJ19_appendNull_15 : decode cJ19_appendNull 15 = .ok (.aload_n 0, 1) := dk_42 (dk_at dksJ19_appendNull_0 15 rfl rfl)
theorem dJ19_appendNull_16 : decode cJ19_appendNull 16 = .ok (.getfield 15, 3) := dk_180 0 15 (dk_at dksJ19_appendNull_0 16 rfl rfl)
theorem dJ19_appendNull_19 : decode cJ19_appendNull 19 = .ok (.astore_n 2, 1) := dk_77 (dk_at dksJ19_appendNull_0 19 rfl rfl)
theorem dJ19_appendNull_20 : decode cJ19_appendNull 20 = .ok (.aload_n 0, 1) := dk_42 (dk_at dksJ19_appendNull_0 20 rfl rfl)
theorem dJ19_appendNull_21 : decode cJ19_appendNull 21 = .ok (.invokevirtual 83, 3) := dk_182 0 83 (dk_at dksJ19_appendNull_0 21 rfl rfl)
theorem dJ19_appendNull_24 : decode cJ19_appendNull 24 = .ok (.ifCond .eq 38, 3) := dk_153 0 38 (dk_at dksJ19_appendNull_1 0 rfl rfl)
theorem dJ19_appendNull_27 : decode cJ19_appendNull 27 = .ok (.aload_n 2, 1) := dk_44 (dk_at dksJ19_appendNull_1 3 rfl rfl)
theorem dJ19_appendNull_28 : decode cJ19_appendNull 28 = .ok (.iload_n 1, 1) := dk_27 (dk_at dksJ19_appendNull_1 4 rfl rfl)
theorem dJ19_appendNull_29 : decode cJ19_appendNull 29 = .ok (.iinc 1 1, 3) := dk_132 1 1 (dk_at dksJ19_appendNull_1 5 rfl rfl)
theorem dJ19_appendNull_32 : decode cJ19_appendNull 32 = .ok (.bipush 110, 2) := dk_16 110 (dk_at dksJ19_appendNull_1 8 rfl rfl)
theorem dJ19_appendNull_34 : decode cJ19_appendNull 34 = .ok (.bastore, 1) := dk_84 (dk_at dksJ19_appendNull_1 10 rfl rfl)
theorem dJ19_appendNull_35 : decode cJ19_appendNull 35 = .ok (.aload_n 2, 1) := dk_44 (dk_at dksJ19_appendNull_1 11 rfl rfl)
theorem dJ19_appendNull_36 : decode cJ19_appendNull 36 = .ok (.iload_n 1, 1) := dk_27 (dk_at dksJ19_appendNull_1 12 rfl rfl)
theorem dJ19_appendNull_37 : decode cJ19_appendNull 37 = .ok (.iinc 1 1, 3) := dk_132 1 1 (dk_at dksJ19_appendNull_1 13 rfl rfl)
theorem dJ19_appendNull_40 : decode cJ19_appendNull 40 = .ok (.bipush 117, 2) := dk_16 117 (dk_at dksJ19_appendNull_1 16 rfl rfl)
theorem dJ19_appendNull_42 : decode cJ19_appendNull 42 = .ok (.bastore, 1) := dk_84 (dk_at dksJ19_appendNull_1 18 rfl rfl)
theorem dJ19_appendNull_43 : decode cJ19_appendNull 43 = .ok (.aload_n 2, 1) := dk_44 (dk_at dksJ19_appendNull_1 19 rfl rfl)
theorem dJ19_appendNull_44 : decode cJ19_appendNull 44 = .ok (.iload_n 1, 1) := dk_27 (dk_at dksJ19_appendNull_1 20 rfl rfl)
theorem dJ19_appendNull_45 : decode cJ19_appendNull 45 = .ok (.iinc 1 1, 3) := dk_132 1 1 (dk_at dksJ19_appendNull_1 21 rfl rfl)
theorem dJ19_appendNull_48 : decode cJ19_appendNull 48 = .ok (.bipush 108, 2) := dk_16 108 (dk_at dksJ19_appendNull_2 0 rfl rfl)
theorem dJ19_appendNull_50 : decode cJ19_appendNull 50 = .ok (.bastore, 1) := dk_84 (dk_at dksJ19_appendNull_2 2 rfl rfl)
theorem dJ19_appendNull_51 : decode cJ19_appendNull 51 = .ok (.aload_n 2, 1) := dk_44 (dk_at dksJ19_appendNull_2 3 rfl rfl)
theorem dJ19_appendNull_52 : decode cJ19_appendNull 52 = .ok (.iload_n 1, 1) := dk_27 (dk_at dksJ19_appendNull_2 4 rfl rfl)
theorem dJ19_appendNull_53 : decode cJ19_appendNull 53 = .ok (.iinc 1 1, 3) := dk_132 1 1 (dk_at dksJ19_appendNull_2 5 rfl rfl)
theorem dJ19_appendNull_56 : decode cJ19_appendNull 56 = .ok (.bipush 108, 2) := dk_16 108 (dk_at dksJ19_appendNull_2 8 rfl rfl)
theorem dJ19_appendNull_58 : decode cJ19_appendNull 58 = .ok (.bastore, 1) := dk_84 (dk_at dksJ19_appendNull_2 10 rfl rfl)
theorem dJ19_appendNull_59 : decode cJ19_appendNull 59 = .ok (.goto 17, 3) := dk_167 0 17 (dk_at dksJ19_appendNull_2 11 rfl rfl)
theorem dJ19_appendNull_62 : decode cJ19_appendNull 62 = .ok (.aload_n 2, 1) := dk_44 (dk_at dksJ19_appendNull_2 14 rfl rfl)
theorem dJ19_appendNull_63 : decode cJ19_appendNull 63 = .ok (.iload_n 1, 1) := dk_27 (dk_at dksJ19_appendNull_2 15 rfl rfl)
theorem dJ19_appendNull_64 : decode cJ19_appendNull 64 = .ok (.bipush 110, 2) := dk_16 110 (dk_at dksJ19_appendNull_2 16 rfl rfl)
theorem dJ19_appendNull_66 : decode cJ19_appendNull 66 = .ok (.bipush 117, 2) := dk_16 117 (dk_at dksJ19_appendNull_2 18 rfl rfl)
theorem dJ19_appendNull_68 : decode cJ19_appendNull 68 = .ok (.bipush 108, 2) := dk_16 108 (dk_at dksJ19_appendNull_2 20 rfl rfl)
theorem dJ19_appendNull_70 : decode cJ19_appendNull 70 = .ok (.bipush 108, 2) := dk_16 108 (dk_at dksJ19_appendNull_2 22 rfl rfl)
theorem dJ19_appendNull_72 : decode cJ19_appendNull 72 = .ok (.invokestatic 226, 3) := dk_184 0 226 (dk_at dksJ19_appendNull_3 0 rfl rfl)
theorem dJ19_appendNull_75 : decode cJ19_appendNull 75 = .ok (.istore_n 1, 1) := dk_60 (dk_at dksJ19_appendNull_3 3 rfl rfl)
theorem dJ19_appendNull_76 : decode cJ19_appendNull 76 = .ok (.aload_n 0, 1) := dk_42 (dk_at dksJ19_appendNull_3 4 rfl rfl)
theorem dJ19_appendNull_77 : decode cJ19_appendNull 77 = .ok (.iload_n 1, 1) := dk_27 (dk_at dksJ19_appendNull_3 5 rfl rfl)
theorem dJ19_appendNull_78 : decode cJ19_appendNull 78 = .ok (.putfield 79, 3) := dk_181 0 79 (dk_at dksJ19_appendNull_3 6 rfl rfl)
theorem dJ19_appendNull_81 : decode cJ19_appendNull 81 = .ok (.aload_n 0, 1) := dk_42 (dk_at dksJ19_appendNull_3 9 rfl rfl)
theorem dJ19_appendNull_82 : decode cJ19_appendNull 82 = .ok (.areturn, 1) := dk_176 (dk_at dksJ19_appendNull_3 10 rfl rfl)
abbrev cJ19_putStringAt : ByteArray := prog_16_method_73_code
def yJ19_putStringAt : MethodName := ⟨RJ19, "putStringAt", "(ILjava/lang/String;)V"⟩
def dkwJ19_putStringAt_0 : List UInt8 := [42, 44, 182, 1, 141, 44, 42, 180, 0, 15, 27, 42, 180, 0, 22, 182, 1, 143, 177]
abbrev dktJ19_putStringAt_0 : List UInt8 := dkwJ19_putStringAt_0 ++ []
theorem dksJ19_putStringAt_0 : cJ19_putStringAt.data.toList.drop 0 = dktJ19_putStringAt_0 := by decide +kernel
theorem dJ19_putStringAt_0 : decode cJ19_putStringAt 0 = .ok (.aload_n 0, 1) := dk_42 (dk_at dksJ19_putStringAt_0 0 rfl rfl)
theorem dJ19_putStringAt_1 : decode cJ19_putStringAt 1 = .ok (.aload_n 2, 1) := dk_44 (dk_at dksJ19_putStringAt_0 1 rfl rfl)
theorem dJ19_putStringAt_2 : decode cJ19_putStringAt 2 = .ok (.invokevirtual 397, 3) := dk_182 1 141 (dk_at dksJ19_putStringAt_0 2 rfl rfl)
theorem dJ19_putStringAt_5 : decode cJ19_putStringAt 5 = .ok (.aload_n 2, 1) := dk_44 (dk_at dksJ19_putStringAt_0 5 rfl rfl)
theorem dJ19_putStringAt_6 : decode cJ19_putStringAt 6 = .ok (.aload_n 0, 1) := dk_42 (dk_at dksJ19_putStringAt_0 6 rfl rfl)
theorem dJ19_putStringAt_7 : decode cJ19_putStringAt 7 = .ok (.getfield 15, 3) := dk_180 0 15 (dk_at dksJ19_putStringAt_0 7 rfl rfl)
theorem dJ19_putStringAt_10 : decode cJ19_putStringAt 10 = .ok (.iload_n 1, 1) := dk_27 (dk_at dksJ19_putStringAt_0 10 rfl rfl)
theorem dJ19_putStringAt_11 : decode cJ19_putStringAt 11 = .ok (.aload_n 0, 1) := dk_42 (dk_at dksJ19_putStringAt_0 11 rfl rfl)
theorem dJ19_putStringAt_12 : decode cJ19_putStringAt 12 = .ok (.getfield 22, 3) := dk_180 0 22 (dk_at dksJ19_putStringAt_0 12 rfl rfl)
theorem dJ19_putStringAt_15 : decode cJ19_putStringAt 15 = .ok (.invokevirtual 399, 3) := dk_182 1 143 (dk_at dksJ19_putStringAt_0 15 rfl rfl)
theorem dJ19_putStringAt_18 : decode cJ19_putStringAt 18 = .ok (.return_, 1) := dk_177 (dk_at dksJ19_putStringAt_0 18 rfl rfl)
abbrev cJ19_inflateIfNeededFor : ByteArray := prog_16_method_71_code
def yJ19_inflateIfNeededFor : MethodName := ⟨RJ19, "inflateIfNeededFor", "(Ljava/lang/String;)V"⟩
def dkwJ19_inflateIfNeededFor_0 : List UInt8 := [178, 0, 18, 153, 0, 18, 42, 180, 0, 22, 43, 182, 0, 40, 159, 0, 7, 42, 182, 0, 195, 177]
abbrev dktJ19_inflateIfNeededFor_0 : List UInt8 := dkwJ19_inflateIfNeededFor_0 ++ []
theorem dksJ19_inflateIfNeededFor_0 : cJ19_inflateIfNeededFor.data.toList.drop 0 = dktJ19_inflateIfNeededFor_0 := by decide +kernel
theorem dJ19_inflateIfNeededFor_0 : decode cJ19_inflateIfNeededFor 0 = .ok (.getstatic 18, 3) := dk_178 0 18 (dk_at dksJ19_inflateIfNeededFor_0 0 rfl rfl)
theorem dJ19_inflateIfNeededFor_3 : decode cJ19_inflateIfNeededFor 3 = .ok (.ifCond .eq 18, 3) := dk_153 0 18 (dk_at dksJ19_inflateIfNeededFor_0 3 rfl rfl)
theorem dJ19_inflateIfNeededFor_6 : decode cJ19_inflateIfNeededFor 6 = .ok (.aload_n 0, 1) := dk_42 (dk_at dksJ19_inflateIfNeededFor_0 6 rfl rfl)
theorem dJ19_inflateIfNeededFor_7 : decode cJ19_inflateIfNeededFor 7 = .ok (.getfield 22, 3) := dk_180 0 22 (dk_at dksJ19_inflateIfNeededFor_0 7 rfl rfl)
theorem dJ19_inflateIfNeededFor_10 : decode cJ19_inflateIfNeededFor 10 = .ok (.aload_n 1, 1) := dk_43 (dk_at dksJ19_inflateIfNeededFor_0 10 rfl rfl)
theorem dJ19_inflateIfNeededFor_11 : decode cJ19_inflateIfNeededFor 11 = .ok (.invokevirtual 40, 3) := dk_182 0 40 (dk_at dksJ19_inflateIfNeededFor_0 11 rfl rfl)
theorem dJ19_inflateIfNeededFor_14 : decode cJ19_inflateIfNeededFor 14 = .ok (.if_icmp .eq 7, 3) := dk_159 0 7 (dk_at dksJ19_inflateIfNeededFor_0 14 rfl rfl)
theorem dJ19_inflateIfNeededFor_17 : decode cJ19_inflateIfNeededFor 17 = .ok (.aload_n 0, 1) := dk_42 (dk_at dksJ19_inflateIfNeededFor_0 17 rfl rfl)
theorem dJ19_inflateIfNeededFor_18 : decode cJ19_inflateIfNeededFor 18 = .ok (.invokevirtual 195, 3) := dk_182 0 195 (dk_at dksJ19_inflateIfNeededFor_0 18 rfl rfl)
theorem dJ19_inflateIfNeededFor_21 : decode cJ19_inflateIfNeededFor 21 = .ok (.return_, 1) := dk_177 (dk_at dksJ19_inflateIfNeededFor_0 21 rfl rfl)
theorem q80 : (Jvm.Cond.initialized "java/lang/AbstractStringBuilder") ∈ lw_all := lw_g (lw_at lw_m1 32 rfl) rfl
theorem q1043 : (Jvm.Cond.instanceMethod ({ cls := "java/lang/AbstractStringBuilder", name := "<init>", desc := "(I)V" } : Jvm.MethodName)) ∈ lw_all := lw_g (lw_at lw_m5 35 rfl) rfl
theorem q1044 : (Jvm.Cond.code ({ cls := "java/lang/AbstractStringBuilder", name := "<init>", desc := "(I)V" } : Jvm.MethodName) prog_16_method_2_code (2 : Nat) (Option.none : Option Jvm.ClassFile.FieldType)) ∈ lw_all := lw_g (lw_at lw_m5 36 rfl) rfl
theorem q1045 : (Jvm.Cond.methodLink "java/lang/AbstractStringBuilder" (3 : Nat) ({ cls := "java/lang/Object", name := "<init>", desc := "()V" } : Jvm.MethodName)) ∈ lw_all := lw_g (lw_at lw_m5 37 rfl) rfl
theorem q1046 : (Jvm.Cond.fieldLink "java/lang/AbstractStringBuilder" (18 : Nat) "java/lang/String" "COMPACT_STRINGS" "Z") ∈ lw_all := lw_g (lw_at lw_m5 38 rfl) rfl
theorem q1048 : (Jvm.Cond.methodLink "java/lang/AbstractStringBuilder" (26 : Nat) ({ cls := "java/lang/StringUTF16", name := "newBytesFor", desc := "(I)[B" } : Jvm.MethodName)) ∈ lw_all := lw_g (lw_at lw_m5 40 rfl) rfl
theorem q1055 : (Jvm.Cond.fieldLink "java/lang/AbstractStringBuilder" (15 : Nat) "java/lang/AbstractStringBuilder" "value" "[B") ∈ lw_all := lw_g (lw_at lw_m5 47 rfl) rfl
theorem q1056 : (Jvm.Cond.fieldLink "java/lang/AbstractStringBuilder" (22 : Nat) "java/lang/AbstractStringBuilder" "coder" "B") ∈ lw_all := lw_g (lw_at lw_m5 48 rfl) rfl
theorem q1058 : (Jvm.Cond.fieldLink "java/lang/AbstractStringBuilder" (79 : Nat) "java/lang/AbstractStringBuilder" "count" "I") ∈ lw_all := lw_g (lw_at lw_m5 50 rfl) rfl
theorem q1060 : (Jvm.Cond.soleField "java/lang/AbstractStringBuilder" "value") ∈ lw_all := lw_g (lw_at lw_m5 52 rfl) rfl
theorem q1062 : (Jvm.Cond.soleField "java/lang/AbstractStringBuilder" "coder") ∈ lw_all := lw_g (lw_at lw_m5 54 rfl) rfl
theorem q1064 : (Jvm.Cond.soleField "java/lang/AbstractStringBuilder" "maybeLatin1") ∈ lw_all := lw_g (lw_at lw_m5 56 rfl) rfl
theorem q1066 : (Jvm.Cond.soleField "java/lang/AbstractStringBuilder" "count") ∈ lw_all := lw_g (lw_at lw_m5 58 rfl) rfl
theorem q1077 : (Jvm.Cond.instanceMethod ({ cls := "java/lang/AbstractStringBuilder", name := "append", desc := "(C)Ljava/lang/AbstractStringBuilder;" } : Jvm.MethodName)) ∈ lw_all := lw_g (lw_at lw_m5 69 rfl) rfl
theorem q1078 : (Jvm.Cond.code ({ cls := "java/lang/AbstractStringBuilder", name := "append", desc := "(C)Ljava/lang/AbstractStringBuilder;" } : Jvm.MethodName) prog_16_method_31_code (2 : Nat) (Option.some (Jvm.ClassFile.FieldType.object "java/lang/AbstractStringBuilder"))) ∈ lw_all := lw_g (lw_at lw_m5 70 rfl) rfl
theorem q1079 : (Jvm.Cond.methodLink "java/lang/AbstractStringBuilder" (100 : Nat) ({ cls := "java/lang/AbstractStringBuilder", name := "ensureCapacityInternal", desc := "(I)V" } : Jvm.MethodName)) ∈ lw_all := lw_g (lw_at lw_m5 71 rfl) rfl
theorem q1080 : (Jvm.Cond.privateMethod ({ cls := "java/lang/AbstractStringBuilder", name := "ensureCapacityInternal", desc := "(I)V" } : Jvm.MethodName)) ∈ lw_tbl := lw_at lw_m5 72 rfl
theorem q1081 : (Jvm.Cond.instanceMethod ({ cls := "java/lang/AbstractStringBuilder", name := "ensureCapacityInternal", desc := "(I)V" } : Jvm.MethodName)) ∈ lw_all := lw_g (lw_at lw_m5 73 rfl) rfl
theorem q1082 : (Jvm.Cond.code ({ cls := "java/lang/AbstractStringBuilder", name := "ensureCapacityInternal", desc := "(I)V" } : Jvm.MethodName) prog_16_method_9_code (3 : Nat) (Option.none : Option Jvm.ClassFile.FieldType)) ∈ lw_all := lw_g (lw_at lw_m5 74 rfl) rfl
theorem q1083 : (Jvm.Cond.methodLink "java/lang/AbstractStringBuilder" (104 : Nat) ({ cls := "java/lang/AbstractStringBuilder", name := "newCapacity", desc := "(I)I" } : Jvm.MethodName)) ∈ lw_all := lw_g (lw_at lw_m5 75 rfl) rfl
theorem q1084 : (Jvm.Cond.privateMethod ({ cls := "java/lang/AbstractStringBuilder", name := "newCapacity", desc := "(I)I" } : Jvm.MethodName)) ∈ lw_tbl := lw_at lw_m5 76 rfl
theorem q1085 : (Jvm.Cond.instanceMethod ({ cls := "java/lang/AbstractStringBuilder", name := "newCapacity", desc := "(I)I" } : Jvm.MethodName)) ∈ lw_all := lw_g (lw_at lw_m5 77 rfl) rfl
theorem q1086 : (Jvm.Cond.code ({ cls := "java/lang/AbstractStringBuilder", name := "newCapacity", desc := "(I)I" } : Jvm.MethodName) prog_16_method_10_code (6 : Nat) (Option.some Jvm.ClassFile.FieldType.int)) ∈ lw_all := lw_g (lw_at lw_m5 78 rfl) rfl
theorem q1087 : (Jvm.Cond.methodLink "java/lang/AbstractStringBuilder" (114 : Nat) ({ cls := "jdk/internal/util/ArraysSupport", name := "newLength", desc := "(III)I" } : Jvm.MethodName)) ∈ lw_all := lw_g (lw_at lw_m5 79 rfl) rfl
theorem q1088 : (Jvm.Cond.constant "java/lang/AbstractStringBuilder" (39 : Nat) (2147483647 : Int32)) ∈ lw_all := lw_g (lw_at lw_m5 80 rfl) rfl
theorem q1089 : (Jvm.Cond.methodLink "java/lang/AbstractStringBuilder" (108 : Nat) ({ cls := "java/util/Arrays", name := "copyOf", desc := "([BI)[B" } : Jvm.MethodName)) ∈ lw_all := lw_g (lw_at lw_m5 81 rfl) rfl
theorem q1097 : (Jvm.Cond.methodLink "java/lang/AbstractStringBuilder" (83 : Nat) ({ cls := "java/lang/AbstractStringBuilder", name := "isLatin1", desc := "()Z" } : Jvm.MethodName)) ∈ lw_all := lw_g (lw_at lw_m5 89 rfl) rfl
theorem q1098 : (Jvm.Cond.instanceMethod ({ cls := "java/lang/AbstractStringBuilder", name := "isLatin1", desc := "()Z" } : Jvm.MethodName)) ∈ lw_all := lw_g (lw_at lw_m5 90 rfl) rfl
theorem q1099 : (Jvm.Cond.sameMethod "java/lang/AbstractStringBuilder" "java/lang/AbstractStringBuilder" "isLatin1" "()Z") ∈ lw_all := lw_g (lw_at lw_m5 91 rfl) rfl
theorem q1101 : (Jvm.Cond.code ({ cls := "java/lang/AbstractStringBuilder", name := "isLatin1", desc := "()Z" } : Jvm.MethodName) prog_16_method_68_code (1 : Nat) (Option.some Jvm.ClassFile.FieldType.boolean)) ∈ lw_all := lw_g (lw_at lw_m5 93 rfl) rfl
theorem q1102 : (Jvm.Cond.methodLink "java/lang/AbstractStringBuilder" (191 : Nat) ({ cls := "java/lang/StringLatin1", name := "canEncode", desc := "(C)Z" } : Jvm.MethodName)) ∈ lw_all := lw_g (lw_at lw_m5 94 rfl) rfl
theorem q1105 : (Jvm.Cond.methodLink "java/lang/AbstractStringBuilder" (195 : Nat) ({ cls := "java/lang/AbstractStringBuilder", name := "inflate", desc := "()V" } : Jvm.MethodName)) ∈ lw_all := lw_g (lw_at lw_m5 97 rfl) rfl
theorem q1106 : (Jvm.Cond.privateMethod ({ cls := "java/lang/AbstractStringBuilder", name := "inflate", desc := "()V" } : Jvm.MethodName)) ∈ lw_tbl := lw_at lw_m5 98 rfl
theorem q1107 : (Jvm.Cond.instanceMethod ({ cls := "java/lang/AbstractStringBuilder", name := "inflate", desc := "()V" } : Jvm.MethodName)) ∈ lw_all := lw_g (lw_at lw_m5 99 rfl) rfl
theorem q1108 : (Jvm.Cond.code ({ cls := "java/lang/AbstractStringBuilder", name := "inflate", desc := "()V" } : Jvm.MethodName) prog_16_method_11_code (2 : Nat) (Option.none : Option Jvm.ClassFile.FieldType)) ∈ lw_all := lw_g (lw_at lw_m5 100 rfl) rfl
theorem q1109 : (Jvm.Cond.methodLink "java/lang/AbstractStringBuilder" (125 : Nat) ({ cls := "java/lang/StringLatin1", name := "inflate", desc := "([BI[BII)V" } : Jvm.MethodName)) ∈ lw_all := lw_g (lw_at lw_m5 101 rfl) rfl
theorem q1138 : (Jvm.Cond.methodLink "java/lang/AbstractStringBuilder" (197 : Nat) ({ cls := "java/lang/StringUTF16", name := "putCharSB", desc := "([BII)V" } : Jvm.MethodName)) ∈ lw_all := lw_g (lw_at lw_m5 130 rfl) rfl
theorem q1161 : (Jvm.Cond.instanceMethod ({ cls := "java/lang/AbstractStringBuilder", name := "getValue", desc := "()[B" } : Jvm.MethodName)) ∈ lw_all := lw_g (lw_at lw_m5 153 rfl) rfl
theorem q1162 : (Jvm.Cond.sameMethod "java/lang/AbstractStringBuilder" "java/lang/AbstractStringBuilder" "getValue" "()[B") ∈ lw_all := lw_g (lw_at lw_m5 154 rfl) rfl
theorem q1164 : (Jvm.Cond.code ({ cls := "java/lang/AbstractStringBuilder", name := "getValue", desc := "()[B" } : Jvm.MethodName) prog_16_method_64_code (1 : Nat) (Option.some (Jvm.ClassFile.FieldType.array Jvm.ClassFile.FieldType.byte))) ∈ lw_all := lw_g (lw_at lw_m5 156 rfl) rfl
theorem q1166 : (Jvm.Cond.instanceMethod ({ cls := "java/lang/AbstractStringBuilder", name := "length", desc := "()I" } : Jvm.MethodName)) ∈ lw_all := lw_g (lw_at lw_m5 158 rfl) rfl
theorem q1167 : (Jvm.Cond.sameMethod "java/lang/AbstractStringBuilder" "java/lang/AbstractStringBuilder" "length" "()I") ∈ lw_all := lw_g (lw_at lw_m5 159 rfl) rfl
theorem q1172 : (Jvm.Cond.code ({ cls := "java/lang/AbstractStringBuilder", name := "length", desc := "()I" } : Jvm.MethodName) prog_16_method_6_code (1 : Nat) (Option.some Jvm.ClassFile.FieldType.int)) ∈ lw_all := lw_g (lw_at lw_m5 164 rfl) rfl
theorem q1191 : (Jvm.Cond.instanceMethod ({ cls := "java/lang/AbstractStringBuilder", name := "append", desc := "(I)Ljava/lang/AbstractStringBuilder;" } : Jvm.MethodName)) ∈ lw_all := lw_g (lw_at lw_m5 183 rfl) rfl
theorem q1192 : (Jvm.Cond.code ({ cls := "java/lang/AbstractStringBuilder", name := "append", desc := "(I)Ljava/lang/AbstractStringBuilder;" } : Jvm.MethodName) prog_16_method_32_code (4 : Nat) (Option.some (Jvm.ClassFile.FieldType.object "java/lang/AbstractStringBuilder"))) ∈ lw_all := lw_g (lw_at lw_m5 184 rfl) rfl
theorem q1193 : (Jvm.Cond.methodLink "java/lang/AbstractStringBuilder" (245 : Nat) ({ cls := "java/lang/Integer", name := "stringSize", desc := "(I)I" } : Jvm.MethodName)) ∈ lw_all := lw_g (lw_at lw_m5 185 rfl) rfl
theorem q1196 : (Jvm.Cond.methodLink "java/lang/AbstractStringBuilder" (248 : Nat) ({ cls := "java/lang/Integer", name := "getChars", desc := "(II[B)I" } : Jvm.MethodName)) ∈ lw_all := lw_g (lw_at lw_m5 188 rfl) rfl
theorem q1203 : (Jvm.Cond.methodLink "java/lang/AbstractStringBuilder" (251 : Nat) ({ cls := "java/lang/StringUTF16", name := "getChars", desc := "(III[B)I" } : Jvm.MethodName)) ∈ lw_all := lw_g (lw_at lw_m5 195 rfl) rfl
theorem q1226 : (Jvm.Cond.instanceMethod ({ cls := "java/lang/AbstractStringBuilder", name := "append", desc := "(Ljava/lang/String;)Ljava/lang/AbstractStringBuilder;" } : Jvm.MethodName)) ∈ lw_all := lw_g (lw_at lw_m5 218 rfl) rfl
theorem q1227 : (Jvm.Cond.code ({ cls := "java/lang/AbstractStringBuilder", name := "append", desc := "(Ljava/lang/String;)Ljava/lang/AbstractStringBuilder;" } : Jvm.MethodName) prog_16_method_22_code (3 : Nat) (Option.some (Jvm.ClassFile.FieldType.object "java/lang/AbstractStringBuilder"))) ∈ lw_all := lw_g (lw_at lw_m5 219 rfl) rfl
theorem q1228 : (Jvm.Cond.methodLink "java/lang/AbstractStringBuilder" (204 : Nat) ({ cls := "java/lang/AbstractStringBuilder", name := "appendNull", desc := "()Ljava/lang/AbstractStringBuilder;" } : Jvm.MethodName)) ∈ lw_all := lw_g (lw_at lw_m5 220 rfl) rfl
theorem q1229 : (Jvm.Cond.privateMethod ({ cls := "java/lang/AbstractStringBuilder", name := "appendNull", desc := "()Ljava/lang/AbstractStringBuilder;" } : Jvm.MethodName)) ∈ lw_tbl := lw_at lw_m5 221 rfl
theorem q1230 : (Jvm.Cond.instanceMethod ({ cls := "java/lang/AbstractStringBuilder", name := "appendNull", desc := "()Ljava/lang/AbstractStringBuilder;" } : Jvm.MethodName)) ∈ lw_all := lw_g (lw_at lw_m5 222 rfl) rfl
theorem q1231 : (Jvm.Cond.code ({ cls := "java/lang/AbstractStringBuilder", name := "appendNull", desc := "()Ljava/lang/AbstractStringBuilder;" } : Jvm.MethodName) prog_16_method_26_code (3 : Nat) (Option.some (Jvm.ClassFile.FieldType.object "java/lang/AbstractStringBuilder"))) ∈ lw_all := lw_g (lw_at lw_m5 223 rfl) rfl
theorem q1232 : (Jvm.Cond.methodLink "java/lang/AbstractStringBuilder" (226 : Nat) ({ cls := "java/lang/StringUTF16", name := "putCharsAt", desc := "([BICCCC)I" } : Jvm.MethodName)) ∈ lw_all := lw_g (lw_at lw_m5 224 rfl) rfl
theorem q1235 : (Jvm.Cond.methodLink "java/lang/AbstractStringBuilder" (32 : Nat) ({ cls := "java/lang/String", name := "length", desc := "()I" } : Jvm.MethodName)) ∈ lw_all := lw_g (lw_at lw_m5 227 rfl) rfl
theorem q1244 : (Jvm.Cond.methodLink "java/lang/AbstractStringBuilder" (208 : Nat) ({ cls := "java/lang/AbstractStringBuilder", name := "putStringAt", desc := "(ILjava/lang/String;)V" } : Jvm.MethodName)) ∈ lw_all := lw_g (lw_at lw_m5 236 rfl) rfl
theorem q1245 : (Jvm.Cond.privateMethod ({ cls := "java/lang/AbstractStringBuilder", name := "putStringAt", desc := "(ILjava/lang/String;)V" } : Jvm.MethodName)) ∈ lw_tbl := lw_at lw_m5 237 rfl
theorem q1246 : (Jvm.Cond.instanceMethod ({ cls := "java/lang/AbstractStringBuilder", name := "putStringAt", desc := "(ILjava/lang/String;)V" } : Jvm.MethodName)) ∈ lw_all := lw_g (lw_at lw_m5 238 rfl) rfl
theorem q1247 : (Jvm.Cond.code ({ cls := "java/lang/AbstractStringBuilder", name := "putStringAt", desc := "(ILjava/lang/String;)V" } : Jvm.MethodName) prog_16_method_73_code (3 : Nat) (Option.none : Option Jvm.ClassFile.FieldType)) ∈ lw_all := lw_g (lw_at lw_m5 239 rfl) rfl
theorem q1248 : (Jvm.Cond.methodLink "java/lang/AbstractStringBuilder" (397 : Nat) ({ cls := "java/lang/AbstractStringBuilder", name := "inflateIfNeededFor", desc := "(Ljava/lang/String;)V" } : Jvm.MethodName)) ∈ lw_all := lw_g (lw_at lw_m6 0 rfl) rfl
theorem q1249 : (Jvm.Cond.privateMethod ({ cls := "java/lang/AbstractStringBuilder", name := "inflateIfNeededFor", desc := "(Ljava/lang/String;)V" } : Jvm.MethodName)) ∈ lw_tbl := lw_at lw_m6 1 rfl
theorem q1250 : (Jvm.Cond.instanceMethod ({ cls := "java/lang/AbstractStringBuilder", name := "inflateIfNeededFor", desc := "(Ljava/lang/String;)V" } : Jvm.MethodName)) ∈ lw_all := lw_g (lw_at lw_m6 2 rfl) rfl
theorem q1251 : (Jvm.Cond.code ({ cls := "java/lang/AbstractStringBuilder", name := "inflateIfNeededFor", desc := "(Ljava/lang/String;)V" } : Jvm.MethodName) prog_16_method_71_code (2 : Nat) (Option.none : Option Jvm.ClassFile.FieldType)) ∈ lw_all := lw_g (lw_at lw_m6 3 rfl) rfl
theorem q1252 : (Jvm.Cond.methodLink "java/lang/AbstractStringBuilder" (40 : Nat) ({ cls := "java/lang/String", name := "coder", desc := "()B" } : Jvm.MethodName)) ∈ lw_all := lw_g (lw_at lw_m6 4 rfl) rfl
theorem q1253 : (Jvm.Cond.methodLink "java/lang/AbstractStringBuilder" (399 : Nat) ({ cls := "java/lang/String", name := "getBytes", desc := "([BIB)V" } : Jvm.MethodName)) ∈ lw_all := lw_g (lw_at lw_m6 5 rfl) rfl
theorem q1781 : (Jvm.Cond.sameMethod "java/lang/AbstractStringBuilder" "java/lang/AbstractStringBuilder" "append" "(C)Ljava/lang/AbstractStringBuilder;") ∈ lw_all := lw_g (lw_at lw_m8 53 rfl) rfl
theorem q1782 : (Jvm.Cond.sameMethod "java/lang/AbstractStringBuilder" "java/lang/AbstractStringBuilder" "ensureCapacityInternal" "(I)V") ∈ lw_all := lw_g (lw_at lw_m8 54 rfl) rfl
theorem q1783 : (Jvm.Cond.sameMethod "java/lang/AbstractStringBuilder" "java/lang/AbstractStringBuilder" "newCapacity" "(I)I") ∈ lw_all := lw_g (lw_at lw_m8 55 rfl) rfl
theorem q1784 : (Jvm.Cond.sameMethod "java/lang/AbstractStringBuilder" "java/lang/AbstractStringBuilder" "inflate" "()V") ∈ lw_all := lw_g (lw_at lw_m8 56 rfl) rfl
theorem q1785 : (Jvm.Cond.sameMethod "java/lang/AbstractStringBuilder" "java/lang/AbstractStringBuilder" "append" "(I)Ljava/lang/AbstractStringBuilder;") ∈ lw_all := lw_g (lw_at lw_m8 57 rfl) rfl
theorem q1786 : (Jvm.Cond.sameMethod "java/lang/AbstractStringBuilder" "java/lang/AbstractStringBuilder" "append" "(Ljava/lang/String;)Ljava/lang/AbstractStringBuilder;") ∈ lw_all := lw_g (lw_at lw_m8 58 rfl) rfl
theorem q1787 : (Jvm.Cond.sameMethod "java/lang/AbstractStringBuilder" "java/lang/AbstractStringBuilder" "appendNull" "()Ljava/lang/AbstractStringBuilder;") ∈ lw_all := lw_g (lw_at lw_m8 59 rfl) rfl
theorem q1788 : (Jvm.Cond.sameMethod "java/lang/AbstractStringBuilder" "java/lang/AbstractStringBuilder" "putStringAt" "(ILjava/lang/String;)V") ∈ lw_all := lw_g (lw_at lw_m8 60 rfl) rfl
theorem q1789 : (Jvm.Cond.sameMethod "java/lang/AbstractStringBuilder" "java/lang/AbstractStringBuilder" "inflateIfNeededFor" "(Ljava/lang/String;)V") ∈ lw_all := lw_g (lw_at lw_m8 61 rfl) rfl
/-! java/lang/StringBuilder -/
set_option maxRecDepth 100000
def RJ20 : String := "java/lang/StringBuilder"
def TJ20 : u_T := fun k => match k with
  | 0 => ("java/lang/AbstractStringBuilder", "value", "[B", false)
  | 1 => ("java/lang/AbstractStringBuilder", "coder", "B", false)
  | 2 => ("java/lang/AbstractStringBuilder", "maybeLatin1", "Z", false)
  | _ => ("java/lang/AbstractStringBuilder", "count", "I", false)
def tyJ20 : Nat → FieldType := fun k => match k with
  | 0 => .array .byte
  | 1 => .byte
  | 2 => .boolean
  | _ => .int
abbrev wsJ200 : List Cond := u_ws RJ20 TJ20 4
theorem nmJ20 : ∀ a, a < 4 → ∀ b, b < 4 → a ≠ b → (TJ20 a).2.1 ≠ (TJ20 b).2.1 := by decide +kernel
theorem tyJ20_ok : ∀ k, k < 4 → parseFieldDescriptor (TJ20 k).2.2.1 = some (tyJ20 k) := by decide +kernel
abbrev cJ20_init : ByteArray := prog_34_method_1_code
def yJ20_init : MethodName := ⟨RJ20, "<init>", "()V"⟩
def dkwJ20_init_0 : List UInt8 := [42, 16, 16, 183, 0, 1, 177]
abbrev dktJ20_init_0 : List UInt8 := dkwJ20_init_0 ++ []
theorem dksJ20_init_0 : cJ20_init.data.toList.drop 0 = dktJ20_init_0 := by decide +kernel
theorem dJ20_init_0 : decode cJ20_init 0 = .ok (.aload_n 0, 1) := dk_42 (dk_at dksJ20_init_0 0 rfl rfl)
theorem dJ20_init_1 : decode cJ20_init 1 = .ok (.bipush 16, 2) := dk_16 16 (dk_at dksJ20_init_0 1 rfl rfl)
theorem dJ20_init_3 : decode cJ20_init 3 = .ok (.invokespecial 1, 3) := dk_183 0 1 (dk_at dksJ20_init_0 3 rfl rfl)
theorem dJ20_init_6 : decode cJ20_init 6 = .ok (.return_, 1) := dk_177 (dk_at dksJ20_init_0 6 rfl rfl)
abbrev cJ20_append : ByteArray := prog_34_method_14_code
def yJ20_append : MethodName := ⟨RJ20, "append", "(C)Ljava/lang/StringBuilder;"⟩
def dkwJ20_append_0 : List UInt8 := [42, 27, 183, 0, 50, 87, 42, 176]
abbrev dktJ20_append_0 : List UInt8 := dkwJ20_append_0 ++ []
theorem dksJ20_append_0 : cJ20_append.data.toList.drop 0 = dktJ20_append_0 := by decide +kernel
theorem dJ20_append_0 : decode cJ20_append 0 = .ok (.aload_n 0, 1) := dk_42 (dk_at dksJ20_append_0 0 rfl rfl)
theorem dJ20_append_1 : decode cJ20_append 1 = .ok (.iload_n 1, 1) := dk_27 (dk_at dksJ20_append_0 1 rfl rfl)
theorem dJ20_append_2 : decode cJ20_append 2 = .ok (.invokespecial 50, 3) := dk_183 0 50 (dk_at dksJ20_append_0 2 rfl rfl)
theorem dJ20_append_5 : decode cJ20_append 5 = .ok (.pop, 1) := dk_87 (dk_at dksJ20_append_0 5 rfl rfl)
theorem dJ20_append_6 : decode cJ20_append 6 = .ok (.aload_n 0, 1) := dk_42 (dk_at dksJ20_append_0 6 rfl rfl)
theorem dJ20_append_7 : decode cJ20_append 7 = .ok (.areturn, 1) := dk_176 (dk_at dksJ20_append_0 7 rfl rfl)
abbrev cJ20_toString : ByteArray := prog_34_method_42_code
def yJ20_toString : MethodName := ⟨RJ20, "toString", "()Ljava/lang/String;"⟩
def dkwJ20_toString_0 : List UInt8 := [187, 0, 18, 89, 42, 183, 0, 137, 176]
abbrev dktJ20_toString_0 : List UInt8 := dkwJ20_toString_0 ++ []
theorem dksJ20_toString_0 : cJ20_toString.data.toList.drop 0 = dktJ20_toString_0 := by decide +kernel
theorem dJ20_toString_0 : decode cJ20_toString 0 = .ok (.new 18, 3) := dk_187 0 18 (dk_at dksJ20_toString_0 0 rfl rfl)
theorem dJ20_toString_3 : decode cJ20_toString 3 = .ok (.dup, 1) := dk_89 (dk_at dksJ20_toString_0 3 rfl rfl)
theorem dJ20_toString_4 : decode cJ20_toString 4 = .ok (.aload_n 0, 1) := dk_42 (dk_at dksJ20_toString_0 4 rfl rfl)
theorem dJ20_toString_5 : decode cJ20_toString 5 = .ok (.invokespecial 137, 3) := dk_183 0 137 (dk_at dksJ20_toString_0 5 rfl rfl)
theorem dJ20_toString_8 : decode cJ20_toString 8 = .ok (.areturn, 1) := dk_176 (dk_at dksJ20_toString_0 8 rfl rfl)
abbrev cJ20_length : ByteArray := prog_34_method_93_code
def yJ20_length : MethodName := ⟨RJ20, "length", "()I"⟩
theorem dJ20_length_0 : decode cJ20_length 0 = .ok (.aload_n 0, 1) := by decide +kernel
theorem dJ20_length_1 : decode cJ20_length 1 = .ok (.invokespecial 343, 3) := by decide +kernel
theorem dJ20_length_4 : decode cJ20_length 4 = .ok (.ireturn, 1) := by decide +kernel
abbrev cJ20_append_2 : ByteArray := prog_34_method_15_code
def yJ20_append_2 : MethodName := ⟨RJ20, "append", "(I)Ljava/lang/StringBuilder;"⟩
def dkwJ20_append_2_0 : List UInt8 := [42, 27, 183, 0, 53, 87, 42, 176]
abbrev dktJ20_append_2_0 : List UInt8 := dkwJ20_append_2_0 ++ []
theorem dksJ20_append_2_0 : cJ20_append_2.data.toList.drop 0 = dktJ20_append_2_0 := by decide +kernel
theorem dJ20_append_2_0 : decode cJ20_append_2 0 = .ok (.aload_n 0, 1) := dk_42 (dk_at dksJ20_append_2_0 0 rfl rfl)
theorem dJ20_append_2_1 : decode cJ20_append_2 1 = .ok (.iload_n 1, 1) := dk_27 (dk_at dksJ20_append_2_0 1 rfl rfl)
theorem dJ20_append_2_2 : decode cJ20_append_2 2 = .ok (.invokespecial 53, 3) := dk_183 0 53 (dk_at dksJ20_append_2_0 2 rfl rfl)
theorem dJ20_append_2_5 : decode cJ20_append_2 5 = .ok (.pop, 1) := dk_87 (dk_at dksJ20_append_2_0 5 rfl rfl)
theorem dJ20_append_2_6 : decode cJ20_append_2 6 = .ok (.aload_n 0, 1) := dk_42 (dk_at dksJ20_append_2_0 6 rfl rfl)
theorem dJ20_append_2_7 : decode cJ20_append_2 7 = .ok (.areturn, 1) := dk_176 (dk_at dksJ20_append_2_0 7 rfl rfl)
abbrev cJ20_append_3 : ByteArray := prog_34_method_7_code
def yJ20_append_3 : MethodName := ⟨RJ20, "append", "(Ljava/lang/String;)Ljava/lang/StringBuilder;"⟩
def dkwJ20_append_3_0 : List UInt8 := [42, 43, 183, 0, 29, 87, 42, 176]
abbrev dktJ20_append_3_0 : List UInt8 := dkwJ20_append_3_0 ++ []
theorem dksJ20_append_3_0 : cJ20_append_3.data.toList.drop 0 = dktJ20_append_3_0 := by decide +kernel
theorem dJ20_append_3_0 : decode cJ20_append_3 0 = .ok (.aload_n 0, 1) := dk_42 (dk_at dksJ20_append_3_0 0 rfl rfl)
theorem dJ20_append_3_1 : decode cJ20_append_3 1 = .ok (.aload_n 1, 1) := dk_43 (dk_at dksJ20_append_3_0 1 rfl rfl)
theorem dJ20_append_3_2 : decode cJ20_append_3 2 = .ok (.invokespecial 29, 3) := dk_183 0 29 (dk_at dksJ20_append_3_0 2 rfl rfl)
theorem dJ20_append_3_5 : decode cJ20_append_3 5 = .ok (.pop, 1) := dk_87 (dk_at dksJ20_append_3_0 5 rfl rfl)
theorem dJ20_append_3_6 : decode cJ20_append_3 6 = .ok (.aload_n 0, 1) := dk_42 (dk_at dksJ20_append_3_0 6 rfl rfl)
theorem dJ20_append_3_7 : decode cJ20_append_3 7 = .ok (.areturn, 1) := dk_176 (dk_at dksJ20_append_3_0 7 rfl rfl)
theorem q81 : (Jvm.Cond.initialized "java/lang/StringBuilder") ∈ lw_all := lw_g (lw_at lw_m1 33 rfl) rfl
theorem q845 : (Jvm.Cond.selects "java/lang/StringBuilder" ({ cls := "java/lang/Object", name := "getClass", desc := "()Ljava/lang/Class;" } : Jvm.MethodName) ({ cls := "java/lang/Object", name := "getClass", desc := "()Ljava/lang/Class;" } : Jvm.MethodName)) ∈ lw_all := lw_g (lw_at lw_m4 77 rfl) rfl
theorem q1038 : (Jvm.Cond.instantiable "java/lang/StringBuilder" (4 : Nat)) ∈ lw_all := lw_g (lw_at lw_m5 30 rfl) rfl
theorem q1040 : (Jvm.Cond.instanceMethod ({ cls := "java/lang/StringBuilder", name := "<init>", desc := "()V" } : Jvm.MethodName)) ∈ lw_all := lw_g (lw_at lw_m5 32 rfl) rfl
theorem q1041 : (Jvm.Cond.code ({ cls := "java/lang/StringBuilder", name := "<init>", desc := "()V" } : Jvm.MethodName) prog_34_method_1_code (1 : Nat) (Option.none : Option Jvm.ClassFile.FieldType)) ∈ lw_all := lw_g (lw_at lw_m5 33 rfl) rfl
theorem q1042 : (Jvm.Cond.methodLink "java/lang/StringBuilder" (1 : Nat) ({ cls := "java/lang/AbstractStringBuilder", name := "<init>", desc := "(I)V" } : Jvm.MethodName)) ∈ lw_all := lw_g (lw_at lw_m5 34 rfl) rfl
theorem q1059 : (Jvm.Cond.lays "java/lang/StringBuilder" "java/lang/AbstractStringBuilder" "value" "[B") ∈ lw_all := lw_g (lw_at lw_m5 51 rfl) rfl
theorem q1061 : (Jvm.Cond.lays "java/lang/StringBuilder" "java/lang/AbstractStringBuilder" "coder" "B") ∈ lw_all := lw_g (lw_at lw_m5 53 rfl) rfl
theorem q1063 : (Jvm.Cond.lays "java/lang/StringBuilder" "java/lang/AbstractStringBuilder" "maybeLatin1" "Z") ∈ lw_all := lw_g (lw_at lw_m5 55 rfl) rfl
theorem q1065 : (Jvm.Cond.lays "java/lang/StringBuilder" "java/lang/AbstractStringBuilder" "count" "I") ∈ lw_all := lw_g (lw_at lw_m5 57 rfl) rfl
theorem q1067 : (Jvm.Cond.superclass "java/lang/StringBuilder" "java/lang/AbstractStringBuilder") ∈ lw_all := lw_g (lw_at lw_m5 59 rfl) rfl
theorem q1073 : (Jvm.Cond.instanceMethod ({ cls := "java/lang/StringBuilder", name := "append", desc := "(C)Ljava/lang/StringBuilder;" } : Jvm.MethodName)) ∈ lw_all := lw_g (lw_at lw_m5 65 rfl) rfl
theorem q1074 : (Jvm.Cond.selects "java/lang/StringBuilder" ({ cls := "java/lang/StringBuilder", name := "append", desc := "(C)Ljava/lang/StringBuilder;" } : Jvm.MethodName) ({ cls := "java/lang/StringBuilder", name := "append", desc := "(C)Ljava/lang/StringBuilder;" } : Jvm.MethodName)) ∈ lw_all := lw_g (lw_at lw_m5 66 rfl) rfl
theorem q1075 : (Jvm.Cond.code ({ cls := "java/lang/StringBuilder", name := "append", desc := "(C)Ljava/lang/StringBuilder;" } : Jvm.MethodName) prog_34_method_14_code (2 : Nat) (Option.some (Jvm.ClassFile.FieldType.object "java/lang/StringBuilder"))) ∈ lw_all := lw_g (lw_at lw_m5 67 rfl) rfl
theorem q1076 : (Jvm.Cond.methodLink "java/lang/StringBuilder" (50 : Nat) ({ cls := "java/lang/AbstractStringBuilder", name := "append", desc := "(C)Ljava/lang/AbstractStringBuilder;" } : Jvm.MethodName)) ∈ lw_all := lw_g (lw_at lw_m5 68 rfl) rfl
theorem q1100 : (Jvm.Cond.selects "java/lang/StringBuilder" ({ cls := "java/lang/AbstractStringBuilder", name := "isLatin1", desc := "()Z" } : Jvm.MethodName) ({ cls := "java/lang/AbstractStringBuilder", name := "isLatin1", desc := "()Z" } : Jvm.MethodName)) ∈ lw_all := lw_g (lw_at lw_m5 92 rfl) rfl
theorem q1149 : (Jvm.Cond.instanceMethod ({ cls := "java/lang/StringBuilder", name := "toString", desc := "()Ljava/lang/String;" } : Jvm.MethodName)) ∈ lw_all := lw_g (lw_at lw_m5 141 rfl) rfl
theorem q1150 : (Jvm.Cond.selects "java/lang/StringBuilder" ({ cls := "java/lang/StringBuilder", name := "toString", desc := "()Ljava/lang/String;" } : Jvm.MethodName) ({ cls := "java/lang/StringBuilder", name := "toString", desc := "()Ljava/lang/String;" } : Jvm.MethodName)) ∈ lw_all := lw_g (lw_at lw_m5 142 rfl) rfl
theorem q1151 : (Jvm.Cond.code ({ cls := "java/lang/StringBuilder", name := "toString", desc := "()Ljava/lang/String;" } : Jvm.MethodName) prog_34_method_42_code (1 : Nat) (Option.some (Jvm.ClassFile.FieldType.object "java/lang/String"))) ∈ lw_all := lw_g (lw_at lw_m5 143 rfl) rfl
theorem q1152 : (Jvm.Cond.classLink "java/lang/StringBuilder" (18 : Nat) "java/lang/String") ∈ lw_all := lw_g (lw_at lw_m5 144 rfl) rfl
theorem q1153 : (Jvm.Cond.methodLink "java/lang/StringBuilder" (137 : Nat) ({ cls := "java/lang/String", name := "<init>", desc := "(Ljava/lang/StringBuilder;)V" } : Jvm.MethodName)) ∈ lw_all := lw_g (lw_at lw_m5 145 rfl) rfl
theorem q1163 : (Jvm.Cond.selects "java/lang/StringBuilder" ({ cls := "java/lang/AbstractStringBuilder", name := "getValue", desc := "()[B" } : Jvm.MethodName) ({ cls := "java/lang/AbstractStringBuilder", name := "getValue", desc := "()[B" } : Jvm.MethodName)) ∈ lw_all := lw_g (lw_at lw_m5 155 rfl) rfl
theorem q1168 : (Jvm.Cond.selects "java/lang/StringBuilder" ({ cls := "java/lang/AbstractStringBuilder", name := "length", desc := "()I" } : Jvm.MethodName) ({ cls := "java/lang/StringBuilder", name := "length", desc := "()I" } : Jvm.MethodName)) ∈ lw_all := lw_g (lw_at lw_m5 160 rfl) rfl
theorem q1169 : (Jvm.Cond.instanceMethod ({ cls := "java/lang/StringBuilder", name := "length", desc := "()I" } : Jvm.MethodName)) ∈ lw_all := lw_g (lw_at lw_m5 161 rfl) rfl
theorem q1170 : (Jvm.Cond.code ({ cls := "java/lang/StringBuilder", name := "length", desc := "()I" } : Jvm.MethodName) prog_34_method_93_code (1 : Nat) (Option.some Jvm.ClassFile.FieldType.int)) ∈ lw_all := lw_g (lw_at lw_m5 162 rfl) rfl
theorem q1171 : (Jvm.Cond.methodLink "java/lang/StringBuilder" (343 : Nat) ({ cls := "java/lang/AbstractStringBuilder", name := "length", desc := "()I" } : Jvm.MethodName)) ∈ lw_all := lw_g (lw_at lw_m5 163 rfl) rfl
theorem q1187 : (Jvm.Cond.instanceMethod ({ cls := "java/lang/StringBuilder", name := "append", desc := "(I)Ljava/lang/StringBuilder;" } : Jvm.MethodName)) ∈ lw_all := lw_g (lw_at lw_m5 179 rfl) rfl
theorem q1188 : (Jvm.Cond.selects "java/lang/StringBuilder" ({ cls := "java/lang/StringBuilder", name := "append", desc := "(I)Ljava/lang/StringBuilder;" } : Jvm.MethodName) ({ cls := "java/lang/StringBuilder", name := "append", desc := "(I)Ljava/lang/StringBuilder;" } : Jvm.MethodName)) ∈ lw_all := lw_g (lw_at lw_m5 180 rfl) rfl
theorem q1189 : (Jvm.Cond.code ({ cls := "java/lang/StringBuilder", name := "append", desc := "(I)Ljava/lang/StringBuilder;" } : Jvm.MethodName) prog_34_method_15_code (2 : Nat) (Option.some (Jvm.ClassFile.FieldType.object "java/lang/StringBuilder"))) ∈ lw_all := lw_g (lw_at lw_m5 181 rfl) rfl
theorem q1190 : (Jvm.Cond.methodLink "java/lang/StringBuilder" (53 : Nat) ({ cls := "java/lang/AbstractStringBuilder", name := "append", desc := "(I)Ljava/lang/AbstractStringBuilder;" } : Jvm.MethodName)) ∈ lw_all := lw_g (lw_at lw_m5 182 rfl) rfl
theorem q1222 : (Jvm.Cond.instanceMethod ({ cls := "java/lang/StringBuilder", name := "append", desc := "(Ljava/lang/String;)Ljava/lang/StringBuilder;" } : Jvm.MethodName)) ∈ lw_all := lw_g (lw_at lw_m5 214 rfl) rfl
theorem q1223 : (Jvm.Cond.selects "java/lang/StringBuilder" ({ cls := "java/lang/StringBuilder", name := "append", desc := "(Ljava/lang/String;)Ljava/lang/StringBuilder;" } : Jvm.MethodName) ({ cls := "java/lang/StringBuilder", name := "append", desc := "(Ljava/lang/String;)Ljava/lang/StringBuilder;" } : Jvm.MethodName)) ∈ lw_all := lw_g (lw_at lw_m5 215 rfl) rfl
theorem q1224 : (Jvm.Cond.code ({ cls := "java/lang/StringBuilder", name := "append", desc := "(Ljava/lang/String;)Ljava/lang/StringBuilder;" } : Jvm.MethodName) prog_34_method_7_code (2 : Nat) (Option.some (Jvm.ClassFile.FieldType.object "java/lang/StringBuilder"))) ∈ lw_all := lw_g (lw_at lw_m5 216 rfl) rfl
theorem q1225 : (Jvm.Cond.methodLink "java/lang/StringBuilder" (29 : Nat) ({ cls := "java/lang/AbstractStringBuilder", name := "append", desc := "(Ljava/lang/String;)Ljava/lang/AbstractStringBuilder;" } : Jvm.MethodName)) ∈ lw_all := lw_g (lw_at lw_m5 217 rfl) rfl
theorem q1812 : (Jvm.Cond.castable "java/lang/StringBuilder" "java/lang/Object") ∈ lw_tbl := lw_at lw_m8 84 rfl
theorem in_J20 : ∀ w ∈ wsJ200, w ∈ lw_all := lw_in wsJ200 [1059, 1061, 1063, 1065] (by decide +kernel) (by decide +kernel)
/-! java/lang/StringLatin1 -/
set_option maxRecDepth 100000
def RJ22 : String := "java/lang/StringLatin1"
abbrev cJ22_canEncode : ByteArray := prog_35_method_3_code
def yJ22_canEncode : MethodName := ⟨RJ22, "canEncode", "(C)Z"⟩
def dkwJ22_canEncode_0 : List UInt8 := [26, 17, 0, 255, 163, 0, 7, 4, 167, 0, 4, 3, 172]
abbrev dktJ22_canEncode_0 : List UInt8 := dkwJ22_canEncode_0 ++ []
theorem dksJ22_canEncode_0 : cJ22_canEncode.data.toList.drop 0 = dktJ22_canEncode_0 := by decide +kernel
theorem dJ22_canEncode_0 : decode cJ22_canEncode 0 = .ok (.iload_n 0, 1) := dk_26 (dk_at dksJ22_canEncode_0 0 rfl rfl)
theorem dJ22_canEncode_1 : decode cJ22_canEncode 1 = .ok (.sipush 255, 3) := dk_17 0 255 (dk_at dksJ22_canEncode_0 1 rfl rfl)
theorem dJ22_canEncode_4 : decode cJ22_canEncode 4 = .ok (.if_icmp .gt 7, 3) := dk_163 0 7 (dk_at dksJ22_canEncode_0 4 rfl rfl)
theorem dJ22_canEncode_7 : decode cJ22_canEncode 7 = .ok (.iconst 1, 1) := dk_4 (dk_at dksJ22_canEncode_0 7 rfl rfl)
theorem dJ22_canEncode_8 : decode cJ22_canEncode 8 = .ok (.goto 4, 3) := dk_167 0 4 (dk_at dksJ22_canEncode_0 8 rfl rfl)
theorem dJ22_canEncode_11 : decode cJ22_canEncode 11 = .ok (.iconst 0, 1) := dk_3 (dk_at dksJ22_canEncode_0 11 rfl rfl)
theorem dJ22_canEncode_12 : decode cJ22_canEncode 12 = .ok (.ireturn, 1) := dk_172 (dk_at dksJ22_canEncode_0 12 rfl rfl)
abbrev cJ22_inflate : ByteArray := prog_35_method_50_code
def yJ22_inflate : MethodName := ⟨RJ22, "inflate", "([BI[BII)V"⟩
def dkwJ22_inflate_0 : List UInt8 := [42, 27, 44, 29, 21, 4, 184, 0, 240, 177]
abbrev dktJ22_inflate_0 : List UInt8 := dkwJ22_inflate_0 ++ []
theorem dksJ22_inflate_0 : cJ22_inflate.data.toList.drop 0 = dktJ22_inflate_0 := by decide +kernel
theorem dJ22_inflate_0 : decode cJ22_inflate 0 = .ok (.aload_n 0, 1) := dk_42 (dk_at dksJ22_inflate_0 0 rfl rfl)
theorem dJ22_inflate_1 : decode cJ22_inflate 1 = .ok (.iload_n 1, 1) := dk_27 (dk_at dksJ22_inflate_0 1 rfl rfl)
theorem dJ22_inflate_2 : decode cJ22_inflate 2 = .ok (.aload_n 2, 1) := dk_44 (dk_at dksJ22_inflate_0 2 rfl rfl)
theorem dJ22_inflate_3 : decode cJ22_inflate 3 = .ok (.iload_n 3, 1) := dk_29 (dk_at dksJ22_inflate_0 3 rfl rfl)
theorem dJ22_inflate_4 : decode cJ22_inflate 4 = .ok (.iload 4, 2) := dk_21 4 (dk_at dksJ22_inflate_0 4 rfl rfl)
theorem dJ22_inflate_6 : decode cJ22_inflate 6 = .ok (.invokestatic 240, 3) := dk_184 0 240 (dk_at dksJ22_inflate_0 6 rfl rfl)
theorem dJ22_inflate_9 : decode cJ22_inflate 9 = .ok (.return_, 1) := dk_177 (dk_at dksJ22_inflate_0 9 rfl rfl)
abbrev cJ22_charAt : ByteArray := prog_35_method_2_code
def yJ22_charAt : MethodName := ⟨RJ22, "charAt", "([BI)C"⟩
def dkwJ22_charAt_0 : List UInt8 := [27, 42, 190, 184, 0, 9, 42, 27, 51, 17, 0, 255, 126, 146, 172]
abbrev dktJ22_charAt_0 : List UInt8 := dkwJ22_charAt_0 ++ []
theorem dksJ22_charAt_0 : cJ22_charAt.data.toList.drop 0 = dktJ22_charAt_0 := by decide +kernel
theorem dJ22_charAt_0 : decode cJ22_charAt 0 = .ok (.iload_n 1, 1) := dk_27 (dk_at dksJ22_charAt_0 0 rfl rfl)
theorem dJ22_charAt_1 : decode cJ22_charAt 1 = .ok (.aload_n 0, 1) := dk_42 (dk_at dksJ22_charAt_0 1 rfl rfl)
theorem dJ22_charAt_2 : decode cJ22_charAt 2 = .ok (.arraylength, 1) := dk_190 (dk_at dksJ22_charAt_0 2 rfl rfl)
theorem dJ22_charAt_3 : decode cJ22_charAt 3 = .ok (.invokestatic 9, 3) := dk_184 0 9 (dk_at dksJ22_charAt_0 3 rfl rfl)
theorem dJ22_charAt_6 : decode cJ22_charAt 6 = .ok (.aload_n 0, 1) := dk_42 (dk_at dksJ22_charAt_0 6 rfl rfl)
theorem dJ22_charAt_7 : decode cJ22_charAt 7 = .ok (.iload_n 1, 1) := dk_27 (dk_at dksJ22_charAt_0 7 rfl rfl)
theorem dJ22_charAt_8 : decode cJ22_charAt 8 = .ok (.baload, 1) := dk_51 (dk_at dksJ22_charAt_0 8 rfl rfl)
theorem dJ22_charAt_9 : decode cJ22_charAt 9 = .ok (.sipush 255, 3) := dk_17 0 255 (dk_at dksJ22_charAt_0 9 rfl rfl)
theorem dJ22_charAt_12 : decode cJ22_charAt 12 = .ok (.iand, 1) := dk_126 (dk_at dksJ22_charAt_0 12 rfl rfl)
theorem dJ22_charAt_13 : decode cJ22_charAt 13 = .ok (.i2c, 1) := dk_146 (dk_at dksJ22_charAt_0 13 rfl rfl)
theorem dJ22_charAt_14 : decode cJ22_charAt 14 = .ok (.ireturn, 1) := dk_172 (dk_at dksJ22_charAt_0 14 rfl rfl)
abbrev cJ22_equals : ByteArray := prog_35_method_13_code
def yJ22_equals : MethodName := ⟨RJ22, "equals", "([B[B)Z"⟩
def dkwJ22_equals_1 : List UInt8 := [3, 172, 132, 2, 1, 167, 255, 236, 4, 172, 3, 172]
abbrev dktJ22_equals_1 : List UInt8 := dkwJ22_equals_1 ++ []
def dkwJ22_equals_0 : List UInt8 := [42, 190, 43, 190, 160, 0, 30, 3, 61, 28, 42, 190, 162, 0, 20, 42, 28, 51, 43, 28, 51, 159, 0, 5]
abbrev dktJ22_equals_0 : List UInt8 := dkwJ22_equals_0 ++ dktJ22_equals_1
theorem dksJ22_equals_0 : cJ22_equals.data.toList.drop 0 = dktJ22_equals_0 := by decide +kernel
theorem dksJ22_equals_1 : cJ22_equals.data.toList.drop 24 = dktJ22_equals_1 := dk_seg dksJ22_equals_0 24 rfl rfl
theorem dJ22_equals_0 : decode cJ22_equals 0 = .ok (.aload_n 0, 1) := dk_42 (dk_at dksJ22_equals_0 0 rfl rfl)
theorem dJ22_equals_1 : decode cJ22_equals 1 = .ok (.arraylength, 1) := dk_190 (dk_at dksJ22_equals_0 1 rfl rfl)
theorem dJ22_equals_2 : decode cJ22_equals 2 = .ok (.aload_n 1, 1) := dk_43 (dk_at dksJ22_equals_0 2 rfl rfl)
theorem dJ22_equals_3 : decode cJ22_equals 3 = .ok (.arraylength, 1) := dk_190 (dk_at dksJ22_equals_0 3 rfl rfl)
theorem dJ22_equals_4 : decode cJ22_equals 4 = .ok (.if_icmp .ne 30, 3) := dk_160 0 30 (dk_at dksJ22_equals_0 4 rfl rfl)
theorem dJ22_equals_7 : decode cJ22_equals 7 = .ok (.iconst 0, 1) := dk_3 (dk_at dksJ22_equals_0 7 rfl rfl)
theorem dJ22_equals_8 : decode cJ22_equals 8 = .ok (.istore_n 2, 1) := dk_61 (dk_at dksJ22_equals_0 8 rfl rfl)
theorem dJ22_equals_9 : decode cJ22_equals 9 = .ok (.iload_n 2, 1) := dk_28 (dk_at dksJ22_equals_0 9 rfl rfl)
theorem dJ22_equals_10 : decode cJ22_equals 10 = .ok (.aload_n 0, 1) := dk_42 (dk_at dksJ22_equals_0 10 rfl rfl)
theorem dJ22_equals_11 : decode cJ22_equals 11 = .ok (.arraylength, 1) := dk_190 (dk_at dksJ22_equals_0 11 rfl rfl)
theorem dJ22_equals_12 : decode cJ22_equals 12 = .ok (.if_icmp .ge 20, 3) := dk_162 0 20 (dk_at dksJ22_equals_0 12 rfl rfl)
theorem dJ22_equals_15 : decode cJ22_equals 15 = .ok (.aload_n 0, 1) := dk_42 (dk_at dksJ22_equals_0 15 rfl rfl)
theorem dJ22_equals_16 : decode cJ22_equals 16 = .ok (.iload_n 2, 1) := dk_28 (dk_at dksJ22_equals_0 16 rfl rfl)
theorem dJ22_equals_17 : decode cJ22_equals 17 = .ok (.baload, 1) := dk_51 (dk_at dksJ22_equals_0 17 rfl rfl)
theorem dJ22_equals_18 : decode cJ22_equals 18 = .ok (.aload_n 1, 1) := dk_43 (dk_at dksJ22_equals_0 18 rfl rfl)
theorem dJ22_equals_19 : decode cJ22_equals 19 = .ok (.iload_n 2, 1) := dk_28 (dk_at dksJ22_equals_0 19 rfl rfl)
theorem dJ22_equals_20 : decode cJ22_equals 20 = .ok (.baload, 1) := dk_51 (dk_at dksJ22_equals_0 20 rfl rfl)
theorem dJ22_equals_21 : decode cJ22_equals 21 = .ok (.if_icmp .eq 5, 3) := dk_159 0 5 (dk_at dksJ22_equals_0 21 rfl rfl)
theorem dJ22_equals_24 : decode cJ22_equals 24 = .ok (.iconst 0, 1) := dk_3 (dk_at dksJ22_equals_1 0 rfl rfl)
theorem dJ22_equals_25 : decode cJ22_equals 25 = .ok (.ireturn, 1) := dk_172 (dk_at dksJ22_equals_1 1 rfl rfl)
theorem dJ22_equals_26 : decode cJ22_equals 26 = .ok (.iinc 2 1, 3) := dk_132 2 1 (dk_at dksJ22_equals_1 2 rfl rfl)
theorem dJ22_equals_29 : decode cJ22_equals 29 = .ok (.goto (-20), 3) := dk_167 255 236 (dk_at dksJ22_equals_1 5 rfl rfl)
theorem dJ22_equals_32 : decode cJ22_equals 32 = .ok (.iconst 1, 1) := dk_4 (dk_at dksJ22_equals_1 8 rfl rfl)
theorem dJ22_equals_33 : decode cJ22_equals 33 = .ok (.ireturn, 1) := dk_172 (dk_at dksJ22_equals_1 9 rfl rfl)
theorem dJ22_equals_34 : decode cJ22_equals 34 = .ok (.iconst 0, 1) := dk_3 (dk_at dksJ22_equals_1 10 rfl rfl)
theorem dJ22_equals_35 : decode cJ22_equals 35 = .ok (.ireturn, 1) := dk_172 (dk_at dksJ22_equals_1 11 rfl rfl)
theorem q83 : (Jvm.Cond.initialized "java/lang/StringLatin1") ∈ lw_all := lw_g (lw_at lw_m1 35 rfl) rfl
theorem q1103 : (Jvm.Cond.static ({ cls := "java/lang/StringLatin1", name := "canEncode", desc := "(C)Z" } : Jvm.MethodName)) ∈ lw_all := lw_g (lw_at lw_m5 95 rfl) rfl
theorem q1104 : (Jvm.Cond.code ({ cls := "java/lang/StringLatin1", name := "canEncode", desc := "(C)Z" } : Jvm.MethodName) prog_35_method_3_code (1 : Nat) (Option.some Jvm.ClassFile.FieldType.boolean)) ∈ lw_all := lw_g (lw_at lw_m5 96 rfl) rfl
theorem q1110 : (Jvm.Cond.static ({ cls := "java/lang/StringLatin1", name := "inflate", desc := "([BI[BII)V" } : Jvm.MethodName)) ∈ lw_all := lw_g (lw_at lw_m5 102 rfl) rfl
theorem q1111 : (Jvm.Cond.code ({ cls := "java/lang/StringLatin1", name := "inflate", desc := "([BI[BII)V" } : Jvm.MethodName) prog_35_method_50_code (5 : Nat) (Option.none : Option Jvm.ClassFile.FieldType)) ∈ lw_all := lw_g (lw_at lw_m5 103 rfl) rfl
theorem q1112 : (Jvm.Cond.methodLink "java/lang/StringLatin1" (240 : Nat) ({ cls := "java/lang/StringUTF16", name := "inflate", desc := "([BI[BII)V" } : Jvm.MethodName)) ∈ lw_all := lw_g (lw_at lw_m5 104 rfl) rfl
theorem q1683 : (Jvm.Cond.static ({ cls := "java/lang/StringLatin1", name := "charAt", desc := "([BI)C" } : Jvm.MethodName)) ∈ lw_all := lw_g (lw_at lw_m7 195 rfl) rfl
theorem q1684 : (Jvm.Cond.code ({ cls := "java/lang/StringLatin1", name := "charAt", desc := "([BI)C" } : Jvm.MethodName) prog_35_method_2_code (2 : Nat) (Option.some Jvm.ClassFile.FieldType.char)) ∈ lw_all := lw_g (lw_at lw_m7 196 rfl) rfl
theorem q1685 : (Jvm.Cond.methodLink "java/lang/StringLatin1" (9 : Nat) ({ cls := "java/lang/String", name := "checkIndex", desc := "(II)V" } : Jvm.MethodName)) ∈ lw_all := lw_g (lw_at lw_m7 197 rfl) rfl
theorem q1778 : (Jvm.Cond.static ({ cls := "java/lang/StringLatin1", name := "equals", desc := "([B[B)Z" } : Jvm.MethodName)) ∈ lw_all := lw_g (lw_at lw_m8 50 rfl) rfl
theorem q1779 : (Jvm.Cond.code ({ cls := "java/lang/StringLatin1", name := "equals", desc := "([B[B)Z" } : Jvm.MethodName) prog_35_method_13_code (3 : Nat) (Option.some Jvm.ClassFile.FieldType.boolean)) ∈ lw_all := lw_g (lw_at lw_m8 51 rfl) rfl
/-! java/lang/Integer -/
set_option maxRecDepth 100000
def RJ23 : String := "java/lang/Integer"
abbrev cJ23_stringSize : ByteArray := prog_27_method_13_code
def yJ23_stringSize : MethodName := ⟨RJ23, "stringSize", "(I)I"⟩
def dkwJ23_stringSize_1 : List UInt8 := [164, 0, 7, 29, 27, 96, 172, 16, 10, 28, 104, 61, 132, 3, 1, 167, 255, 233, 16, 10, 27, 96, 172]
abbrev dktJ23_stringSize_1 : List UInt8 := dkwJ23_stringSize_1 ++ []
def dkwJ23_stringSize_0 : List UInt8 := [4, 60, 26, 155, 0, 8, 3, 60, 26, 116, 59, 16, 246, 61, 4, 62, 29, 16, 10, 162, 0, 23, 26, 28]
abbrev dktJ23_stringSize_0 : List UInt8 := dkwJ23_stringSize_0 ++ dktJ23_stringSize_1
theorem dksJ23_stringSize_0 : cJ23_stringSize.data.toList.drop 0 = dktJ23_stringSize_0 := by decide +kernel
theorem dksJ23_stringSize_1 : cJ23_stringSize.data.toList.drop 24 = dktJ23_stringSize_1 := dk_seg dksJ23_stringSize_0 24 rfl rfl
theorem dJ23_stringSize_0 : decode cJ23_stringSize 0 = .ok (.iconst 1, 1) := dk_4 (dk_at dksJ23_stringSize_0 0 rfl rfl)
theorem dJ23_stringSize_1 : decode cJ23_stringSize 1 = .ok (.istore_n 1, 1) := dk_60 (dk_at dksJ23_stringSize_0 1 rfl rfl)
theorem dJ23_stringSize_2 : decode cJ23_stringSize 2 = .ok (.iload_n 0, 1) := dk_26 (dk_at dksJ23_stringSize_0 2 rfl rfl)
theorem dJ23_stringSize_3 : decode cJ23_stringSize 3 = .ok (.ifCond .lt 8, 3) := dk_155 0 8 (dk_at dksJ23_stringSize_0 3 rfl rfl)
theorem dJ23_stringSize_6 : decode cJ23_stringSize 6 = .ok (.iconst 0, 1) := dk_3 (dk_at dksJ23_stringSize_0 6 rfl rfl)
theorem dJ23_stringSize_7 : decode cJ23_stringSize 7 = .ok (.istore_n 1, 1) := dk_60 (dk_at dksJ23_stringSize_0 7 rfl rfl)
theorem dJ23_stringSize_8 : decode cJ23_stringSize 8 = .ok (.iload_n 0, 1) := dk_26 (dk_at dksJ23_stringSize_0 8 rfl rfl)
theorem dJ23_stringSize_9 : decode cJ23_stringSize 9 = .ok (.ineg, 1) := dk_116 (dk_at dksJ23_stringSize_0 9 rfl rfl)
theorem dJ23_stringSize_10 : decode cJ23_stringSize 10 = .ok (.istore_n 0, 1) := dk_59 (dk_at dksJ23_stringSize_0 10 rfl rfl)
theorem dJ23_stringSize_11 : decode cJ23_stringSize 11 = .ok (.bipush (-10), 2) := dk_16 246 (dk_at dksJ23_stringSize_0 11 rfl rfl)
theorem dJ23_stringSize_13 : decode cJ23_stringSize 13 = .ok (.istore_n 2, 1) := dk_61 (dk_at dksJ23_stringSize_0 13 rfl rfl)
theorem dJ23_stringSize_14 : decode cJ23_stringSize 14 = .ok (.iconst 1, 1) := dk_4 (dk_at dksJ23_stringSize_0 14 rfl rfl)
theorem dJ23_stringSize_15 : decode cJ23_stringSize 15 = .ok (.istore_n 3, 1) := dk_62 (dk_at dksJ23_stringSize_0 15 rfl rfl)
theorem dJ23_stringSize_16 : decode cJ23_stringSize 16 = .ok (.iload_n 3, 1) := dk_29 (dk_at dksJ23_stringSize_0 16 rfl rfl)
theorem dJ23_stringSize_17 : decode cJ23_stringSize 17 = .ok (.bipush 10, 2) := dk_16 10 (dk_at dksJ23_stringSize_0 17 rfl rfl)
theorem dJ23_stringSize_19 : decode cJ23_stringSize 19 = .ok (.if_icmp .ge 23, 3) := dk_162 0 23 (dk_at dksJ23_stringSize_0 19 rfl rfl)
theorem dJ23_stringSize_22 : decode cJ23_stringSize 22 = .ok (.iload_n 0, 1) := dk_26 (dk_at dksJ23_stringSize_0 22 rfl rfl)
theorem dJ23_stringSize_23 : decode cJ23_stringSize 23 = .ok (.iload_n 2, 1) := dk_28 (dk_at dksJ23_stringSize_0 23 rfl rfl)
theorem dJ23_stringSize_24 : decode cJ23_stringSize 24 = .ok (.if_icmp .le 7, 3) := dk_164 0 7 (dk_at dksJ23_stringSize_1 0 rfl rfl)
theorem dJ23_stringSize_27 : decode cJ23_stringSize 27 = .ok (.iload_n 3, 1) := dk_29 (dk_at dksJ23_stringSize_1 3 rfl rfl)
theorem dJ23_stringSize_28 : decode cJ23_stringSize 28 = .ok (.iload_n 1, 1) := dk_27 (dk_at dksJ23_stringSize_1 4 rfl rfl)
theorem dJ23_stringSize_29 : decode cJ23_stringSize 29 = .ok (.iadd, 1) := dk_96 (dk_at dksJ23_stringSize_1 5 rfl rfl)
theorem dJ23_stringSize_30 : decode cJ23_stringSize 30 = .ok (.ireturn, 1) := dk_172 (dk_at dksJ23_stringSize_1 6 rfl rfl)
theorem dJ23_stringSize_31 : decode cJ23_stringSize 31 = .ok (.bipush 10, 2) := dk_16 10 (dk_at dksJ23_stringSize_1 7 rfl rfl)
theorem dJ23_stringSize_33 : decode cJ23_stringSize 33 = .ok (.iload_n 2, 1) := dk_28 (dk_at dksJ23_stringSize_1 9 rfl rfl)
theorem dJ23_stringSize_34 : decode cJ23_stringSize 34 = .ok (.imul, 1) := dk_104 (dk_at dksJ23_stringSize_1 10 rfl rfl)
theorem dJ23_stringSize_35 : decode cJ23_stringSize 35 = .ok (.istore_n 2, 1) := dk_61 (dk_at dksJ23_stringSize_1 11 rfl rfl)
theorem dJ23_stringSize_36 : decode cJ23_stringSize 36 = .ok (.iinc 3 1, 3) := dk_132 3 1 (dk_at dksJ23_stringSize_1 12 rfl rfl)
theorem dJ23_stringSize_39 : decode cJ23_stringSize 39 = .ok (.goto (-23), 3) := dk_167 255 233 (dk_at dksJ23_stringSize_1 15 rfl rfl)
theorem dJ23_stringSize_42 : decode cJ23_stringSize 42 = .ok (.bipush 10, 2) := dk_16 10 (dk_at dksJ23_stringSize_1 18 rfl rfl)
theorem dJ23_stringSize_44 : decode cJ23_stringSize 44 = .ok (.iload_n 1, 1) := dk_27 (dk_at dksJ23_stringSize_1 20 rfl rfl)
theorem dJ23_stringSize_45 : decode cJ23_stringSize 45 = .ok (.iadd, 1) := dk_96 (dk_at dksJ23_stringSize_1 21 rfl rfl)
theorem dJ23_stringSize_46 : decode cJ23_stringSize 46 = .ok (.ireturn, 1) := dk_172 (dk_at dksJ23_stringSize_1 22 rfl rfl)
abbrev cJ23_getChars : ByteArray := prog_27_method_12_code
def yJ23_getChars : MethodName := ⟨RJ23, "getChars", "(II[B)I"⟩
def dkwJ23_getChars_5 : List UInt8 := [16, 45, 84, 21, 5, 172]
abbrev dktJ23_getChars_5 : List UInt8 := dkwJ23_getChars_5 ++ []
def dkwJ23_getChars_4 : List UInt8 := [132, 5, 255, 21, 5, 178, 0, 87, 26, 116, 51, 84, 21, 6, 153, 0, 12, 44, 132, 5, 255, 21, 5]
abbrev dktJ23_getChars_4 : List UInt8 := dkwJ23_getChars_4 ++ dktJ23_getChars_5
def dkwJ23_getChars_3 : List UInt8 := [167, 255, 209, 44, 132, 5, 255, 21, 5, 178, 0, 83, 26, 116, 51, 84, 26, 16, 247, 162, 0, 16, 44]
abbrev dktJ23_getChars_3 : List UInt8 := dkwJ23_getChars_3 ++ dktJ23_getChars_4
def dkwJ23_getChars_2 : List UInt8 := [21, 5, 178, 0, 83, 21, 4, 51, 84, 44, 132, 5, 255, 21, 5, 178, 0, 87, 21, 4, 51, 84]
abbrev dktJ23_getChars_2 : List UInt8 := dkwJ23_getChars_2 ++ dktJ23_getChars_3
def dkwJ23_getChars_1 : List UInt8 := [16, 156, 163, 0, 47, 26, 16, 100, 108, 62, 29, 16, 100, 104, 26, 100, 54, 4, 29, 59, 44, 132, 5, 255]
abbrev dktJ23_getChars_1 : List UInt8 := dkwJ23_getChars_1 ++ dktJ23_getChars_2
def dkwJ23_getChars_0 : List UInt8 := [27, 54, 5, 26, 156, 0, 7, 4, 167, 0, 4, 3, 54, 6, 21, 6, 154, 0, 6, 26, 116, 59, 26]
abbrev dktJ23_getChars_0 : List UInt8 := dkwJ23_getChars_0 ++ dktJ23_getChars_1
theorem dksJ23_getChars_0 : cJ23_getChars.data.toList.drop 0 = dktJ23_getChars_0 := by decide +kernel
theorem dksJ23_getChars_1 : cJ23_getChars.data.toList.drop 23 = dktJ23_getChars_1 := dk_seg dksJ23_getChars_0 23 rfl rfl
theorem dksJ23_getChars_2 : cJ23_getChars.data.toList.drop 47 = dktJ23_getChars_2 := dk_seg dksJ23_getChars_1 24 rfl rfl
theorem dksJ23_getChars_3 : cJ23_getChars.data.toList.drop 69 = dktJ23_getChars_3 := dk_seg dksJ23_getChars_2 22 rfl rfl
theorem dksJ23_getChars_4 : cJ23_getChars.data.toList.drop 92 = dktJ23_getChars_4 := dk_seg dksJ23_getChars_3 23 rfl rfl
theorem dksJ23_getChars_5 : cJ23_getChars.data.toList.drop 115 = dktJ23_getChars_5 := dk_seg dksJ23_getChars_4 23 rfl rfl
theorem dJ23_getChars_0 : decode cJ23_getChars 0 = .ok (.iload_n 1, 1) := dk_27 (dk_at dksJ23_getChars_0 0 rfl rfl)
theorem dJ23_getChars_1 : decode cJ23_getChars 1 = .ok (.istore 5, 2) := dk_54 5 (dk_at dksJ23_getChars_0 1 rfl rfl)
theorem dJ23_getChars_3 : decode cJ23_getChars 3 = .ok (.iload_n 0, 1) := dk_26 (dk_at dksJ23_getChars_0 3 rfl rfl)
theorem dJ23_getChars_4 : decode cJ23_getChars 4 = .ok (.ifCond .ge 7, 3) := dk_156 0 7 (dk_at dksJ23_getChars_0 4 rfl rfl)
theorem dJ23_getChars_7 : decode cJ23_getChars 7 = .ok (.iconst 1, 1) := dk_4 (dk_at dksJ23_getChars_0 7 rfl rfl)
theorem dJ23_getChars_8 : decode cJ23_getChars 8 = .ok (.goto 4, 3) := dk_167 0 4 (dk_at dksJ23_getChars_0 8 rfl rfl)
theorem dJ23_getChars_11 : decode cJ23_getChars 11 = .ok (.iconst 0, 1) := dk_3 (dk_at dksJ23_getChars_0 11 rfl rfl)
theorem dJ23_getChars_12 : decode cJ23_getChars 12 = .ok (.istore 6, 2) := dk_54 6 (dk_at dksJ23_getChars_0 12 rfl rfl)
theorem dJ23_getChars_14 : decode cJ23_getChars 14 = .ok (.iload 6, 2) := dk_21 6 (dk_at dksJ23_getChars_0 14 rfl rfl)
theorem dJ23_getChars_16 : decode cJ23_getChars 16 = .ok (.ifCond .ne 6, 3) := dk_154 0 6 (dk_at dksJ23_getChars_0 16 rfl rfl)
theorem dJ23_getChars_19 : decode cJ23_getChars 19 = .ok (.iload_n 0, 1) := dk_26 (dk_at dksJ23_getChars_0 19 rfl rfl)
theorem dJ23_getChars_20 : decode cJ23_getChars 20 = .ok (.ineg, 1) := dk_116 (dk_at dksJ23_getChars_0 20 rfl rfl)
theorem dJ23_getChars_21 : decode cJ23_getChars 21 = .ok (.istore_n 0, 1) := dk_59 (dk_at dksJ23_getChars_0 21 rfl rfl)
theorem dJ23_getChars_22 : decode cJ23_getChars 22 = .ok (.iload_n 0, 1) := dk_26 (dk_at dksJ23_getChars_0 22 rfl rfl)
theorem dJ23_getChars_23 : decode cJ23_getChars 23 = .ok (.bipush (-100), 2) := dk_16 156 (dk_at dksJ23_getChars_1 0 rfl rfl)
theorem dJ23_getChars_25 : decode cJ23_getChars 25 = .ok (.if_icmp .gt 47, 3) := dk_163 0 47 (dk_at dksJ23_getChars_1 2 rfl rfl)
theorem dJ23_getChars_28 : decode cJ23_getChars 28 = .ok (.iload_n 0, 1) := dk_26 (dk_at dksJ23_getChars_1 5 rfl rfl)
theorem dJ23_getChars_29 : decode cJ23_getChars 29 = .ok (.bipush 100, 2) := dk_16 100 (dk_at dksJ23_getChars_1 6 rfl rfl)
theorem dJ23_getChars_31 : decode cJ23_getChars 31 = .ok (.idiv, 1) := dk_108 (dk_at dksJ23_getChars_1 8 rfl rfl)
theorem dJ23_getChars_32 : decode cJ23_getChars 32 = .ok (.istore_n 3, 1) := dk_62 (dk_at dksJ23_getChars_1 9 rfl rfl)
theorem dJ23_getChars_33 : decode cJ23_getChars 33 = .ok (.iload_n 3, 1) := dk_29 (dk_at dksJ23_getChars_1 10 rfl rfl)
theorem dJ23_getChars_34 : decode cJ23_getChars 34 = .ok (.bipush 100, 2) := dk_16 100 (dk_at dksJ23_getChars_1 11 rfl rfl)
theorem dJ23_getChars_36 : decode cJ23_getChars 36 = .ok (.imul, 1) := dk_104 (dk_at dksJ23_getChars_1 13 rfl rfl)
theorem dJ23_getChars_37 : decode cJ23_getChars 37 = .ok (.iload_n 0, 1) := dk_26 (dk_at dksJ23_getChars_1 14 rfl rfl)
theorem dJ23_getChars_38 : decode cJ23_getChars 38 = .ok (.isub, 1) := dk_100 (dk_at dksJ23_getChars_1 15 rfl rfl)
theorem dJ23_getChars_39 : decode cJ23_getChars 39 = .ok (.istore 4, 2) := dk_54 4 (dk_at dksJ23_getChars_1 16 rfl rfl)
theorem dJ23_getChars_41 : decode cJ23_getChars 41 = .ok (.iload_n 3, 1) := dk_29 (dk_at dksJ23_getChars_1 18 rfl rfl)
theorem dJ23_getChars_42 : decode cJ23_getChars 42 = .ok (.istore_n 0, 1) := dk_59 (dk_at dksJ23_getChars_1 19 rfl rfl)
theorem dJ23_getChars_43 : decode cJ23_getChars 43 = .ok (.aload_n 2, 1) := dk_44 (dk_at dksJ23_getChars_1 20 rfl rfl)
theorem dJ23_getChars_44 : decode cJ23_getChars 44 = .ok (.iinc 5 (-1), 3) := dk_132 5 255 (dk_at dksJ23_getChars_1 21 rfl rfl)
theorem dJ23_getChars_47 : decode cJ23_getChars 47 = .ok (.iload 5, 2) := dk_21 5 (dk_at dksJ23_getChars_2 0 rfl rfl)
theorem dJ23_getChars_49 : decode cJ23_getChars 49 = .ok (.getstatic 83, 3) := dk_178 0 83 (dk_at dksJ23_getChars_2 2 rfl rfl)
theorem dJ23_getChars_52 : decode cJ23_getChars 52 = .ok (.iload 4, 2) := dk_21 4 (dk_at dksJ23_getChars_2 5 rfl rfl)
theorem dJ23_getChars_54 : decode cJ23_getChars 54 = .ok (.baload, 1) := dk_51 (dk_at dksJ23_getChars_2 7 rfl rfl)
theorem dJ23_getChars_55 : decode cJ23_getChars 55 = .ok (.bastore, 1) := dk_84 (dk_at dksJ23_getChars_2 8 rfl rfl)
theorem dJ23_getChars_56 : decode cJ23_getChars 56 = .ok (.aload_n 2, 1) := dk_44 (dk_at dksJ23_getChars_2 9 rfl rfl)
theorem dJ23_getChars_57 : decode cJ23_getChars 57 = .ok (.iinc 5 (-1), 3) := dk_132 5 255 (dk_at dksJ23_getChars_2 10 rfl rfl)
theorem dJ23_getChars_60 : decode cJ23_getChars 60 = .ok (.iload 5, 2) := dk_21 5 (dk_at dksJ23_getChars_2 13 rfl rfl)
theorem dJ23_getChars_62 : decode cJ23_getChars 62 = .ok (.getstatic 87, 3) := dk_178 0 87 (dk_at dksJ23_getChars_2 15 rfl rfl)
theorem dJ23_getChars_65 : decode cJ23_getChars 65 = .ok (.iload 4, 2) := dk_21 4 (dk_at dksJ23_getChars_2 18 rfl rfl)
theorem dJ23_getChars_67 : decode cJ23_getChars 67 = .ok (.baload, 1) := dk_51 (dk_at dksJ23_getChars_2 20 rfl rfl)
theorem dJ23_getChars_68 : decode cJ23_getChars 68 = .ok (.bastore, 1) := dk_84 (dk_at dksJ23_getChars_2 21 rfl rfl)
theorem dJ23_getChars_69 : decode cJ23_getChars 69 = .ok (.goto (-47), 3) := dk_167 255 209 (dk_at dksJ23_getChars_3 0 rfl rfl)
theorem dJ23_getChars_72 : decode cJ23_getChars 72 = .ok (.aload_n 2, 1) := dk_44 (dk_at dksJ23_getChars_3 3 rfl rfl)
theorem dJ23_getChars_73 : decode cJ23_getChars 73 = .ok (.iinc 5 (-1), 3) := dk_132 5 255 (dk_at dksJ23_getChars_3 4 rfl rfl)
theorem dJ23_getChars_76 : decode cJ23_getChars 76 = .ok (.iload 5, 2) := dk_21 5 (dk_at dksJ23_getChars_3 7 rfl rfl)
theorem dJ23_getChars_78 : decode cJ23_getChars 78 = .ok (.getstatic 83, 3) := dk_178 0 83 (dk_at dksJ23_getChars_3 9 rfl rfl)
theorem dJ23_getChars_81 : decode cJ23_getChars 81 = .ok (.iload_n 0, 1) := dk_26 (dk_at dksJ23_getChars_3 12 rfl rfl)
theorem dJ23_getChars_82 : decode cJ23_getChars 82 = .ok (.ineg, 1) := dk_116 (dk_at dksJ23_getChars_3 13 rfl rfl)
theorem dJ23_getChars_83 : decode cJ23_getChars 83 = .ok (.baload, 1) := dk_51 (dk_at dksJ23_getChars_3 14 rfl rfl)
theorem dJ23_getChars_84 : decode cJ23_getChars 84 = .ok (.bastore, 1) := dk_84 (dk_at dksJ23_getChars_3 15 rfl rfl)
theorem dJ23_getChars_85 : decode cJ23_getChars 85 = .ok (.iload_n 0, 1) := dk_26 (dk_at dksJ23_getChars_3 16 rfl rfl)
theorem dJ23_getChars_86 : decode cJ23_getChars 86 = .ok (.bipush (-9), 2) := dk_16 247 (dk_at dksJ23_getChars_3 17 rfl rfl)
theorem dJ23_getChars_88 : decode cJ23_getChars 88 = .ok (.if_icmp .ge 16, 3) := dk_162 0 16 (dk_at dksJ23_getChars_3 19 rfl rfl)
theorem dJ23_getChars_91 : decode cJ23_getChars 91 = .ok (.aload_n 2, 1) := dk_44 (dk_at dksJ23_getChars_3 22 rfl rfl)
theorem dJ23_getChars_92 : decode cJ23_getChars 92 = .ok (.iinc 5 (-1), 3) := dk_132 5 255 (dk_at dksJ23_getChars_4 0 rfl rfl)
theorem dJ23_getChars_95 : decode cJ23_getChars 95 = .ok (.iload 5, 2) := dk_21 5 (dk_at dksJ23_getChars_4 3 rfl rfl)
theorem dJ23_getChars_97 : decode cJ23_getChars 97 = .ok (.getstatic 87, 3) := dk_178 0 87 (dk_at dksJ23_getChars_4 5 rfl rfl)
theorem dJ23_getChars_100 : decode cJ23_getChars 100 = .ok (.iload_n 0, 1) := dk_26 (dk_at dksJ23_getChars_4 8 rfl rfl)
theorem dJ23_getChars_101 : decode cJ23_getChars 101 = .ok (.ineg, 1) := dk_116 (dk_at dksJ23_getChars_4 9 rfl rfl)
theorem dJ23_getChars_102 : decode cJ23_getChars 102 = .ok (.baload, 1) := dk_51 (dk_at dksJ23_getChars_4 10 rfl rfl)
theorem dJ23_getChars_103 : decode cJ23_getChars 103 = .ok (.bastore, 1) := dk_84 (dk_at dksJ23_getChars_4 11 rfl rfl)
theorem dJ23_getChars_104 : decode cJ23_getChars 104 = .ok (.iload 6, 2) := dk_21 6 (dk_at dksJ23_getChars_4 12 rfl rfl)
theorem dJ23_getChars_106 : decode cJ23_getChars 106 = .ok (.ifCond .eq 12, 3) := dk_153 0 12 (dk_at dksJ23_getChars_4 14 rfl rfl)
theorem dJ23_getChars_109 : decode cJ23_getChars 109 = .ok (.aload_n 2, 1) := dk_44 (dk_at dksJ23_getChars_4 17 rfl rfl)
theorem dJ23_getChars_110 : decode cJ23_getChars 110 = .ok (.iinc 5 (-1), 3) := dk_132 5 255 (dk_at dksJ23_getChars_4 18 rfl rfl)
theorem dJ23_getChars_113 : decode cJ23_getChars 113 = .ok (.iload 5, 2) := dk_21 5 (dk_at dksJ23_getChars_4 21 rfl rfl)
theorem dJ23_getChars_115 : decode cJ23_getChars 115 = .ok (.bipush 45, 2) := dk_16 45 (dk_at dksJ23_getChars_5 0 rfl rfl)
theorem dJ23_getChars_117 : decode cJ23_getChars 117 = .ok (.bastore, 1) := dk_84 (dk_at dksJ23_getChars_5 2 rfl rfl)
theorem dJ23_getChars_118 : decode cJ23_getChars 118 = .ok (.iload 5, 2) := dk_21 5 (dk_at dksJ23_getChars_5 3 rfl rfl)
theorem dJ23_getChars_120 : decode cJ23_getChars 120 = .ok (.ireturn, 1) := dk_172 (dk_at dksJ23_getChars_5 5 rfl rfl)
abbrev cJ23_toString : ByteArray := prog_27_method_10_code
def yJ23_toString : MethodName := ⟨RJ23, "toString", "(I)Ljava/lang/String;"⟩
def dkwJ23_toString_2 : List UInt8 := [187, 0, 5, 89, 44, 4, 183, 0, 65, 176]
abbrev dktJ23_toString_2 : List UInt8 := dkwJ23_toString_2 ++ []
def dkwJ23_toString_1 : List UInt8 := [187, 0, 5, 89, 44, 3, 183, 0, 65, 176, 27, 5, 104, 188, 8, 77, 26, 27, 44, 184, 0, 79, 87]
abbrev dktJ23_toString_1 : List UInt8 := dkwJ23_toString_1 ++ dktJ23_toString_2
def dkwJ23_toString_0 : List UInt8 := [26, 184, 0, 72, 60, 178, 0, 13, 153, 0, 24, 27, 188, 8, 77, 26, 27, 44, 184, 0, 75, 87]
abbrev dktJ23_toString_0 : List UInt8 := dkwJ23_toString_0 ++ dktJ23_toString_1
theorem dksJ23_toString_0 : cJ23_toString.data.toList.drop 0 = dktJ23_toString_0 := by decide +kernel
theorem dksJ23_toString_1 : cJ23_toString.data.toList.drop 22 = dktJ23_toString_1 := dk_seg dksJ23_toString_0 22 rfl rfl
theorem dksJ23_toString_2 : cJ23_toString.data.toList.drop 45 = dktJ23_toString_2 := dk_seg dksJ23_toString_1 23 rfl rfl
theorem dJ23_toString_0 : decode cJ23_toString 0 = .ok (.iload_n 0, 1) := dk_26 (dk_at dksJ23_toString_0 0 rfl rfl)
theorem dJ23_toString_1 : decode cJ23_toString 1 = .ok (.invokestatic 72, 3) := dk_184 0 72 (dk_at dksJ23_toString_0 1 rfl rfl)
theorem dJ23_toString_4 : decode cJ23_toString 4 = .ok (.istore_n 1, 1) := dk_60 (dk_at dksJ23_toString_0 4 rfl rfl)
theorem dJ23_toString_5 : decode cJ23_toString 5 = .ok (.getstatic 13, 3) := dk_178 0 13 (dk_at dksJ23_toString_0 5 rfl rfl)
theorem dJ23_toString_8 : decode cJ23_toString 8 = .ok (.ifCond .eq 24, 3) := dk_153 0 24 (dk_at dksJ23_toString_0 8 rfl rfl)
theorem dJ23_toString_11 : decode cJ23_toString 11 = .ok (.iload_n 1, 1) := dk_27 (dk_at dksJ23_toString_0 11 rfl rfl)
theorem dJ23_toString_12 : decode cJ23_toString 12 = .ok (.newarray .byte, 2) := dk_188_8 (dk_at dksJ23_toString_0 12 rfl rfl)
theorem dJ23_toString_14 : decode cJ23_toString 14 = .ok (.astore_n 2, 1) := dk_77 (dk_at dksJ23_toString_0 14 rfl rfl)
theorem dJ23_toString_15 : decode cJ23_toString 15 = .ok (.iload_n 0, 1) := dk_26 (dk_at dksJ23_toString_0 15 rfl rfl)
theorem dJ23_toString_16 : decode cJ23_toString 16 = .ok (.iload_n 1, 1) := dk_27 (dk_at dksJ23_toString_0 16 rfl rfl)
theorem dJ23_toString_17 : decode cJ23_toString 17 = .ok (.aload_n 2, 1) := dk_44 (dk_at dksJ23_toString_0 17 rfl rfl)
theorem dJ23_toString_18 : decode cJ23_toString 18 = .ok (.invokestatic 75, 3) := dk_184 0 75 (dk_at dksJ23_toString_0 18 rfl rfl)
theorem dJ23_toString_21 : decode cJ23_toString 21 = .ok (.pop, 1) := dk_87 (dk_at dksJ23_toString_0 21 rfl rfl)
theorem dJ23_toString_22 : decode cJ23_toString 22 = .ok (.new 5, 3) := dk_187 0 5 (dk_at dksJ23_toString_1 0 rfl rfl)
theorem dJ23_toString_25 : decode cJ23_toString 25 = .ok (.dup, 1) := dk_89 (dk_at dksJ23_toString_1 3 rfl rfl)
theorem dJ23_toString_26 : decode cJ23_toString 26 = .ok (.aload_n 2, 1) := dk_44 (dk_at dksJ23_toString_1 4 rfl rfl)
theorem dJ23_toString_27 : decode cJ23_toString 27 = .ok (.iconst 0, 1) := dk_3 (dk_at dksJ23_toString_1 5 rfl rfl)
theorem dJ23_toString_28 : decode cJ23_toString 28 = .ok (.invokespecial 65, 3) := dk_183 0 65 (dk_at dksJ23_toString_1 6 rfl rfl)
theorem dJ23_toString_31 : decode cJ23_toString 31 = .ok (.areturn, 1) := dk_176 (dk_at dksJ23_toString_1 9 rfl rfl)
theorem dJ23_toString_32 : decode cJ23_toString 32 = .ok (.iload_n 1, 1) := dk_27 (dk_at dksJ23_toString_1 10 rfl rfl)
theorem dJ23_toString_33 : decode cJ23_toString 33 = .ok (.iconst 2, 1) := dk_5 (dk_at dksJ23_toString_1 11 rfl rfl)
theorem dJ23_toString_34 : decode cJ23_toString 34 = .ok (.imul, 1) := dk_104 (dk_at dksJ23_toString_1 12 rfl rfl)
theorem dJ23_toString_35 : decode cJ23_toString 35 = .ok (.newarray .byte, 2) := dk_188_8 (dk_at dksJ23_toString_1 13 rfl rfl)
theorem dJ23_toString_37 : decode cJ23_toString 37 = .ok (.astore_n 2, 1) := dk_77 (dk_at dksJ23_toString_1 15 rfl rfl)
theorem dJ23_toString_38 : decode cJ23_toString 38 = .ok (.iload_n 0, 1) := dk_26 (dk_at dksJ23_toString_1 16 rfl rfl)
theorem dJ23_toString_39 : decode cJ23_toString 39 = .ok (.iload_n 1, 1) := dk_27 (dk_at dksJ23_toString_1 17 rfl rfl)
theorem dJ23_toString_40 : decode cJ23_toString 40 = .ok (.aload_n 2, 1) := dk_44 (dk_at dksJ23_toString_1 18 rfl rfl)
theorem dJ23_toString_41 : decode cJ23_toString 41 = .ok (.invokestatic 79, 3) := dk_184 0 79 (dk_at dksJ23_toString_1 19 rfl rfl)
theorem dJ23_toString_44 : decode cJ23_toString 44 = .ok (.pop, 1) := dk_87 (dk_at dksJ23_toString_1 22 rfl rfl)
theorem dJ23_toString_45 : decode cJ23_toString 45 = .ok (.new 5, 3) := dk_187 0 5 (dk_at dksJ23_toString_2 0 rfl rfl)
theorem dJ23_toString_48 : decode cJ23_toString 48 = .ok (.dup, 1) := dk_89 (dk_at dksJ23_toString_2 3 rfl rfl)
theorem dJ23_toString_49 : decode cJ23_toString 49 = .ok (.aload_n 2, 1) := dk_44 (dk_at dksJ23_toString_2 4 rfl rfl)
theorem dJ23_toString_50 : decode cJ23_toString 50 = .ok (.iconst 1, 1) := dk_4 (dk_at dksJ23_toString_2 5 rfl rfl)
theorem dJ23_toString_51 : decode cJ23_toString 51 = .ok (.invokespecial 65, 3) := dk_183 0 65 (dk_at dksJ23_toString_2 6 rfl rfl)
theorem dJ23_toString_54 : decode cJ23_toString 54 = .ok (.areturn, 1) := dk_176 (dk_at dksJ23_toString_2 9 rfl rfl)
theorem q85 : (Jvm.Cond.initialized "java/lang/Integer") ∈ lw_all := lw_g (lw_at lw_m1 37 rfl) rfl
theorem q1194 : (Jvm.Cond.static ({ cls := "java/lang/Integer", name := "stringSize", desc := "(I)I" } : Jvm.MethodName)) ∈ lw_all := lw_g (lw_at lw_m5 186 rfl) rfl
theorem q1195 : (Jvm.Cond.code ({ cls := "java/lang/Integer", name := "stringSize", desc := "(I)I" } : Jvm.MethodName) prog_27_method_13_code (4 : Nat) (Option.some Jvm.ClassFile.FieldType.int)) ∈ lw_all := lw_g (lw_at lw_m5 187 rfl) rfl
theorem q1197 : (Jvm.Cond.static ({ cls := "java/lang/Integer", name := "getChars", desc := "(II[B)I" } : Jvm.MethodName)) ∈ lw_all := lw_g (lw_at lw_m5 189 rfl) rfl
theorem q1198 : (Jvm.Cond.code ({ cls := "java/lang/Integer", name := "getChars", desc := "(II[B)I" } : Jvm.MethodName) prog_27_method_12_code (7 : Nat) (Option.some Jvm.ClassFile.FieldType.int)) ∈ lw_all := lw_g (lw_at lw_m5 190 rfl) rfl
theorem q1199 : (Jvm.Cond.fieldLink "java/lang/Integer" (83 : Nat) "java/lang/Integer" "DigitOnes" "[B") ∈ lw_all := lw_g (lw_at lw_m5 191 rfl) rfl
theorem q1200 : (Jvm.Cond.laysStatic "java/lang/Integer" "DigitOnes" "[B") ∈ lw_tbl := lw_at lw_m5 192 rfl
theorem q1201 : (Jvm.Cond.fieldLink "java/lang/Integer" (87 : Nat) "java/lang/Integer" "DigitTens" "[B") ∈ lw_all := lw_g (lw_at lw_m5 193 rfl) rfl
theorem q1202 : (Jvm.Cond.laysStatic "java/lang/Integer" "DigitTens" "[B") ∈ lw_tbl := lw_at lw_m5 194 rfl
theorem q1659 : (Jvm.Cond.static ({ cls := "java/lang/Integer", name := "toString", desc := "(I)Ljava/lang/String;" } : Jvm.MethodName)) ∈ lw_all := lw_g (lw_at lw_m7 171 rfl) rfl
theorem q1660 : (Jvm.Cond.code ({ cls := "java/lang/Integer", name := "toString", desc := "(I)Ljava/lang/String;" } : Jvm.MethodName) prog_27_method_10_code (3 : Nat) (Option.some (Jvm.ClassFile.FieldType.object "java/lang/String"))) ∈ lw_all := lw_g (lw_at lw_m7 172 rfl) rfl
theorem q1661 : (Jvm.Cond.methodLink "java/lang/Integer" (72 : Nat) ({ cls := "java/lang/Integer", name := "stringSize", desc := "(I)I" } : Jvm.MethodName)) ∈ lw_all := lw_g (lw_at lw_m7 173 rfl) rfl
theorem q1662 : (Jvm.Cond.fieldLink "java/lang/Integer" (13 : Nat) "java/lang/String" "COMPACT_STRINGS" "Z") ∈ lw_all := lw_g (lw_at lw_m7 174 rfl) rfl
theorem q1663 : (Jvm.Cond.methodLink "java/lang/Integer" (75 : Nat) ({ cls := "java/lang/Integer", name := "getChars", desc := "(II[B)I" } : Jvm.MethodName)) ∈ lw_all := lw_g (lw_at lw_m7 175 rfl) rfl
theorem q1664 : (Jvm.Cond.classLink "java/lang/Integer" (5 : Nat) "java/lang/String") ∈ lw_all := lw_g (lw_at lw_m7 176 rfl) rfl
theorem q1665 : (Jvm.Cond.methodLink "java/lang/Integer" (65 : Nat) ({ cls := "java/lang/String", name := "<init>", desc := "([BB)V" } : Jvm.MethodName)) ∈ lw_all := lw_g (lw_at lw_m7 177 rfl) rfl
theorem q1668 : (Jvm.Cond.methodLink "java/lang/Integer" (79 : Nat) ({ cls := "java/lang/StringUTF16", name := "getChars", desc := "(II[B)I" } : Jvm.MethodName)) ∈ lw_all := lw_g (lw_at lw_m7 180 rfl) rfl
/-! java/lang/Long -/
set_option maxRecDepth 100000
def RJ24 : String := "java/lang/Long"
abbrev cJ24_bitCount : ByteArray := prog_29_method_50_code
def yJ24_bitCount : MethodName := ⟨RJ24, "bitCount", "(J)I"⟩
def dkwJ24_bitCount_2 : List UInt8 := [30, 30, 16, 32, 125, 97, 63, 30, 136, 16, 127, 126, 172]
abbrev dktJ24_bitCount_2 : List UInt8 := dkwJ24_bitCount_2 ++ []
def dkwJ24_bitCount_1 : List UInt8 := [30, 30, 7, 125, 97, 20, 1, 62, 127, 63, 30, 30, 16, 8, 125, 97, 63, 30, 30, 16, 16, 125, 97, 63]
abbrev dktJ24_bitCount_1 : List UInt8 := dkwJ24_bitCount_1 ++ dktJ24_bitCount_2
def dkwJ24_bitCount_0 : List UInt8 := [30, 30, 4, 125, 20, 1, 58, 127, 101, 63, 30, 20, 1, 60, 127, 30, 5, 125, 20, 1, 60, 127, 97, 63]
abbrev dktJ24_bitCount_0 : List UInt8 := dkwJ24_bitCount_0 ++ dktJ24_bitCount_1
theorem dksJ24_bitCount_0 : cJ24_bitCount.data.toList.drop 0 = dktJ24_bitCount_0 := by decide +kernel
theorem dksJ24_bitCount_1 : cJ24_bitCount.data.toList.drop 24 = dktJ24_bitCount_1 := dk_seg dksJ24_bitCount_0 24 rfl rfl
theorem dksJ24_bitCount_2 : cJ24_bitCount.data.toList.drop 48 = dktJ24_bitCount_2 := dk_seg dksJ24_bitCount_1 24 rfl rfl
theorem dJ24_bitCount_0 : decode cJ24_bitCount 0 = .ok (.lload_n 0, 1) := dk_30 (dk_at dksJ24_bitCount_0 0 rfl rfl)
theorem dJ24_bitCount_1 : decode cJ24_bitCount 1 = .ok (.lload_n 0, 1) := dk_30 (dk_at dksJ24_bitCount_0 1 rfl rfl)
theorem dJ24_bitCount_2 : decode cJ24_bitCount 2 = .ok (.iconst 1, 1) := dk_4 (dk_at dksJ24_bitCount_0 2 rfl rfl)
theorem dJ24_bitCount_3 : decode cJ24_bitCount 3 = .ok (.lushr, 1) := dk_125 (dk_at dksJ24_bitCount_0 3 rfl rfl)
theorem dJ24_bitCount_4 : decode cJ24_bitCount 4 = .ok (.ldc2_w 314, 3) := dk_20 1 58 (dk_at dksJ24_bitCount_0 4 rfl rfl)
theorem dJ24_bitCount_7 : decode cJ24_bitCount 7 = .ok (.land, 1) := dk_127 (dk_at dksJ24_bitCount_0 7 rfl rfl)
theorem dJ24_bitCount_8 : decode cJ24_bitCount 8 = .ok (.lsub, 1) := dk_101 (dk_at dksJ24_bitCount_0 8 rfl rfl)
theorem dJ24_bitCount_9 : decode cJ24_bitCount 9 = .ok (.lstore_n 0, 1) := dk_63 (dk_at dksJ24_bitCount_0 9 rfl rfl)
theorem dJ24_bitCount_10 : decode cJ24_bitCount 10 = .ok (.lload_n 0, 1) := dk_30 (dk_at dksJ24_bitCount_0 10 rfl rfl)
theorem dJ24_bitCount_11 : decode cJ24_bitCount 11 = .ok (.ldc2_w 316, 3) := dk_20 1 60 (dk_at dksJ24_bitCount_0 11 rfl rfl)
theorem dJ24_bitCount_14 : decode cJ24_bitCount 14 = .ok (.land, 1) := dk_127 (dk_at dksJ24_bitCount_0 14 rfl rfl)
theorem dJ24_bitCount_15 : decode cJ24_bitCount 15 = .ok (.lload_n 0, 1) := dk_30 (dk_at dksJ24_bitCount_0 15 rfl rfl)
theorem dJ24_bitCount_16 : decode cJ24_bitCount 16 = .ok (.iconst 2, 1) := dk_5 (dk_at dksJ24_bitCount_0 16 rfl rfl)
theorem dJ24_bitCount_17 : decode cJ24_bitCount 17 = .ok (.lushr, 1) := dk_125 (dk_at dksJ24_bitCount_0 17 rfl rfl)
theorem dJ24_bitCount_18 : decode cJ24_bitCount 18 = .ok (.ldc2_w 316, 3) := dk_20 1 60 (dk_at dksJ24_bitCount_0 18 rfl rfl)
theorem dJ24_bitCount_21 : decode cJ24_bitCount 21 = .ok (.land, 1) := dk_127 (dk_at dksJ24_bitCount_0 21 rfl rfl)
theorem dJ24_bitCount_22 : decode cJ24_bitCount 22 = .ok (.ladd, 1) := dk_97 (dk_at dksJ24_bitCount_0 22 rfl rfl)
theorem dJ24_bitCount_23 : decode cJ24_bitCount 23 = .ok (.lstore_n 0, 1) := dk_63 (dk_at dksJ24_bitCount_0 23 rfl rfl)
theorem dJ24_bitCount_24 : decode cJ24_bitCount 24 = .ok (.lload_n 0, 1) := dk_30 (dk_at dksJ24_bitCount_1 0 rfl rfl)
theorem dJ24_bitCount_25 : decode cJ24_bitCount 25 = .ok (.lload_n 0, 1) := dk_30 (dk_at dksJ24_bitCount_1 1 rfl rfl)
theorem dJ24_bitCount_26 : decode cJ24_bitCount 26 = .ok (.iconst 4, 1) := dk_7 (dk_at dksJ24_bitCount_1 2 rfl rfl)
theorem dJ24_bitCount_27 : decode cJ24_bitCount 27 = .ok (.lushr, 1) := dk_125 (dk_at dksJ24_bitCount_1 3 rfl rfl)
theorem dJ24_bitCount_28 : decode cJ24_bitCount 28 = .ok (.ladd, 1) := dk_97 (dk_at dksJ24_bitCount_1 4 rfl rfl)
theorem dJ24_bitCount_29 : decode cJ24_bitCount 29 = .ok (.ldc2_w 318, 3) := dk_20 1 62 (dk_at dksJ24_bitCount_1 5 rfl rfl)
theorem dJ24_bitCount_32 : decode cJ24_bitCount 32 = .ok (.land, 1) := dk_127 (dk_at dksJ24_bitCount_1 8 rfl rfl)
theorem dJ24_bitCount_33 : decode cJ24_bitCount 33 = .ok (.lstore_n 0, 1) := dk_63 (dk_at dksJ24_bitCount_1 9 rfl rfl)
theorem dJ24_bitCount_34 : decode cJ24_bitCount 34 = .ok (.lload_n 0, 1) := dk_30 (dk_at dksJ24_bitCount_1 10 rfl rfl)
theorem dJ24_bitCount_35 : decode cJ24_bitCount 35 = .ok (.lload_n 0, 1) := dk_30 (dk_at dksJ24_bitCount_1 11 rfl rfl)
theorem dJ24_bitCount_36 : decode cJ24_bitCount 36 = .ok (.bipush 8, 2) := dk_16 8 (dk_at dksJ24_bitCount_1 12 rfl rfl)
theorem dJ24_bitCount_38 : decode cJ24_bitCount 38 = .ok (.lushr, 1) := dk_125 (dk_at dksJ24_bitCount_1 14 rfl rfl)
theorem dJ24_bitCount_39 : decode cJ24_bitCount 39 = .ok (.ladd, 1) := dk_97 (dk_at dksJ24_bitCount_1 15 rfl rfl)
theorem dJ24_bitCount_40 : decode cJ24_bitCount 40 = .ok (.lstore_n 0, 1) := dk_63 (dk_at dksJ24_bitCount_1 16 rfl rfl)
theorem dJ24_bitCount_41 : decode cJ24_bitCount 41 = .ok (.lload_n 0, 1) := dk_30 (dk_at dksJ24_bitCount_1 17 rfl rfl)
theorem dJ24_bitCount_42 : decode cJ24_bitCount 42 = .ok (.lload_n 0, 1) := dk_30 (dk_at dksJ24_bitCount_1 18 rfl rfl)
theorem dJ24_bitCount_43 : decode cJ24_bitCount 43 = .ok (.bipush 16, 2) := dk_16 16 (dk_at dksJ24_bitCount_1 19 rfl rfl)
theorem dJ24_bitCount_45 : decode cJ24_bitCount 45 = .ok (.lushr, 1) := dk_125 (dk_at dksJ24_bitCount_1 21 rfl rfl)
theorem dJ24_bitCount_46 : decode cJ24_bitCount 46 = .ok (.ladd, 1) := dk_97 (dk_at dksJ24_bitCount_1 22 rfl rfl)
theorem dJ24_bitCount_47 : decode cJ24_bitCount 47 = .ok (.lstore_n 0, 1) := dk_63 (dk_at dksJ24_bitCount_1 23 rfl rfl)
theorem dJ24_bitCount_48 : decode cJ24_bitCount 48 = .ok (.lload_n 0, 1) := dk_30 (dk_at dksJ24_bitCount_2 0 rfl rfl)
theorem dJ24_bitCount_49 : decode cJ24_bitCount 49 = .ok (.lload_n 0, 1) := dk_30 (dk_at dksJ24_bitCount_2 1 rfl rfl)
theorem dJ24_bitCount_50 : decode cJ24_bitCount 50 = .ok (.bipush 32, 2) := dk_16 32 (dk_at dksJ24_bitCount_2 2 rfl rfl)
theorem dJ24_bitCount_52 : decode cJ24_bitCount 52 = .ok (.lushr, 1) := dk_125 (dk_at dksJ24_bitCount_2 4 rfl rfl)
theorem dJ24_bitCount_53 : decode cJ24_bitCount 53 = .ok (.ladd, 1) := dk_97 (dk_at dksJ24_bitCount_2 5 rfl rfl)
theorem dJ24_bitCount_54 : decode cJ24_bitCount 54 = .ok (.lstore_n 0, 1) := dk_63 (dk_at dksJ24_bitCount_2 6 rfl rfl)
theorem dJ24_bitCount_55 : decode cJ24_bitCount 55 = .ok (.lload_n 0, 1) := dk_30 (dk_at dksJ24_bitCount_2 7 rfl rfl)
theorem dJ24_bitCount_56 : decode cJ24_bitCount 56 = .ok (.l2i, 1) := dk_136 (dk_at dksJ24_bitCount_2 8 rfl rfl)
theorem dJ24_bitCount_57 : decode cJ24_bitCount 57 = .ok (.bipush 127, 2) := dk_16 127 (dk_at dksJ24_bitCount_2 9 rfl rfl)
theorem dJ24_bitCount_59 : decode cJ24_bitCount 59 = .ok (.iand, 1) := dk_126 (dk_at dksJ24_bitCount_2 11 rfl rfl)
theorem dJ24_bitCount_60 : decode cJ24_bitCount 60 = .ok (.ireturn, 1) := dk_172 (dk_at dksJ24_bitCount_2 12 rfl rfl)
theorem q86 : (Jvm.Cond.initialized "java/lang/Long") ∈ lw_all := lw_g (lw_at lw_m1 38 rfl) rfl
theorem q520 : (Jvm.Cond.static ({ cls := "java/lang/Long", name := "bitCount", desc := "(J)I" } : Jvm.MethodName)) ∈ lw_all := lw_g (lw_at lw_m2 232 rfl) rfl
theorem q521 : (Jvm.Cond.code ({ cls := "java/lang/Long", name := "bitCount", desc := "(J)I" } : Jvm.MethodName) prog_29_method_50_code (2 : Nat) (Option.some Jvm.ClassFile.FieldType.int)) ∈ lw_all := lw_g (lw_at lw_m2 233 rfl) rfl
theorem q522 : (Jvm.Cond.constantLong "java/lang/Long" (314 : Nat) (6148914691236517205 : Int64)) ∈ lw_all := lw_g (lw_at lw_m2 234 rfl) rfl
theorem q523 : (Jvm.Cond.constantLong "java/lang/Long" (316 : Nat) (3689348814741910323 : Int64)) ∈ lw_all := lw_g (lw_at lw_m2 235 rfl) rfl
theorem q524 : (Jvm.Cond.constantLong "java/lang/Long" (318 : Nat) (1085102592571150095 : Int64)) ∈ lw_all := lw_g (lw_at lw_m2 236 rfl) rfl
/-! java/lang/Object -/
set_option maxRecDepth 100000
def RJ25 : String := "java/lang/Object"
abbrev cJ25_init : ByteArray := object_method_1_code
def yJ25_init : MethodName := ⟨RJ25, "<init>", "()V"⟩
theorem dJ25_init_0 : decode cJ25_init 0 = .ok (.return_, 1) := by decide +kernel
theorem q93 : (Jvm.Cond.instanceMethod ({ cls := "java/lang/Object", name := "<init>", desc := "()V" } : Jvm.MethodName)) ∈ lw_all := lw_g (lw_at lw_m1 45 rfl) rfl
theorem q94 : (Jvm.Cond.code ({ cls := "java/lang/Object", name := "<init>", desc := "()V" } : Jvm.MethodName) object_method_1_code (1 : Nat) (Option.none : Option Jvm.ClassFile.FieldType)) ∈ lw_all := lw_g (lw_at lw_m1 46 rfl) rfl
theorem q683 : (Jvm.Cond.native ({ cls := "java/lang/Object", name := "clone", desc := "()Ljava/lang/Object;" } : Jvm.MethodName)) ∈ lw_all := lw_g (lw_at lw_m3 155 rfl) rfl
theorem q684 : (Jvm.Cond.instanceMethod ({ cls := "java/lang/Object", name := "clone", desc := "()Ljava/lang/Object;" } : Jvm.MethodName)) ∈ lw_all := lw_g (lw_at lw_m3 156 rfl) rfl
theorem q825 : (Jvm.Cond.instanceMethod ({ cls := "java/lang/Object", name := "getClass", desc := "()Ljava/lang/Class;" } : Jvm.MethodName)) ∈ lw_all := lw_g (lw_at lw_m4 57 rfl) rfl
theorem q826 : (Jvm.Cond.sameMethod "java/lang/Object" "java/lang/Object" "getClass" "()Ljava/lang/Class;") ∈ lw_all := lw_g (lw_at lw_m4 58 rfl) rfl
theorem q849 : (Jvm.Cond.native ({ cls := "java/lang/Object", name := "getClass", desc := "()Ljava/lang/Class;" } : Jvm.MethodName)) ∈ lw_all := lw_g (lw_at lw_m4 81 rfl) rfl
theorem q1790 : (Jvm.Cond.initialized "java/lang/Object") ∈ lw_all := lw_g (lw_at lw_m8 62 rfl) rfl
theorem q1819 : (Jvm.Cond.declares ({ cls := "java/lang/Object", name := "getClass", desc := "()Ljava/lang/Class;" } : Jvm.MethodName)) ∈ lw_tbl := lw_at lw_m8 91 rfl
/-! java/lang/StringUTF16 -/
set_option maxRecDepth 100000
def RJ21 : String := "java/lang/StringUTF16"
abbrev cJ21_newBytesFor : ByteArray := prog_36_method_2_code
def yJ21_newBytesFor : MethodName := ⟨RJ21, "newBytesFor", "(I)[B"⟩
def dkwJ21_newBytesFor_0 : List UInt8 := [26, 184, 0, 11, 188, 8, 176]
abbrev dktJ21_newBytesFor_0 : List UInt8 := dkwJ21_newBytesFor_0 ++ []
theorem dksJ21_newBytesFor_0 : cJ21_newBytesFor.data.toList.drop 0 = dktJ21_newBytesFor_0 := by decide +kernel
theorem dJ21_newBytesFor_0 : decode cJ21_newBytesFor 0 = .ok (.iload_n 0, 1) := dk_26 (dk_at dksJ21_newBytesFor_0 0 rfl rfl)
theorem dJ21_newBytesFor_1 : decode cJ21_newBytesFor 1 = .ok (.invokestatic 11, 3) := dk_184 0 11 (dk_at dksJ21_newBytesFor_0 1 rfl rfl)
theorem dJ21_newBytesFor_4 : decode cJ21_newBytesFor 4 = .ok (.newarray .byte, 2) := dk_188_8 (dk_at dksJ21_newBytesFor_0 4 rfl rfl)
theorem dJ21_newBytesFor_6 : decode cJ21_newBytesFor 6 = .ok (.areturn, 1) := dk_176 (dk_at dksJ21_newBytesFor_0 6 rfl rfl)
abbrev cJ21_newBytesLength : ByteArray := prog_36_method_3_code
def yJ21_newBytesLength : MethodName := ⟨RJ21, "newBytesLength", "(I)I"⟩
def dkwJ21_newBytesLength_2 : List UInt8 := [182, 0, 32, 182, 0, 37, 183, 0, 41, 191, 26, 4, 120, 172]
abbrev dktJ21_newBytesLength_2 : List UInt8 := dkwJ21_newBytesLength_2 ++ []
def dkwJ21_newBytesLength_1 : List UInt8 := [187, 0, 23, 89, 183, 0, 25, 18, 26, 182, 0, 28, 26, 182, 0, 32, 18, 35, 182, 0, 28, 18, 20]
abbrev dktJ21_newBytesLength_1 : List UInt8 := dkwJ21_newBytesLength_1 ++ dktJ21_newBytesLength_2
def dkwJ21_newBytesLength_0 : List UInt8 := [26, 156, 0, 11, 187, 0, 17, 89, 183, 0, 19, 191, 26, 18, 20, 161, 0, 40, 187, 0, 21, 89]
abbrev dktJ21_newBytesLength_0 : List UInt8 := dkwJ21_newBytesLength_0 ++ dktJ21_newBytesLength_1
theorem dksJ21_newBytesLength_0 : cJ21_newBytesLength.data.toList.drop 0 = dktJ21_newBytesLength_0 := by decide +kernel
theorem dksJ21_newBytesLength_1 : cJ21_newBytesLength.data.toList.drop 22 = dktJ21_newBytesLength_1 := dk_seg dksJ21_newBytesLength_0 22 rfl rfl
theorem dksJ21_newBytesLength_2 : cJ21_newBytesLength.data.toList.drop 45 = dktJ21_newBytesLength_2 := dk_seg dksJ21_newBytesLength_1 23 rfl rfl
theorem dJ21_newBytesLength_0 : decode cJ21_newBytesLength 0 = .ok (.iload_n 0, 1) := dk_26 (dk_at dksJ21_newBytesLength_0 0 rfl rfl)
theorem dJ21_newBytesLength_1 : decode cJ21_newBytesLength 1 = .ok (.ifCond .ge 11, 3) := dk_156 0 11 (dk_at dksJ21_newBytesLength_0 1 rfl rfl)
theorem dJ21_newBytesLength_4 : decode cJ21_newBytesLength 4 = .ok (.new 17, 3) := dk_187 0 17 (dk_at dksJ21_newBytesLength_0 4 rfl rfl)
theorem dJ21_newBytesLength_7 : decode cJ21_newBytesLength 7 = .ok (.dup, 1) := dk_89 (dk_at dksJ21_newBytesLength_0 7 rfl rfl)
theorem dJ21_newBytesLength_8 : decode cJ21_newBytesLength 8 = .ok (.invokespecial 19, 3) := dk_183 0 19 (dk_at dksJ21_newBytesLength_0 8 rfl rfl)
theorem dJ21_newBytesLength_11 : decode cJ21_newBytesLength 11 = .ok (.athrow, 1) := dk_191 (dk_at dksJ21_newBytesLength_0 11 rfl rfl)
theorem dJ21_newBytesLength_12 : decode cJ21_newBytesLength 12 = .ok (.iload_n 0, 1) := dk_26 (dk_at dksJ21_newBytesLength_0 12 rfl rfl)
theorem dJ21_newBytesLength_13 : decode cJ21_newBytesLength 13 = .ok (.ldc 20, 2) := dk_18 20 (dk_at dksJ21_newBytesLength_0 13 rfl rfl)
theorem dJ21_newBytesLength_15 : decode cJ21_newBytesLength 15 = .ok (.if_icmp .lt 40, 3) := dk_161 0 40 (dk_at dksJ21_newBytesLength_0 15 rfl rfl)
theorem dJ21_newBytesLength_18 : decode cJ21_newBytesLength 18 = .ok (.new 21, 3) := dk_187 0 21 (dk_at dksJ21_newBytesLength_0 18 rfl rfl)
theorem dJ21_newBytesLength_21 : decode cJ21_newBytesLength 21 = .ok (.dup, 1) := dk_89 (dk_at dksJ21_newBytesLength_0 21 rfl rfl)
theorem dJ21_newBytesLength_22 : decode cJ21_newBytesLength 22 = .ok (.new 23, 3) := dk_187 0 23 (dk_at dksJ21_newBytesLength_1 0 rfl rfl)
theorem dJ21_newBytesLength_25 : decode cJ21_newBytesLength 25 = .ok (.dup, 1) := dk_89 (dk_at dksJ21_newBytesLength_1 3 rfl rfl)
theorem dJ21_newBytesLength_26 : decode cJ21_newBytesLength 26 = .ok (.invokespecial 25, 3) := dk_183 0 25 (dk_at dksJ21_newBytesLength_1 4 rfl rfl)
theorem dJ21_newBytesLength_29 : decode cJ21_newBytesLength 29 = .ok (.ldc 26, 2) := dk_18 26 (dk_at dksJ21_newBytesLength_1 7 rfl rfl)
theorem dJ21_newBytesLength_31 : decode cJ21_newBytesLength 31 = .ok (.invokevirtual 28, 3) := dk_182 0 28 (dk_at dksJ21_newBytesLength_1 9 rfl rfl)
theorem dJ21_newBytesLength_34 : decode cJ21_newBytesLength 34 = .ok (.iload_n 0, 1) := dk_26 (dk_at dksJ21_newBytesLength_1 12 rfl rfl)
theorem dJ21_newBytesLength_35 : decode cJ21_newBytesLength 35 = .ok (.invokevirtual 32, 3) := dk_182 0 32 (dk_at dksJ21_newBytesLength_1 13 rfl rfl)
theorem dJ21_newBytesLength_38 : decode cJ21_newBytesLength 38 = .ok (.ldc 35, 2) := dk_18 35 (dk_at dksJ21_newBytesLength_1 16 rfl rfl)
theorem dJ21_newBytesLength_40 : decode cJ21_newBytesLength 40 = .ok (.invokevirtual 28, 3) := dk_182 0 28 (dk_at dksJ21_newBytesLength_1 18 rfl rfl)
theorem dJ21_newBytesLength_43 : decode cJ21_newBytesLength 43 = .ok (.ldc 20, 2) := dk_18 20 (dk_at dksJ21_newBytesLength_1 21 rfl rfl)
theorem dJ21_newBytesLength_45 : decode cJ21_newBytesLength 45 = .ok (.invokevirtual 32, 3) := dk_182 0 32 (dk_at dksJ21_newBytesLength_2 0 rfl rfl)
theorem dJ21_newBytesLength_48 : decode cJ21_newBytesLength 48 = .ok (.invokevirtual 37, 3) := dk_182 0 37 (dk_at dksJ21_newBytesLength_2 3 rfl rfl)
theorem dJ21_newBytesLength_51 : decode cJ21_newBytesLength 51 = .ok (.invokespecial 41, 3) := dk_183 0 41 (dk_at dksJ21_newBytesLength_2 6 rfl rfl)
theorem dJ21_newBytesLength_54 : decode cJ21_newBytesLength 54 = .ok (.athrow, 1) := dk_191 (dk_at dksJ21_newBytesLength_2 9 rfl rfl)
theorem dJ21_newBytesLength_55 : decode cJ21_newBytesLength 55 = .ok (.iload_n 0, 1) := dk_26 (dk_at dksJ21_newBytesLength_2 10 rfl rfl)
theorem dJ21_newBytesLength_56 : decode cJ21_newBytesLength 56 = .ok (.iconst 1, 1) := dk_4 (dk_at dksJ21_newBytesLength_2 11 rfl rfl)
theorem dJ21_newBytesLength_57 : decode cJ21_newBytesLength 57 = .ok (.ishl, 1) := dk_120 (dk_at dksJ21_newBytesLength_2 12 rfl rfl)
theorem dJ21_newBytesLength_58 : decode cJ21_newBytesLength 58 = .ok (.ireturn, 1) := dk_172 (dk_at dksJ21_newBytesLength_2 13 rfl rfl)
abbrev cJ21_inflate : ByteArray := prog_36_method_86_code
def yJ21_inflate : MethodName := ⟨RJ21, "inflate", "([BI[BII)V"⟩
def dkwJ21_inflate_1 : List UInt8 := [132, 1, 1, 51, 17, 0, 255, 126, 184, 0, 111, 132, 5, 1, 167, 255, 228, 177]
abbrev dktJ21_inflate_1 : List UInt8 := dkwJ21_inflate_1 ++ []
def dkwJ21_inflate_0 : List UInt8 := [29, 21, 4, 44, 184, 0, 173, 3, 54, 5, 21, 5, 21, 4, 162, 0, 27, 44, 29, 132, 3, 1, 42, 27]
abbrev dktJ21_inflate_0 : List UInt8 := dkwJ21_inflate_0 ++ dktJ21_inflate_1
theorem dksJ21_inflate_0 : cJ21_inflate.data.toList.drop 0 = dktJ21_inflate_0 := by decide +kernel
theorem dksJ21_inflate_1 : cJ21_inflate.data.toList.drop 24 = dktJ21_inflate_1 := dk_seg dksJ21_inflate_0 24 rfl rfl
theorem dJ21_inflate_0 : decode cJ21_inflate 0 = .ok (.iload_n 3, 1) := dk_29 (dk_at dksJ21_inflate_0 0 rfl rfl)
theorem dJ21_inflate_1 : decode cJ21_inflate 1 = .ok (.iload 4, 2) := dk_21 4 (dk_at dksJ21_inflate_0 1 rfl rfl)
theorem dJ21_inflate_3 : decode cJ21_inflate 3 = .ok (.aload_n 2, 1) := dk_44 (dk_at dksJ21_inflate_0 3 rfl rfl)
theorem dJ21_inflate_4 : decode cJ21_inflate 4 = .ok (.invokestatic 173, 3) := dk_184 0 173 (dk_at dksJ21_inflate_0 4 rfl rfl)
theorem dJ21_inflate_7 : decode cJ21_inflate 7 = .ok (.iconst 0, 1) := dk_3 (dk_at dksJ21_inflate_0 7 rfl rfl)
theorem dJ21_inflate_8 : decode cJ21_inflate 8 = .ok (.istore 5, 2) := dk_54 5 (dk_at dksJ21_inflate_0 8 rfl rfl)
theorem dJ21_inflate_10 : decode cJ21_inflate 10 = .ok (.iload 5, 2) := dk_21 5 (dk_at dksJ21_inflate_0 10 rfl rfl)
theorem dJ21_inflate_12 : decode cJ21_inflate 12 = .ok (.iload 4, 2) := dk_21 4 (dk_at dksJ21_inflate_0 12 rfl rfl)
theorem dJ21_inflate_14 : decode cJ21_inflate 14 = .ok (.if_icmp .ge 27, 3) := dk_162 0 27 (dk_at dksJ21_inflate_0 14 rfl rfl)
theorem dJ21_inflate_17 : decode cJ21_inflate 17 = .ok (.aload_n 2, 1) := dk_44 (dk_at dksJ21_inflate_0 17 rfl rfl)
theorem dJ21_inflate_18 : decode cJ21_inflate 18 = .ok (.iload_n 3, 1) := dk_29 (dk_at dksJ21_inflate_0 18 rfl rfl)
theorem dJ21_inflate_19 : decode cJ21_inflate 19 = .ok (.iinc 3 1, 3) := dk_132 3 1 (dk_at dksJ21_inflate_0 19 rfl rfl)
theorem dJ21_inflate_22 : decode cJ21_inflate 22 = .ok (.aload_n 0, 1) := dk_42 (dk_at dksJ21_inflate_0 22 rfl rfl)
theorem dJ21_inflate_23 : decode cJ21_inflate 23 = .ok (.iload_n 1, 1) := dk_27 (dk_at dksJ21_inflate_0 23 rfl rfl)
theorem dJ21_inflate_24 : decode cJ21_inflate 24 = .ok (.iinc 1 1, 3) := dk_132 1 1 (dk_at dksJ21_inflate_1 0 rfl rfl)
theorem dJ21_inflate_27 : decode cJ21_inflate 27 = .ok (.baload, 1) := dk_51 (dk_at dksJ21_inflate_1 3 rfl rfl)
theorem dJ21_inflate_28 : decode cJ21_inflate 28 = .ok (.sipush 255, 3) := dk_17 0 255 (dk_at dksJ21_inflate_1 4 rfl rfl)
theorem dJ21_inflate_31 : decode cJ21_inflate 31 = .ok (.iand, 1) := dk_126 (dk_at dksJ21_inflate_1 7 rfl rfl)
theorem dJ21_inflate_32 : decode cJ21_inflate 32 = .ok (.invokestatic 111, 3) := dk_184 0 111 (dk_at dksJ21_inflate_1 8 rfl rfl)
theorem dJ21_inflate_35 : decode cJ21_inflate 35 = .ok (.iinc 5 1, 3) := dk_132 5 1 (dk_at dksJ21_inflate_1 11 rfl rfl)
theorem dJ21_inflate_38 : decode cJ21_inflate 38 = .ok (.goto (-28), 3) := dk_167 255 228 (dk_at dksJ21_inflate_1 14 rfl rfl)
theorem dJ21_inflate_41 : decode cJ21_inflate 41 = .ok (.return_, 1) := dk_177 (dk_at dksJ21_inflate_1 17 rfl rfl)
abbrev cJ21_checkBoundsOffCount : ByteArray := prog_36_method_94_code
def yJ21_checkBoundsOffCount : MethodName := ⟨RJ21, "checkBoundsOffCount", "(II[B)V"⟩
def dkwJ21_checkBoundsOffCount_0 : List UInt8 := [26, 27, 44, 184, 0, 48, 184, 1, 163, 87, 177]
abbrev dktJ21_checkBoundsOffCount_0 : List UInt8 := dkwJ21_checkBoundsOffCount_0 ++ []
theorem dksJ21_checkBoundsOffCount_0 : cJ21_checkBoundsOffCount.data.toList.drop 0 = dktJ21_checkBoundsOffCount_0 := by decide +kernel
theorem dJ21_checkBoundsOffCount_0 : decode cJ21_checkBoundsOffCount 0 = .ok (.iload_n 0, 1) := dk_26 (dk_at dksJ21_checkBoundsOffCount_0 0 rfl rfl)
theorem dJ21_checkBoundsOffCount_1 : decode cJ21_checkBoundsOffCount 1 = .ok (.iload_n 1, 1) := dk_27 (dk_at dksJ21_checkBoundsOffCount_0 1 rfl rfl)
theorem dJ21_checkBoundsOffCount_2 : decode cJ21_checkBoundsOffCount 2 = .ok (.aload_n 2, 1) := dk_44 (dk_at dksJ21_checkBoundsOffCount_0 2 rfl rfl)
theorem dJ21_checkBoundsOffCount_3 : decode cJ21_checkBoundsOffCount 3 = .ok (.invokestatic 48, 3) := dk_184 0 48 (dk_at dksJ21_checkBoundsOffCount_0 3 rfl rfl)
theorem dJ21_checkBoundsOffCount_6 : decode cJ21_checkBoundsOffCount 6 = .ok (.invokestatic 419, 3) := dk_184 1 163 (dk_at dksJ21_checkBoundsOffCount_0 6 rfl rfl)
theorem dJ21_checkBoundsOffCount_9 : decode cJ21_checkBoundsOffCount 9 = .ok (.pop, 1) := dk_87 (dk_at dksJ21_checkBoundsOffCount_0 9 rfl rfl)
theorem dJ21_checkBoundsOffCount_10 : decode cJ21_checkBoundsOffCount 10 = .ok (.return_, 1) := dk_177 (dk_at dksJ21_checkBoundsOffCount_0 10 rfl rfl)
abbrev cJ21_length : ByteArray := prog_36_method_6_code
def yJ21_length : MethodName := ⟨RJ21, "length", "([B)I"⟩
def dkwJ21_length_0 : List UInt8 := [42, 190, 4, 122, 172]
abbrev dktJ21_length_0 : List UInt8 := dkwJ21_length_0 ++ []
theorem dksJ21_length_0 : cJ21_length.data.toList.drop 0 = dktJ21_length_0 := by decide +kernel
theorem dJ21_length_0 : decode cJ21_length 0 = .ok (.aload_n 0, 1) := dk_42 (dk_at dksJ21_length_0 0 rfl rfl)
theorem dJ21_length_1 : decode cJ21_length 1 = .ok (.arraylength, 1) := dk_190 (dk_at dksJ21_length_0 1 rfl rfl)
theorem dJ21_length_2 : decode cJ21_length 2 = .ok (.iconst 1, 1) := dk_4 (dk_at dksJ21_length_0 2 rfl rfl)
theorem dJ21_length_3 : decode cJ21_length 3 = .ok (.ishr, 1) := dk_122 (dk_at dksJ21_length_0 3 rfl rfl)
theorem dJ21_length_4 : decode cJ21_length 4 = .ok (.ireturn, 1) := dk_172 (dk_at dksJ21_length_0 4 rfl rfl)
abbrev cJ21_putChar : ByteArray := prog_36_method_4_code
def yJ21_putChar : MethodName := ⟨RJ21, "putChar", "([BII)V"⟩
def dkwJ21_putChar_2 : List UInt8 := [178, 0, 63, 122, 145, 84, 177]
abbrev dktJ21_putChar_2 : List UInt8 := dkwJ21_putChar_2 ++ []
def dkwJ21_putChar_1 : List UInt8 := [183, 0, 56, 191, 27, 4, 120, 60, 42, 27, 132, 1, 1, 28, 178, 0, 59, 122, 145, 84, 42, 27, 28]
abbrev dktJ21_putChar_1 : List UInt8 := dkwJ21_putChar_1 ++ dktJ21_putChar_2
def dkwJ21_putChar_0 : List UInt8 := [178, 0, 44, 154, 0, 25, 27, 155, 0, 11, 27, 42, 184, 0, 48, 161, 0, 13, 187, 0, 52, 89, 18, 54]
abbrev dktJ21_putChar_0 : List UInt8 := dkwJ21_putChar_0 ++ dktJ21_putChar_1
theorem dksJ21_putChar_0 : cJ21_putChar.data.toList.drop 0 = dktJ21_putChar_0 := by decide +kernel
theorem dksJ21_putChar_1 : cJ21_putChar.data.toList.drop 24 = dktJ21_putChar_1 := dk_seg dksJ21_putChar_0 24 rfl rfl
theorem dksJ21_putChar_2 : cJ21_putChar.data.toList.drop 47 = dktJ21_putChar_2 := dk_seg dksJ21_putChar_1 23 rfl rfl
theorem dJ21_putChar_0 : decode cJ21_putChar 0 = .ok (.getstatic 44, 3) := dk_178 0 44 (dk_at dksJ21_putChar_0 0 rfl rfl)
theorem dJ21_putChar_3 : decode cJ21_putChar 3 = .ok (.ifCond .ne 25, 3) := dk_154 0 25 (dk_at dksJ21_putChar_0 3 rfl rfl)
theorem dJ21_putChar_6 : decode cJ21_putChar 6 = .ok (.iload_n 1, 1) := dk_27 (dk_at dksJ21_putChar_0 6 rfl rfl)
theorem dJ21_putChar_7 : decode cJ21_putChar 7 = .ok (.ifCond .lt 11, 3) := dk_155 0 11 (dk_at dksJ21_putChar_0 7 rfl rfl)
theorem dJ21_putChar_10 : decode cJ21_putChar 10 = .ok (.iload_n 1, 1) := dk_27 (dk_at dksJ21_putChar_0 10 rfl rfl)
theorem dJ21_putChar_11 : decode cJ21_putChar 11 = .ok (.aload_n 0, 1) := dk_42 (dk_at dksJ21_putChar_0 11 rfl rfl)
theorem dJ21_putChar_12 : decode cJ21_putChar 12 = .ok (.invokestatic 48, 3) := dk_184 0 48 (dk_at dksJ21_putChar_0 12 rfl rfl)
theorem dJ21_putChar_15 : decode cJ21_putChar 15 = .ok (.if_icmp .lt 13, 3) := dk_161 0 13 (dk_at dksJ21_putChar_0 15 rfl rfl)
theorem dJ21_putChar_18 : decode cJ21_putChar 18 = .ok (.new 52, 3) := dk_187 0 52 (dk_at dksJ21_putChar_0 18 rfl rfl)
theorem dJ21_putChar_21 : decode cJ21_putChar 21 = .ok (.dup, 1) := dk_89 (dk_at dksJ21_putChar_0 21 rfl rfl)
theorem dJ21_putChar_22 : decode cJ21_putChar 22 = .ok (.ldc 54, 2) := dk_18 54 (dk_at dksJ21_putChar_0 22 rfl rfl)
theorem dJ21_putChar_24 : decode cJ21_putChar 24 = .ok (.invokespecial 56, 3) := dk_183 0 56 (dk_at dksJ21_putChar_1 0 rfl rfl)
theorem dJ21_putChar_27 : decode cJ21_putChar 27 = .ok (.athrow, 1) := dk_191 (dk_at dksJ21_putChar_1 3 rfl rfl)
theorem dJ21_putChar_28 : decode cJ21_putChar 28 = .ok (.iload_n 1, 1) := dk_27 (dk_at dksJ21_putChar_1 4 rfl rfl)
theorem dJ21_putChar_29 : decode cJ21_putChar 29 = .ok (.iconst 1, 1) := dk_4 (dk_at dksJ21_putChar_1 5 rfl rfl)
theorem dJ21_putChar_30 : decode cJ21_putChar 30 = .ok (.ishl, 1) := dk_120 (dk_at dksJ21_putChar_1 6 rfl rfl)
theorem dJ21_putChar_31 : decode cJ21_putChar 31 = .ok (.istore_n 1, 1) := dk_60 (dk_at dksJ21_putChar_1 7 rfl rfl)
theorem dJ21_putChar_32 : decode cJ21_putChar 32 = .ok (.aload_n 0, 1) := dk_42 (dk_at dksJ21_putChar_1 8 rfl rfl)
theorem dJ21_putChar_33 : decode cJ21_putChar 33 = .ok (.iload_n 1, 1) := dk_27 (dk_at dksJ21_putChar_1 9 rfl rfl)
theorem dJ21_putChar_34 : decode cJ21_putChar 34 = .ok (.iinc 1 1, 3) := dk_132 1 1 (dk_at dksJ21_putChar_1 10 rfl rfl)
theorem dJ21_putChar_37 : decode cJ21_putChar 37 = .ok (.iload_n 2, 1) := dk_28 (dk_at dksJ21_putChar_1 13 rfl rfl)
theorem dJ21_putChar_38 : decode cJ21_putChar 38 = .ok (.getstatic 59, 3) := dk_178 0 59 (dk_at dksJ21_putChar_1 14 rfl rfl)
theorem dJ21_putChar_41 : decode cJ21_putChar 41 = .ok (.ishr, 1) := dk_122 (dk_at dksJ21_putChar_1 17 rfl rfl)
theorem dJ21_putChar_42 : decode cJ21_putChar 42 = .ok (.i2b, 1) := dk_145 (dk_at dksJ21_putChar_1 18 rfl rfl)
theorem dJ21_putChar_43 : decode cJ21_putChar 43 = .ok (.bastore, 1) := dk_84 (dk_at dksJ21_putChar_1 19 rfl rfl)
theorem dJ21_putChar_44 : decode cJ21_putChar 44 = .ok (.aload_n 0, 1) := dk_42 (dk_at dksJ21_putChar_1 20 rfl rfl)
theorem dJ21_putChar_45 : decode cJ21_putChar 45 = .ok (.iload_n 1, 1) := dk_27 (dk_at dksJ21_putChar_1 21 rfl rfl)
theorem dJ21_putChar_46 : decode cJ21_putChar 46 = .ok (.iload_n 2, 1) := dk_28 (dk_at dksJ21_putChar_1 22 rfl rfl)
theorem dJ21_putChar_47 : decode cJ21_putChar 47 = .ok (.getstatic 63, 3) := dk_178 0 63 (dk_at dksJ21_putChar_2 0 rfl rfl)
theorem dJ21_putChar_50 : decode cJ21_putChar 50 = .ok (.ishr, 1) := dk_122 (dk_at dksJ21_putChar_2 3 rfl rfl)
theorem dJ21_putChar_51 : decode cJ21_putChar 51 = .ok (.i2b, 1) := dk_145 (dk_at dksJ21_putChar_2 4 rfl rfl)
theorem dJ21_putChar_52 : decode cJ21_putChar 52 = .ok (.bastore, 1) := dk_84 (dk_at dksJ21_putChar_2 5 rfl rfl)
theorem dJ21_putChar_53 : decode cJ21_putChar 53 = .ok (.return_, 1) := dk_177 (dk_at dksJ21_putChar_2 6 rfl rfl)
abbrev cJ21_putCharSB : ByteArray := prog_36_method_71_code
def yJ21_putCharSB : MethodName := ⟨RJ21, "putCharSB", "([BII)V"⟩
def dkwJ21_putCharSB_0 : List UInt8 := [27, 42, 184, 0, 67, 42, 27, 28, 184, 0, 111, 177]
abbrev dktJ21_putCharSB_0 : List UInt8 := dkwJ21_putCharSB_0 ++ []
theorem dksJ21_putCharSB_0 : cJ21_putCharSB.data.toList.drop 0 = dktJ21_putCharSB_0 := by decide +kernel
theorem dJ21_putCharSB_0 : decode cJ21_putCharSB 0 = .ok (.iload_n 1, 1) := dk_27 (dk_at dksJ21_putCharSB_0 0 rfl rfl)
theorem dJ21_putCharSB_1 : decode cJ21_putCharSB 1 = .ok (.aload_n 0, 1) := dk_42 (dk_at dksJ21_putCharSB_0 1 rfl rfl)
theorem dJ21_putCharSB_2 : decode cJ21_putCharSB 2 = .ok (.invokestatic 67, 3) := dk_184 0 67 (dk_at dksJ21_putCharSB_0 2 rfl rfl)
theorem dJ21_putCharSB_5 : decode cJ21_putCharSB 5 = .ok (.aload_n 0, 1) := dk_42 (dk_at dksJ21_putCharSB_0 5 rfl rfl)
theorem dJ21_putCharSB_6 : decode cJ21_putCharSB 6 = .ok (.iload_n 1, 1) := dk_27 (dk_at dksJ21_putCharSB_0 6 rfl rfl)
theorem dJ21_putCharSB_7 : decode cJ21_putCharSB 7 = .ok (.iload_n 2, 1) := dk_28 (dk_at dksJ21_putCharSB_0 7 rfl rfl)
theorem dJ21_putCharSB_8 : decode cJ21_putCharSB 8 = .ok (.invokestatic 111, 3) := dk_184 0 111 (dk_at dksJ21_putCharSB_0 8 rfl rfl)
theorem dJ21_putCharSB_11 : decode cJ21_putCharSB 11 = .ok (.return_, 1) := dk_177 (dk_at dksJ21_putCharSB_0 11 rfl rfl)
abbrev cJ21_checkIndex : ByteArray := prog_36_method_91_code
def yJ21_checkIndex : MethodName := ⟨RJ21, "checkIndex", "(I[B)V"⟩
def dkwJ21_checkIndex_0 : List UInt8 := [26, 43, 184, 0, 48, 184, 1, 158, 177]
abbrev dktJ21_checkIndex_0 : List UInt8 := dkwJ21_checkIndex_0 ++ []
theorem dksJ21_checkIndex_0 : cJ21_checkIndex.data.toList.drop 0 = dktJ21_checkIndex_0 := by decide +kernel
theorem dJ21_checkIndex_0 : decode cJ21_checkIndex 0 = .ok (.iload_n 0, 1) := dk_26 (dk_at dksJ21_checkIndex_0 0 rfl rfl)
theorem dJ21_checkIndex_1 : decode cJ21_checkIndex 1 = .ok (.aload_n 1, 1) := dk_43 (dk_at dksJ21_checkIndex_0 1 rfl rfl)
theorem dJ21_checkIndex_2 : decode cJ21_checkIndex 2 = .ok (.invokestatic 48, 3) := dk_184 0 48 (dk_at dksJ21_checkIndex_0 2 rfl rfl)
theorem dJ21_checkIndex_5 : decode cJ21_checkIndex 5 = .ok (.invokestatic 414, 3) := dk_184 1 158 (dk_at dksJ21_checkIndex_0 5 rfl rfl)
theorem dJ21_checkIndex_8 : decode cJ21_checkIndex 8 = .ok (.return_, 1) := dk_177 (dk_at dksJ21_checkIndex_0 8 rfl rfl)
abbrev cJ21_getChars : ByteArray := prog_36_method_77_code
def yJ21_getChars : MethodName := ⟨RJ21, "getChars", "(III[B)I"⟩
def dkwJ21_getChars_1 : List UInt8 := [159, 0, 11, 187, 0, 52, 89, 183, 0, 66, 191, 21, 4, 172]
abbrev dktJ21_getChars_1 : List UInt8 := dkwJ21_getChars_1 ++ []
def dkwJ21_getChars_0 : List UInt8 := [27, 28, 45, 184, 0, 96, 26, 28, 45, 184, 1, 137, 54, 4, 178, 0, 44, 154, 0, 17, 27, 21, 4]
abbrev dktJ21_getChars_0 : List UInt8 := dkwJ21_getChars_0 ++ dktJ21_getChars_1
theorem dksJ21_getChars_0 : cJ21_getChars.data.toList.drop 0 = dktJ21_getChars_0 := by decide +kernel
theorem dksJ21_getChars_1 : cJ21_getChars.data.toList.drop 23 = dktJ21_getChars_1 := dk_seg dksJ21_getChars_0 23 rfl rfl
theorem dJ21_getChars_0 : decode cJ21_getChars 0 = .ok (.iload_n 1, 1) := dk_27 (dk_at dksJ21_getChars_0 0 rfl rfl)
theorem dJ21_getChars_1 : decode cJ21_getChars 1 = .ok (.iload_n 2, 1) := dk_28 (dk_at dksJ21_getChars_0 1 rfl rfl)
theorem dJ21_getChars_2 : decode cJ21_getChars 2 = .ok (.aload_n 3, 1) := dk_45 (dk_at dksJ21_getChars_0 2 rfl rfl)
theorem dJ21_getChars_3 : decode cJ21_getChars 3 = .ok (.invokestatic 96, 3) := dk_184 0 96 (dk_at dksJ21_getChars_0 3 rfl rfl)
theorem dJ21_getChars_6 : decode cJ21_getChars 6 = .ok (.iload_n 0, 1) := dk_26 (dk_at dksJ21_getChars_0 6 rfl rfl)
theorem dJ21_getChars_7 : decode cJ21_getChars 7 = .ok (.iload_n 2, 1) := dk_28 (dk_at dksJ21_getChars_0 7 rfl rfl)
theorem dJ21_getChars_8 : decode cJ21_getChars 8 = .ok (.aload_n 3, 1) := dk_45 (dk_at dksJ21_getChars_0 8 rfl rfl)
theorem dJ21_getChars_9 : decode cJ21_getChars 9 = .ok (.invokestatic 393, 3) := dk_184 1 137 (dk_at dksJ21_getChars_0 9 rfl rfl)
theorem dJ21_getChars_12 : decode cJ21_getChars 12 = .ok (.istore 4, 2) := dk_54 4 (dk_at dksJ21_getChars_0 12 rfl rfl)
theorem dJ21_getChars_14 : decode cJ21_getChars 14 = .ok (.getstatic 44, 3) := dk_178 0 44 (dk_at dksJ21_getChars_0 14 rfl rfl)
theorem dJ21_getChars_17 : decode cJ21_getChars 17 = .ok (.ifCond .ne 17, 3) := dk_154 0 17 (dk_at dksJ21_getChars_0 17 rfl rfl)
theorem dJ21_getChars_20 : decode cJ21_getChars 20 = .ok (.iload_n 1, 1) := dk_27 (dk_at dksJ21_getChars_0 20 rfl rfl)
theorem dJ21_getChars_21 : decode cJ21_getChars 21 = .ok (.iload 4, 2) := dk_21 4 (dk_at dksJ21_getChars_0 21 rfl rfl)
theorem dJ21_getChars_23 : decode cJ21_getChars 23 = .ok (.if_icmp .eq 11, 3) := dk_159 0 11 (dk_at dksJ21_getChars_1 0 rfl rfl)
theorem dJ21_getChars_26 : decode cJ21_getChars 26 = .ok (.new 52, 3) := dk_187 0 52 (dk_at dksJ21_getChars_1 3 rfl rfl)
theorem dJ21_getChars_29 : decode cJ21_getChars 29 = .ok (.dup, 1) := dk_89 (dk_at dksJ21_getChars_1 6 rfl rfl)
theorem dJ21_getChars_30 : decode cJ21_getChars 30 = .ok (.invokespecial 66, 3) := dk_183 0 66 (dk_at dksJ21_getChars_1 7 rfl rfl)
theorem dJ21_getChars_33 : decode cJ21_getChars 33 = .ok (.athrow, 1) := dk_191 (dk_at dksJ21_getChars_1 10 rfl rfl)
theorem dJ21_getChars_34 : decode cJ21_getChars 34 = .ok (.iload 4, 2) := dk_21 4 (dk_at dksJ21_getChars_1 11 rfl rfl)
theorem dJ21_getChars_36 : decode cJ21_getChars 36 = .ok (.ireturn, 1) := dk_172 (dk_at dksJ21_getChars_1 13 rfl rfl)
abbrev cJ21_checkBoundsBeginEnd : ByteArray := prog_36_method_93_code
def yJ21_checkBoundsBeginEnd : MethodName := ⟨RJ21, "checkBoundsBeginEnd", "(II[B)V"⟩
def dkwJ21_checkBoundsBeginEnd_0 : List UInt8 := [26, 27, 44, 184, 0, 48, 184, 0, 241, 177]
abbrev dktJ21_checkBoundsBeginEnd_0 : List UInt8 := dkwJ21_checkBoundsBeginEnd_0 ++ []
theorem dksJ21_checkBoundsBeginEnd_0 : cJ21_checkBoundsBeginEnd.data.toList.drop 0 = dktJ21_checkBoundsBeginEnd_0 := by decide +kernel
theorem dJ21_checkBoundsBeginEnd_0 : decode cJ21_checkBoundsBeginEnd 0 = .ok (.iload_n 0, 1) := dk_26 (dk_at dksJ21_checkBoundsBeginEnd_0 0 rfl rfl)
theorem dJ21_checkBoundsBeginEnd_1 : decode cJ21_checkBoundsBeginEnd 1 = .ok (.iload_n 1, 1) := dk_27 (dk_at dksJ21_checkBoundsBeginEnd_0 1 rfl rfl)
theorem dJ21_checkBoundsBeginEnd_2 : decode cJ21_checkBoundsBeginEnd 2 = .ok (.aload_n 2, 1) := dk_44 (dk_at dksJ21_checkBoundsBeginEnd_0 2 rfl rfl)
theorem dJ21_checkBoundsBeginEnd_3 : decode cJ21_checkBoundsBeginEnd 3 = .ok (.invokestatic 48, 3) := dk_184 0 48 (dk_at dksJ21_checkBoundsBeginEnd_0 3 rfl rfl)
theorem dJ21_checkBoundsBeginEnd_6 : decode cJ21_checkBoundsBeginEnd 6 = .ok (.invokestatic 241, 3) := dk_184 0 241 (dk_at dksJ21_checkBoundsBeginEnd_0 6 rfl rfl)
theorem dJ21_checkBoundsBeginEnd_9 : decode cJ21_checkBoundsBeginEnd 9 = .ok (.return_, 1) := dk_177 (dk_at dksJ21_checkBoundsBeginEnd_0 9 rfl rfl)
abbrev cJ21_getChars_2 : ByteArray := prog_36_method_89_code
def yJ21_getChars_2 : MethodName := ⟨RJ21, "getChars", "(II[B)I"⟩
def dkwJ21_getChars_2_5 : List UInt8 := [132, 5, 255, 21, 5, 16, 45, 184, 0, 111, 21, 5, 172]
abbrev dktJ21_getChars_2_5 : List UInt8 := dkwJ21_getChars_2_5 ++ []
def dkwJ21_getChars_2_4 : List UInt8 := [162, 0, 18, 44, 132, 5, 255, 21, 5, 178, 1, 151, 26, 116, 51, 184, 0, 111, 21, 6, 153, 0, 14, 44]
abbrev dktJ21_getChars_2_4 : List UInt8 := dkwJ21_getChars_2_4 ++ dktJ21_getChars_2_5
def dkwJ21_getChars_2_3 : List UInt8 := [184, 0, 111, 167, 255, 205, 44, 132, 5, 255, 21, 5, 178, 1, 147, 26, 116, 51, 184, 0, 111, 26, 16, 247]
abbrev dktJ21_getChars_2_3 : List UInt8 := dkwJ21_getChars_2_3 ++ dktJ21_getChars_2_4
def dkwJ21_getChars_2_2 : List UInt8 := [21, 5, 178, 1, 147, 21, 4, 51, 184, 0, 111, 44, 132, 5, 255, 21, 5, 178, 1, 151, 21, 4, 51]
abbrev dktJ21_getChars_2_2 : List UInt8 := dkwJ21_getChars_2_2 ++ dktJ21_getChars_2_3
def dkwJ21_getChars_2_1 : List UInt8 := [16, 156, 163, 0, 51, 26, 16, 100, 108, 62, 29, 16, 100, 104, 26, 100, 54, 4, 29, 59, 44, 132, 5, 255]
abbrev dktJ21_getChars_2_1 : List UInt8 := dkwJ21_getChars_2_1 ++ dktJ21_getChars_2_2
def dkwJ21_getChars_2_0 : List UInt8 := [27, 54, 5, 26, 156, 0, 7, 4, 167, 0, 4, 3, 54, 6, 21, 6, 154, 0, 6, 26, 116, 59, 26]
abbrev dktJ21_getChars_2_0 : List UInt8 := dkwJ21_getChars_2_0 ++ dktJ21_getChars_2_1
theorem dksJ21_getChars_2_0 : cJ21_getChars_2.data.toList.drop 0 = dktJ21_getChars_2_0 := by decide +kernel
theorem dksJ21_getChars_2_1 : cJ21_getChars_2.data.toList.drop 23 = dktJ21_getChars_2_1 := dk_seg dksJ21_getChars_2_0 23 rfl rfl
theorem dksJ21_getChars_2_2 : cJ21_getChars_2.data.toList.drop 47 = dktJ21_getChars_2_2 := dk_seg dksJ21_getChars_2_1 24 rfl rfl
theorem dksJ21_getChars_2_3 : cJ21_getChars_2.data.toList.drop 70 = dktJ21_getChars_2_3 := dk_seg dksJ21_getChars_2_2 23 rfl rfl
theorem dksJ21_getChars_2_4 : cJ21_getChars_2.data.toList.drop 94 = dktJ21_getChars_2_4 := dk_seg dksJ21_getChars_2_3 24 rfl rfl
theorem dksJ21_getChars_2_5 : cJ21_getChars_2.data.toList.drop 118 = dktJ21_getChars_2_5 := dk_seg dksJ21_getChars_2_4 24 rfl rfl
theorem dJ21_getChars_2_0 : decode cJ21_getChars_2 0 = .ok (.iload_n 1, 1) := dk_27 (dk_at dksJ21_getChars_2_0 0 rfl rfl)
theorem dJ21_getChars_2_1 : decode cJ21_getChars_2 1 = .ok (.istore 5, 2) := dk_54 5 (dk_at dksJ21_getChars_2_0 1 rfl rfl)
theorem dJ21_getChars_2_3 : decode cJ21_getChars_2 3 = .ok (.iload_n 0, 1) := dk_26 (dk_at dksJ21_getChars_2_0 3 rfl rfl)
theorem dJ21_getChars_2_4 : decode cJ21_getChars_2 4 = .ok (.ifCond .ge 7, 3) := dk_156 0 7 (dk_at dksJ21_getChars_2_0 4 rfl rfl)
theorem dJ21_getChars_2_7 : decode cJ21_getChars_2 7 = .ok (.iconst 1, 1) := dk_4 (dk_at dksJ21_getChars_2_0 7 rfl rfl)
theorem dJ21_getChars_2_8 : decode cJ21_getChars_2 8 = .ok (.goto 4, 3) := dk_167 0 4 (dk_at dksJ21_getChars_2_0 8 rfl rfl)
theorem dJ21_getChars_2_11 : decode cJ21_getChars_2 11 = .ok (.iconst 0, 1) := dk_3 (dk_at dksJ21_getChars_2_0 11 rfl rfl)
theorem dJ21_getChars_2_12 : decode cJ21_getChars_2 12 = .ok (.istore 6, 2) := dk_54 6 (dk_at dksJ21_getChars_2_0 12 rfl rfl)
theorem dJ21_getChars_2_14 : decode cJ21_getChars_2 14 = .ok (.iload 6, 2) := dk_21 6 (dk_at dksJ21_getChars_2_0 14 rfl rfl)
theorem dJ21_getChars_2_16 : decode cJ21_getChars_2 16 = .ok (.ifCond .ne 6, 3) := dk_154 0 6 (dk_at dksJ21_getChars_2_0 16 rfl rfl)
theorem dJ21_getChars_2_19 : decode cJ21_getChars_2 19 = .ok (.iload_n 0, 1) := dk_26 (dk_at dksJ21_getChars_2_0 19 rfl rfl)
theorem dJ21_getChars_2_20 : decode cJ21_getChars_2 20 = .ok (.ineg, 1) := dk_116 (dk_at dksJ21_getChars_2_0 20 rfl rfl)
theorem dJ21_getChars_2_21 : decode cJ21_getChars_2 21 = .ok (.istore_n 0, 1) := dk_59 (dk_at dksJ21_getChars_2_0 21 rfl rfl)
theorem dJ21_getChars_2_22 : decode cJ21_getChars_2 22 = .ok (.iload_n 0, 1) := dk_26 (dk_at dksJ21_getChars_2_0 22 rfl rfl)
theorem dJ21_getChars_2_23 : decode cJ21_getChars_2 23 = .ok (.bipush (-100), 2) := dk_16 156 (dk_at dksJ21_getChars_2_1 0 rfl rfl)
theorem dJ21_getChars_2_25 : decode cJ21_getChars_2 25 = .ok (.if_icmp .gt 51, 3) := dk_163 0 51 (dk_at dksJ21_getChars_2_1 2 rfl rfl)
theorem dJ21_getChars_2_28 : decode cJ21_getChars_2 28 = .ok (.iload_n 0, 1) := dk_26 (dk_at dksJ21_getChars_2_1 5 rfl rfl)
theorem dJ21_getChars_2_29 : decode cJ21_getChars_2 29 = .ok (.bipush 100, 2) := dk_16 100 (dk_at dksJ21_getChars_2_1 6 rfl rfl)
theorem dJ21_getChars_2_31 : decode cJ21_getChars_2 31 = .ok (.idiv, 1) := dk_108 (dk_at dksJ21_getChars_2_1 8 rfl rfl)
theorem dJ21_getChars_2_32 : decode cJ21_getChars_2 32 = .ok (.istore_n 3, 1) := dk_62 (dk_at dksJ21_getChars_2_1 9 rfl rfl)
theorem dJ21_getChars_2_33 : decode cJ21_getChars_2 33 = .ok (.iload_n 3, 1) := dk_29 (dk_at dksJ21_getChars_2_1 10 rfl rfl)
theorem dJ21_getChars_2_34 : decode cJ21_getChars_2 34 = .ok (.bipush 100, 2) := dk_16 100 (dk_at dksJ21_getChars_2_1 11 rfl rfl)
theorem dJ21_getChars_2_36 : decode cJ21_getChars_2 36 = .ok (.imul, 1) := dk_104 (dk_at dksJ21_getChars_2_1 13 rfl rfl)
theorem dJ21_getChars_2_37 : decode cJ21_getChars_2 37 = .ok (.iload_n 0, 1) := dk_26 (dk_at dksJ21_getChars_2_1 14 rfl rfl)
theorem dJ21_getChars_2_38 : decode cJ21_getChars_2 38 = .ok (.isub, 1) := dk_100 (dk_at dksJ21_getChars_2_1 15 rfl rfl)
theorem dJ21_getChars_2_39 : decode cJ21_getChars_2 39 = .ok (.istore 4, 2) := dk_54 4 (dk_at dksJ21_getChars_2_1 16 rfl rfl)
theorem dJ21_getChars_2_41 : decode cJ21_getChars_2 41 = .ok (.iload_n 3, 1) := dk_29 (dk_at dksJ21_getChars_2_1 18 rfl rfl)
theorem dJ21_getChars_2_42 : decode cJ21_getChars_2 42 = .ok (.istore_n 0, 1) := dk_59 (dk_at dksJ21_getChars_2_1 19 rfl rfl)
theorem dJ21_getChars_2_43 : decode cJ21_getChars_2 43 = .ok (.aload_n 2, 1) := dk_44 (dk_at dksJ21_getChars_2_1 20 rfl rfl)
theorem dJ21_getChars_2_44 : decode cJ21_getChars_2 44 = .ok (.iinc 5 (-1), 3) := dk_132 5 255 (dk_at dksJ21_getChars_2_1 21 rfl rfl)
theorem dJ21_getChars_2_47 : decode cJ21_getChars_2 47 = .ok (.iload 5, 2) := dk_21 5 (dk_at dksJ21_getChars_2_2 0 rfl rfl)
theorem dJ21_getChars_2_49 : decode cJ21_getChars_2 49 = .ok (.getstatic 403, 3) := dk_178 1 147 (dk_at dksJ21_getChars_2_2 2 rfl rfl)
theorem dJ21_getChars_2_52 : decode cJ21_getChars_2 52 = .ok (.iload 4, 2) := dk_21 4 (dk_at dksJ21_getChars_2_2 5 rfl rfl)
theorem dJ21_getChars_2_54 : decode cJ21_getChars_2 54 = .ok (.baload, 1) := dk_51 (dk_at dksJ21_getChars_2_2 7 rfl rfl)
theorem dJ21_getChars_2_55 : decode cJ21_getChars_2 55 = .ok (.invokestatic 111, 3) := dk_184 0 111 (dk_at dksJ21_getChars_2_2 8 rfl rfl)
theorem dJ21_getChars_2_58 : decode cJ21_getChars_2 58 = .ok (.aload_n 2, 1) := dk_44 (dk_at dksJ21_getChars_2_2 11 rfl rfl)
theorem dJ21_getChars_2_59 : decode cJ21_getChars_2 59 = .ok (.iinc 5 (-1), 3) := dk_132 5 255 (dk_at dksJ21_getChars_2_2 12 rfl rfl)
theorem dJ21_getChars_2_62 : decode cJ21_getChars_2 62 = .ok (.iload 5, 2) := dk_21 5 (dk_at dksJ21_getChars_2_2 15 rfl rfl)
theorem dJ21_getChars_2_64 : decode cJ21_getChars_2 64 = .ok (.getstatic 407, 3) := dk_178 1 151 (dk_at dksJ21_getChars_2_2 17 rfl rfl)
theorem dJ21_getChars_2_67 : decode cJ21_getChars_2 67 = .ok (.iload 4, 2) := dk_21 4 (dk_at dksJ21_getChars_2_2 20 rfl rfl)
theorem dJ21_getChars_2_69 : decode cJ21_getChars_2 69 = .ok (.baload, 1) := dk_51 (dk_at dksJ21_getChars_2_2 22 rfl rfl)
theorem dJ21_getChars_2_70 : decode cJ21_getChars_2 70 = .ok (.invokestatic 111, 3) := dk_184 0 111 (dk_at dksJ21_getChars_2_3 0 rfl rfl)
theorem dJ21_getChars_2_73 : decode cJ21_getChars_2 73 = .ok (.goto (-51), 3) := dk_167 255 205 (dk_at dksJ21_getChars_2_3 3 rfl rfl)
theorem dJ21_getChars_2_76 : decode cJ21_getChars_2 76 = .ok (.aload_n 2, 1) := dk_44 (dk_at dksJ21_getChars_2_3 6 rfl rfl)
theorem dJ21_getChars_2_77 : decode cJ21_getChars_2 77 = .ok (.iinc 5 (-1), 3) := dk_132 5 255 (dk_at dksJ21_getChars_2_3 7 rfl rfl)
theorem dJ21_getChars_2_80 : decode cJ21_getChars_2 80 = .ok (.iload 5, 2) := dk_21 5 (dk_at dksJ21_getChars_2_3 10 rfl rfl)
theorem dJ21_getChars_2_82 : decode cJ21_getChars_2 82 = .ok (.getstatic 403, 3) := dk_178 1 147 (dk_at dksJ21_getChars_2_3 12 rfl rfl)
theorem dJ21_getChars_2_85 : decode cJ21_getChars_2 85 = .ok (.iload_n 0, 1) := dk_26 (dk_at dksJ21_getChars_2_3 15 rfl rfl)
theorem dJ21_getChars_2_86 : decode cJ21_getChars_2 86 = .ok (.ineg, 1) := dk_116 (dk_at dksJ21_getChars_2_3 16 rfl rfl)
theorem dJ21_getChars_2_87 : decode cJ21_getChars_2 87 = .ok (.baload, 1) := dk_51 (dk_at dksJ21_getChars_2_3 17 rfl rfl)
theorem dJ21_getChars_2_88 : decode cJ21_getChars_2 88 = .ok (.invokestatic 111, 3) := dk_184 0 111 (dk_at dksJ21_getChars_2_3 18 rfl rfl)
theorem dJ21_getChars_2_91 : decode cJ21_getChars_2 91 = .ok (.iload_n 0, 1) := dk_26 (dk_at dksJ21_getChars_2_3 21 rfl rfl)
theorem dJ21_getChars_2_92 : decode cJ21_getChars_2 92 = .ok (.bipush (-9), 2) := dk_16 247 (dk_at dksJ21_getChars_2_3 22 rfl rfl)
theorem dJ21_getChars_2_94 : decode cJ21_getChars_2 94 = .ok (.if_icmp .ge 18, 3) := dk_162 0 18 (dk_at dksJ21_getChars_2_4 0 rfl rfl)
theorem dJ21_getChars_2_97 : decode cJ21_getChars_2 97 = .ok (.aload_n 2, 1) := dk_44 (dk_at dksJ21_getChars_2_4 3 rfl rfl)
theorem dJ21_getChars_2_98 : decode cJ21_getChars_2 98 = .ok (.iinc 5 (-1), 3) := dk_132 5 255 (dk_at dksJ21_getChars_2_4 4 rfl rfl)
theorem dJ21_getChars_2_101 : decode cJ21_getChars_2 101 = .ok (.iload 5, 2) := dk_21 5 (dk_at dksJ21_getChars_2_4 7 rfl rfl)
theorem dJ21_getChars_2_103 : decode cJ21_getChars_2 103 = .ok (.getstatic 407, 3) := dk_178 1 151 (dk_at dksJ21_getChars_2_4 9 rfl rfl)
theorem dJ21_getChars_2_106 : decode cJ21_getChars_2 106 = .ok (.iload_n 0, 1) := dk_26 (dk_at dksJ21_getChars_2_4 12 rfl rfl)
theorem dJ21_getChars_2_107 : decode cJ21_getChars_2 107 = .ok (.ineg, 1) := dk_116 (dk_at dksJ21_getChars_2_4 13 rfl rfl)
theorem dJ21_getChars_2_108 : decode cJ21_getChars_2 108 = .ok (.baload, 1) := dk_51 (dk_at dksJ21_getChars_2_4 14 rfl rfl)
theorem dJ21_getChars_2_109 : decode cJ21_getChars_2 109 = .ok (.invokestatic 111, 3) := dk_184 0 111 (dk_at dksJ21_getChars_2_4 15 rfl rfl)
theorem dJ21_getChars_2_112 : decode cJ21_getChars_2 112 = .ok (.iload 6, 2) := dk_21 6 (dk_at dksJ21_getChars_2_4 18 rfl rfl)
theorem dJ21_getChars_2_114 : decode cJ21_getChars_2 114 = .ok (.ifCond .eq 14, 3) := dk_153 0 14 (dk_at dksJ21_getChars_2_4 20 rfl rfl)
theorem dJ21_getChars_2_117 : decode cJ21_getChars_2 117 = .ok (.aload_n 2, 1) := dk_44 (dk_at dksJ21_getChars_2_4 23 rfl rfl)
theorem dJ21_getChars_2_118 : decode cJ21_getChars_2 118 = .ok (.iinc 5 (-1), 3) := dk_132 5 255 (dk_at dksJ21_getChars_2_5 0 rfl rfl)
theorem dJ21_getChars_2_121 : decode cJ21_getChars_2 121 = .ok (.iload 5, 2) := dk_21 5 (dk_at dksJ21_getChars_2_5 3 rfl rfl)
theorem dJ21_getChars_2_123 : decode cJ21_getChars_2 123 = .ok (.bipush 45, 2) := dk_16 45 (dk_at dksJ21_getChars_2_5 5 rfl rfl)
theorem dJ21_getChars_2_125 : decode cJ21_getChars_2 125 = .ok (.invokestatic 111, 3) := dk_184 0 111 (dk_at dksJ21_getChars_2_5 7 rfl rfl)
theorem dJ21_getChars_2_128 : decode cJ21_getChars_2 128 = .ok (.iload 5, 2) := dk_21 5 (dk_at dksJ21_getChars_2_5 10 rfl rfl)
theorem dJ21_getChars_2_130 : decode cJ21_getChars_2 130 = .ok (.ireturn, 1) := dk_172 (dk_at dksJ21_getChars_2_5 12 rfl rfl)
abbrev cJ21_putCharsAt : ByteArray := prog_36_method_81_code
def yJ21_putCharsAt : MethodName := ⟨RJ21, "putCharsAt", "([BICCCC)I"⟩
def dkwJ21_putCharsAt_3 : List UInt8 := [21, 6, 172]
abbrev dktJ21_putCharsAt_3 : List UInt8 := dkwJ21_putCharsAt_3 ++ []
def dkwJ21_putCharsAt_2 : List UInt8 := [184, 0, 111, 178, 0, 44, 154, 0, 17, 27, 21, 6, 159, 0, 11, 187, 0, 52, 89, 183, 0, 66, 191]
abbrev dktJ21_putCharsAt_2 : List UInt8 := dkwJ21_putCharsAt_2 ++ dktJ21_putCharsAt_3
def dkwJ21_putCharsAt_1 : List UInt8 := [132, 1, 1, 29, 184, 0, 111, 42, 27, 132, 1, 1, 21, 4, 184, 0, 111, 42, 27, 132, 1, 1, 21, 5]
abbrev dktJ21_putCharsAt_1 : List UInt8 := dkwJ21_putCharsAt_1 ++ dktJ21_putCharsAt_2
def dkwJ21_putCharsAt_0 : List UInt8 := [27, 7, 96, 54, 6, 27, 21, 6, 42, 184, 0, 96, 42, 27, 132, 1, 1, 28, 184, 0, 111, 42, 27]
abbrev dktJ21_putCharsAt_0 : List UInt8 := dkwJ21_putCharsAt_0 ++ dktJ21_putCharsAt_1
theorem dksJ21_putCharsAt_0 : cJ21_putCharsAt.data.toList.drop 0 = dktJ21_putCharsAt_0 := by decide +kernel
theorem dksJ21_putCharsAt_1 : cJ21_putCharsAt.data.toList.drop 23 = dktJ21_putCharsAt_1 := dk_seg dksJ21_putCharsAt_0 23 rfl rfl
theorem dksJ21_putCharsAt_2 : cJ21_putCharsAt.data.toList.drop 47 = dktJ21_putCharsAt_2 := dk_seg dksJ21_putCharsAt_1 24 rfl rfl
theorem dksJ21_putCharsAt_3 : cJ21_putCharsAt.data.toList.drop 70 = dktJ21_putCharsAt_3 := dk_seg dksJ21_putCharsAt_2 23 rfl rfl
theorem dJ21_putCharsAt_0 : decode cJ21_putCharsAt 0 = .ok (.iload_n 1, 1) := dk_27 (dk_at dksJ21_putCharsAt_0 0 rfl rfl)
theorem dJ21_putCharsAt_1 : decode cJ21_putCharsAt 1 = .ok (.iconst 4, 1) := dk_7 (dk_at dksJ21_putCharsAt_0 1 rfl rfl)
theorem dJ21_putCharsAt_2 : decode cJ21_putCharsAt 2 = .ok (.iadd, 1) := dk_96 (dk_at dksJ21_putCharsAt_0 2 rfl rfl)
theorem dJ21_putCharsAt_3 : decode cJ21_putCharsAt 3 = .ok (.istore 6, 2) := dk_54 6 (dk_at dksJ21_putCharsAt_0 3 rfl rfl)
theorem dJ21_putCharsAt_5 : decode cJ21_putCharsAt 5 = .ok (.iload_n 1, 1) := dk_27 (dk_at dksJ21_putCharsAt_0 5 rfl rfl)
theorem dJ21_putCharsAt_6 : decode cJ21_putCharsAt 6 = .ok (.iload 6, 2) := dk_21 6 (dk_at dksJ21_putCharsAt_0 6 rfl rfl)
theorem dJ21_putCharsAt_8 : decode cJ21_putCharsAt 8 = .ok (.aload_n 0, 1) := dk_42 (dk_at dksJ21_putCharsAt_0 8 rfl rfl)
theorem dJ21_putCharsAt_9 : decode cJ21_putCharsAt 9 = .ok (.invokestatic 96, 3) := dk_184 0 96 (dk_at dksJ21_putCharsAt_0 9 rfl rfl)
theorem dJ21_putCharsAt_12 : decode cJ21_putCharsAt 12 = .ok (.aload_n 0, 1) := dk_42 (dk_at dksJ21_putCharsAt_0 12 rfl rfl)
theorem dJ21_putCharsAt_13 : decode cJ21_putCharsAt 13 = .ok (.iload_n 1, 1) := dk_27 (dk_at dksJ21_putCharsAt_0 13 rfl rfl)
theorem dJ21_putCharsAt_14 : decode cJ21_putCharsAt 14 = .ok (.iinc 1 1, 3) := dk_132 1 1 (dk_at dksJ21_putCharsAt_0 14 rfl rfl)
theorem dJ21_putCharsAt_17 : decode cJ21_putCharsAt 17 = .ok (.iload_n 2, 1) := dk_28 (dk_at dksJ21_putCharsAt_0 17 rfl rfl)
theorem dJ21_putCharsAt_18 : decode cJ21_putCharsAt 18 = .ok (.invokestatic 111, 3) := dk_184 0 111 (dk_at dksJ21_putCharsAt_0 18 rfl rfl)
theorem dJ21_putCharsAt_21 : decode cJ21_putCharsAt 21 = .ok (.aload_n 0, 1) := dk_42 (dk_at dksJ21_putCharsAt_0 21 rfl rfl)
theorem dJ21_putCharsAt_22 : decode cJ21_putCharsAt 22 = .ok (.iload_n 1, 1) := dk_27 (dk_at dksJ21_putCharsAt_0 22 rfl rfl)
theorem dJ21_putCharsAt_23 : decode cJ21_putCharsAt 23 = .ok (.iinc 1 1, 3) := dk_132 1 1 (dk_at dksJ21_putCharsAt_1 0 rfl rfl)
theorem dJ21_putCharsAt_26 : decode cJ21_putCharsAt 26 = .ok (.iload_n 3, 1) := dk_29 (dk_at dksJ21_putCharsAt_1 3 rfl rfl)
theorem dJ21_putCharsAt_27 : decode cJ21_putCharsAt 27 = .ok (.invokestatic 111, 3) := dk_184 0 111 (dk_at dksJ21_putCharsAt_1 4 rfl rfl)
theorem dJ21_putCharsAt_30 : decode cJ21_putCharsAt 30 = .ok (.aload_n 0, 1) := dk_42 (dk_at dksJ21_putCharsAt_1 7 rfl rfl)
theorem dJ21_putCharsAt_31 : decode cJ21_putCharsAt 31 = .ok (.iload_n 1, 1) := dk_27 (dk_at dksJ21_putCharsAt_1 8 rfl rfl)
theorem dJ21_putCharsAt_32 : decode cJ21_putCharsAt 32 = .ok (.iinc 1 1, 3) := dk_132 1 1 (dk_at dksJ21_putCharsAt_1 9 rfl rfl)
theorem dJ21_putCharsAt_35 : decode cJ21_putCharsAt 35 = .ok (.iload 4, 2) := dk_21 4 (dk_at dksJ21_putCharsAt_1 12 rfl rfl)
theorem dJ21_putCharsAt_37 : decode cJ21_putCharsAt 37 = .ok (.invokestatic 111, 3) := dk_184 0 111 (dk_at dksJ21_putCharsAt_1 14 rfl rfl)
theorem dJ21_putCharsAt_40 : decode cJ21_putCharsAt 40 = .ok (.aload_n 0, 1) := dk_42 (dk_at dksJ21_putCharsAt_1 17 rfl rfl)
theorem dJ21_putCharsAt_41 : decode cJ21_putCharsAt 41 = .ok (.iload_n 1, 1) := dk_27 (dk_at dksJ21_putCharsAt_1 18 rfl rfl)
theorem dJ21_putCharsAt_42 : decode cJ21_putCharsAt 42 = .ok (.iinc 1 1, 3) := dk_132 1 1 (dk_at dksJ21_putCharsAt_1 19 rfl rfl)
theorem dJ21_putCharsAt_45 : decode cJ21_putCharsAt 45 = .ok (.iload 5, 2) := dk_21 5 (dk_at dksJ21_putCharsAt_1 22 rfl rfl)
theorem dJ21_putCharsAt_47 : decode cJ21_putCharsAt 47 = .ok (.invokestatic 111, 3) := dk_184 0 111 (dk_at dksJ21_putCharsAt_2 0 rfl rfl)
theorem dJ21_putCharsAt_50 : decode cJ21_putCharsAt 50 = .ok (.getstatic 44, 3) := dk_178 0 44 (dk_at dksJ21_putCharsAt_2 3 rfl rfl)
theorem dJ21_putCharsAt_53 : decode cJ21_putCharsAt 53 = .ok (.ifCond .ne 17, 3) := dk_154 0 17 (dk_at dksJ21_putCharsAt_2 6 rfl rfl)
theorem dJ21_putCharsAt_56 : decode cJ21_putCharsAt 56 = .ok (.iload_n 1, 1) := dk_27 (dk_at dksJ21_putCharsAt_2 9 rfl rfl)
theorem dJ21_putCharsAt_57 : decode cJ21_putCharsAt 57 = .ok (.iload 6, 2) := dk_21 6 (dk_at dksJ21_putCharsAt_2 10 rfl rfl)
theorem dJ21_putCharsAt_59 : decode cJ21_putCharsAt 59 = .ok (.if_icmp .eq 11, 3) := dk_159 0 11 (dk_at dksJ21_putCharsAt_2 12 rfl rfl)
theorem dJ21_putCharsAt_62 : decode cJ21_putCharsAt 62 = .ok (.new 52, 3) := dk_187 0 52 (dk_at dksJ21_putCharsAt_2 15 rfl rfl)
theorem dJ21_putCharsAt_65 : decode cJ21_putCharsAt 65 = .ok (.dup, 1) := dk_89 (dk_at dksJ21_putCharsAt_2 18 rfl rfl)
theorem dJ21_putCharsAt_66 : decode cJ21_putCharsAt 66 = .ok (.invokespecial 66, 3) := dk_183 0 66 (dk_at dksJ21_putCharsAt_2 19 rfl rfl)
theorem dJ21_putCharsAt_69 : decode cJ21_putCharsAt 69 = .ok (.athrow, 1) := dk_191 (dk_at dksJ21_putCharsAt_2 22 rfl rfl)
theorem dJ21_putCharsAt_70 : decode cJ21_putCharsAt 70 = .ok (.iload 6, 2) := dk_21 6 (dk_at dksJ21_putCharsAt_3 0 rfl rfl)
theorem dJ21_putCharsAt_72 : decode cJ21_putCharsAt 72 = .ok (.ireturn, 1) := dk_172 (dk_at dksJ21_putCharsAt_3 2 rfl rfl)
abbrev cJ21_compress : ByteArray := prog_36_method_17_code
def yJ21_compress : MethodName := ⟨RJ21, "compress", "([BII)[B"⟩
def dkwJ21_compress_2 : List UInt8 := [25, 5, 3, 45, 3, 28, 184, 0, 123, 28, 159, 0, 6, 25, 5, 176, 45, 176]
abbrev dktJ21_compress_2 : List UInt8 := dkwJ21_compress_2 ++ []
def dkwJ21_compress_1 : List UInt8 := [27, 28, 96, 184, 0, 11, 184, 0, 126, 58, 5, 25, 5, 21, 4, 184, 0, 71, 17, 0, 255, 163, 0, 16]
abbrev dktJ21_compress_1 : List UInt8 := dkwJ21_compress_1 ++ dktJ21_compress_2
def dkwJ21_compress_0 : List UInt8 := [28, 188, 8, 78, 42, 27, 45, 3, 28, 184, 0, 123, 54, 4, 21, 4, 28, 159, 0, 47, 42, 27, 4, 120]
abbrev dktJ21_compress_0 : List UInt8 := dkwJ21_compress_0 ++ dktJ21_compress_1
theorem dksJ21_compress_0 : cJ21_compress.data.toList.drop 0 = dktJ21_compress_0 := by decide +kernel
theorem dksJ21_compress_1 : cJ21_compress.data.toList.drop 24 = dktJ21_compress_1 := dk_seg dksJ21_compress_0 24 rfl rfl
theorem dksJ21_compress_2 : cJ21_compress.data.toList.drop 48 = dktJ21_compress_2 := dk_seg dksJ21_compress_1 24 rfl rfl
theorem dJ21_compress_0 : decode cJ21_compress 0 = .ok (.iload_n 2, 1) := dk_28 (dk_at dksJ21_compress_0 0 rfl rfl)
theorem dJ21_compress_1 : decode cJ21_compress 1 = .ok (.newarray .byte, 2) := dk_188_8 (dk_at dksJ21_compress_0 1 rfl rfl)
theorem dJ21_compress_3 : decode cJ21_compress 3 = .ok (.astore_n 3, 1) := dk_78 (dk_at dksJ21_compress_0 3 rfl rfl)
theorem dJ21_compress_4 : decode cJ21_compress 4 = .ok (.aload_n 0, 1) := dk_42 (dk_at dksJ21_compress_0 4 rfl rfl)
theorem dJ21_compress_5 : decode cJ21_compress 5 = .ok (.iload_n 1, 1) := dk_27 (dk_at dksJ21_compress_0 5 rfl rfl)
theorem dJ21_compress_6 : decode cJ21_compress 6 = .ok (.aload_n 3, 1) := dk_45 (dk_at dksJ21_compress_0 6 rfl rfl)
theorem dJ21_compress_7 : decode cJ21_compress 7 = .ok (.iconst 0, 1) := dk_3 (dk_at dksJ21_compress_0 7 rfl rfl)
theorem dJ21_compress_8 : decode cJ21_compress 8 = .ok (.iload_n 2, 1) := dk_28 (dk_at dksJ21_compress_0 8 rfl rfl)
theorem dJ21_compress_9 : decode cJ21_compress 9 = .ok (.invokestatic 123, 3) := dk_184 0 123 (dk_at dksJ21_compress_0 9 rfl rfl)
theorem dJ21_compress_12 : decode cJ21_compress 12 = .ok (.istore 4, 2) := dk_54 4 (dk_at dksJ21_compress_0 12 rfl rfl)
theorem dJ21_compress_14 : decode cJ21_compress 14 = .ok (.iload 4, 2) := dk_21 4 (dk_at dksJ21_compress_0 14 rfl rfl)
theorem dJ21_compress_16 : decode cJ21_compress 16 = .ok (.iload_n 2, 1) := dk_28 (dk_at dksJ21_compress_0 16 rfl rfl)
theorem dJ21_compress_17 : decode cJ21_compress 17 = .ok (.if_icmp .eq 47, 3) := dk_159 0 47 (dk_at dksJ21_compress_0 17 rfl rfl)
theorem dJ21_compress_20 : decode cJ21_compress 20 = .ok (.aload_n 0, 1) := dk_42 (dk_at dksJ21_compress_0 20 rfl rfl)
theorem dJ21_compress_21 : decode cJ21_compress 21 = .ok (.iload_n 1, 1) := dk_27 (dk_at dksJ21_compress_0 21 rfl rfl)
theorem dJ21_compress_22 : decode cJ21_compress 22 = .ok (.iconst 1, 1) := dk_4 (dk_at dksJ21_compress_0 22 rfl rfl)
theorem dJ21_compress_23 : decode cJ21_compress 23 = .ok (.ishl, 1) := dk_120 (dk_at dksJ21_compress_0 23 rfl rfl)
theorem dJ21_compress_24 : decode cJ21_compress 24 = .ok (.iload_n 1, 1) := dk_27 (dk_at dksJ21_compress_1 0 rfl rfl)
theorem dJ21_compress_25 : decode cJ21_compress 25 = .ok (.iload_n 2, 1) := dk_28 (dk_at dksJ21_compress_1 1 rfl rfl)
theorem dJ21_compress_26 : decode cJ21_compress 26 = .ok (.iadd, 1) := dk_96 (dk_at dksJ21_compress_1 2 rfl rfl)
theorem dJ21_compress_27 : decode cJ21_compress 27 = .ok (.invokestatic 11, 3) := dk_184 0 11 (dk_at dksJ21_compress_1 3 rfl rfl)
theorem dJ21_compress_30 : decode cJ21_compress 30 = .ok (.invokestatic 126, 3) := dk_184 0 126 (dk_at dksJ21_compress_1 6 rfl rfl)
theorem dJ21_compress_33 : decode cJ21_compress 33 = .ok (.astore 5, 2) := dk_58 5 (dk_at dksJ21_compress_1 9 rfl rfl)
theorem dJ21_compress_35 : decode cJ21_compress 35 = .ok (.aload 5, 2) := dk_25 5 (dk_at dksJ21_compress_1 11 rfl rfl)
theorem dJ21_compress_37 : decode cJ21_compress 37 = .ok (.iload 4, 2) := dk_21 4 (dk_at dksJ21_compress_1 13 rfl rfl)
theorem dJ21_compress_39 : decode cJ21_compress 39 = .ok (.invokestatic 71, 3) := dk_184 0 71 (dk_at dksJ21_compress_1 15 rfl rfl)
theorem dJ21_compress_42 : decode cJ21_compress 42 = .ok (.sipush 255, 3) := dk_17 0 255 (dk_at dksJ21_compress_1 18 rfl rfl)
theorem dJ21_compress_45 : decode cJ21_compress 45 = .ok (.if_icmp .gt 16, 3) := dk_163 0 16 (dk_at dksJ21_compress_1 21 rfl rfl)
theorem dJ21_compress_48 : decode cJ21_compress 48 = .ok (.aload 5, 2) := dk_25 5 (dk_at dksJ21_compress_2 0 rfl rfl)
theorem dJ21_compress_50 : decode cJ21_compress 50 = .ok (.iconst 0, 1) := dk_3 (dk_at dksJ21_compress_2 2 rfl rfl)
theorem dJ21_compress_51 : decode cJ21_compress 51 = .ok (.aload_n 3, 1) := dk_45 (dk_at dksJ21_compress_2 3 rfl rfl)
theorem dJ21_compress_52 : decode cJ21_compress 52 = .ok (.iconst 0, 1) := dk_3 (dk_at dksJ21_compress_2 4 rfl rfl)
theorem dJ21_compress_53 : decode cJ21_compress 53 = .ok (.iload_n 2, 1) := dk_28 (dk_at dksJ21_compress_2 5 rfl rfl)
theorem dJ21_compress_54 : decode cJ21_compress 54 = .ok (.invokestatic 123, 3) := dk_184 0 123 (dk_at dksJ21_compress_2 6 rfl rfl)
theorem dJ21_compress_57 : decode cJ21_compress 57 = .ok (.iload_n 2, 1) := dk_28 (dk_at dksJ21_compress_2 9 rfl rfl)
theorem dJ21_compress_58 : decode cJ21_compress 58 = .ok (.if_icmp .eq 6, 3) := dk_159 0 6 (dk_at dksJ21_compress_2 10 rfl rfl)
theorem dJ21_compress_61 : decode cJ21_compress 61 = .ok (.aload 5, 2) := dk_25 5 (dk_at dksJ21_compress_2 13 rfl rfl)
theorem dJ21_compress_63 : decode cJ21_compress 63 = .ok (.areturn, 1) := dk_176 (dk_at dksJ21_compress_2 15 rfl rfl)
theorem dJ21_compress_64 : decode cJ21_compress 64 = .ok (.aload_n 3, 1) := dk_45 (dk_at dksJ21_compress_2 16 rfl rfl)
theorem dJ21_compress_65 : decode cJ21_compress 65 = .ok (.areturn, 1) := dk_176 (dk_at dksJ21_compress_2 17 rfl rfl)
abbrev cJ21_compress_2 : ByteArray := prog_36_method_22_code
def yJ21_compress_2 : MethodName := ⟨RJ21, "compress", "([BI[BII)I"⟩
def dkwJ21_compress_2_2 : List UInt8 := [132, 5, 1, 167, 255, 216, 21, 4, 172]
abbrev dktJ21_compress_2_2 : List UInt8 := dkwJ21_compress_2_2 ++ []
def dkwJ21_compress_2_1 : List UInt8 := [21, 6, 17, 0, 255, 164, 0, 6, 21, 5, 172, 44, 29, 21, 6, 145, 84, 132, 1, 1, 132, 3, 1]
abbrev dktJ21_compress_2_1 : List UInt8 := dkwJ21_compress_2_1 ++ dktJ21_compress_2_2
def dkwJ21_compress_2_0 : List UInt8 := [27, 21, 4, 42, 184, 0, 173, 3, 54, 5, 21, 5, 21, 4, 162, 0, 39, 42, 27, 184, 0, 71, 54, 6]
abbrev dktJ21_compress_2_0 : List UInt8 := dkwJ21_compress_2_0 ++ dktJ21_compress_2_1
theorem dksJ21_compress_2_0 : cJ21_compress_2.data.toList.drop 0 = dktJ21_compress_2_0 := by decide +kernel
theorem dksJ21_compress_2_1 : cJ21_compress_2.data.toList.drop 24 = dktJ21_compress_2_1 := dk_seg dksJ21_compress_2_0 24 rfl rfl
theorem dksJ21_compress_2_2 : cJ21_compress_2.data.toList.drop 47 = dktJ21_compress_2_2 := dk_seg dksJ21_compress_2_1 23 rfl rfl
theorem dJ21_compress_2_0 : decode cJ21_compress_2 0 = .ok (.iload_n 1, 1) := dk_27 (dk_at dksJ21_compress_2_0 0 rfl rfl)
theorem dJ21_compress_2_1 : decode cJ21_compress_2 1 = .ok (.iload 4, 2) := dk_21 4 (dk_at dksJ21_compress_2_0 1 rfl rfl)
theorem dJ21_compress_2_3 : decode cJ21_compress_2 3 = .ok (.aload_n 0, 1) := dk_42 (dk_at dksJ21_compress_2_0 3 rfl rfl)
theorem dJ21_compress_2_4 : decode cJ21_compress_2 4 = .ok (.invokestatic 173, 3) := dk_184 0 173 (dk_at dksJ21_compress_2_0 4 rfl rfl)
theorem dJ21_compress_2_7 : decode cJ21_compress_2 7 = .ok (.iconst 0, 1) := dk_3 (dk_at dksJ21_compress_2_0 7 rfl rfl)
theorem dJ21_compress_2_8 : decode cJ21_compress_2 8 = .ok (.istore 5, 2) := dk_54 5 (dk_at dksJ21_compress_2_0 8 rfl rfl)
theorem dJ21_compress_2_10 : decode cJ21_compress_2 10 = .ok (.iload 5, 2) := dk_21 5 (dk_at dksJ21_compress_2_0 10 rfl rfl)
theorem dJ21_compress_2_12 : decode cJ21_compress_2 12 = .ok (.iload 4, 2) := dk_21 4 (dk_at dksJ21_compress_2_0 12 rfl rfl)
theorem dJ21_compress_2_14 : decode cJ21_compress_2 14 = .ok (.if_icmp .ge 39, 3) := dk_162 0 39 (dk_at dksJ21_compress_2_0 14 rfl rfl)
theorem dJ21_compress_2_17 : decode cJ21_compress_2 17 = .ok (.aload_n 0, 1) := dk_42 (dk_at dksJ21_compress_2_0 17 rfl rfl)
theorem dJ21_compress_2_18 : decode cJ21_compress_2 18 = .ok (.iload_n 1, 1) := dk_27 (dk_at dksJ21_compress_2_0 18 rfl rfl)
theorem dJ21_compress_2_19 : decode cJ21_compress_2 19 = .ok (.invokestatic 71, 3) := dk_184 0 71 (dk_at dksJ21_compress_2_0 19 rfl rfl)
theorem dJ21_compress_2_22 : decode cJ21_compress_2 22 = .ok (.istore 6, 2) := dk_54 6 (dk_at dksJ21_compress_2_0 22 rfl rfl)
theorem dJ21_compress_2_24 : decode cJ21_compress_2 24 = .ok (.iload 6, 2) := dk_21 6 (dk_at dksJ21_compress_2_1 0 rfl rfl)
theorem dJ21_compress_2_26 : decode cJ21_compress_2 26 = .ok (.sipush 255, 3) := dk_17 0 255 (dk_at dksJ21_compress_2_1 2 rfl rfl)
theorem dJ21_compress_2_29 : decode cJ21_compress_2 29 = .ok (.if_icmp .le 6, 3) := dk_164 0 6 (dk_at dksJ21_compress_2_1 5 rfl rfl)
theorem dJ21_compress_2_32 : decode cJ21_compress_2 32 = .ok (.iload 5, 2) := dk_21 5 (dk_at dksJ21_compress_2_1 8 rfl rfl)
theorem dJ21_compress_2_34 : decode cJ21_compress_2 34 = .ok (.ireturn, 1) := dk_172 (dk_at dksJ21_compress_2_1 10 rfl rfl)
theorem dJ21_compress_2_35 : decode cJ21_compress_2 35 = .ok (.aload_n 2, 1) := dk_44 (dk_at dksJ21_compress_2_1 11 rfl rfl)
theorem dJ21_compress_2_36 : decode cJ21_compress_2 36 = .ok (.iload_n 3, 1) := dk_29 (dk_at dksJ21_compress_2_1 12 rfl rfl)
theorem dJ21_compress_2_37 : decode cJ21_compress_2 37 = .ok (.iload 6, 2) := dk_21 6 (dk_at dksJ21_compress_2_1 13 rfl rfl)
theorem dJ21_compress_2_39 : decode cJ21_compress_2 39 = .ok (.i2b, 1) := dk_145 (dk_at dksJ21_compress_2_1 15 rfl rfl)
theorem dJ21_compress_2_40 : decode cJ21_compress_2 40 = .ok (.bastore, 1) := dk_84 (dk_at dksJ21_compress_2_1 16 rfl rfl)
theorem dJ21_compress_2_41 : decode cJ21_compress_2 41 = .ok (.iinc 1 1, 3) := dk_132 1 1 (dk_at dksJ21_compress_2_1 17 rfl rfl)
theorem dJ21_compress_2_44 : decode cJ21_compress_2 44 = .ok (.iinc 3 1, 3) := dk_132 3 1 (dk_at dksJ21_compress_2_1 20 rfl rfl)
theorem dJ21_compress_2_47 : decode cJ21_compress_2 47 = .ok (.iinc 5 1, 3) := dk_132 5 1 (dk_at dksJ21_compress_2_2 0 rfl rfl)
theorem dJ21_compress_2_50 : decode cJ21_compress_2 50 = .ok (.goto (-40), 3) := dk_167 255 216 (dk_at dksJ21_compress_2_2 3 rfl rfl)
theorem dJ21_compress_2_53 : decode cJ21_compress_2 53 = .ok (.iload 4, 2) := dk_21 4 (dk_at dksJ21_compress_2_2 6 rfl rfl)
theorem dJ21_compress_2_55 : decode cJ21_compress_2 55 = .ok (.ireturn, 1) := dk_172 (dk_at dksJ21_compress_2_2 8 rfl rfl)
abbrev cJ21_getChar : ByteArray := prog_36_method_5_code
def yJ21_getChar : MethodName := ⟨RJ21, "getChar", "([BI)C"⟩
def dkwJ21_getChar_2 : List UInt8 := [51, 17, 0, 255, 126, 178, 0, 63, 120, 128, 146, 172]
abbrev dktJ21_getChar_2 : List UInt8 := dkwJ21_getChar_2 ++ []
def dkwJ21_getChar_1 : List UInt8 := [183, 0, 56, 191, 27, 4, 120, 60, 42, 27, 132, 1, 1, 51, 17, 0, 255, 126, 178, 0, 59, 120, 42, 27]
abbrev dktJ21_getChar_1 : List UInt8 := dkwJ21_getChar_1 ++ dktJ21_getChar_2
def dkwJ21_getChar_0 : List UInt8 := [178, 0, 44, 154, 0, 25, 27, 155, 0, 11, 27, 42, 184, 0, 48, 161, 0, 13, 187, 0, 52, 89, 18, 54]
abbrev dktJ21_getChar_0 : List UInt8 := dkwJ21_getChar_0 ++ dktJ21_getChar_1
theorem dksJ21_getChar_0 : cJ21_getChar.data.toList.drop 0 = dktJ21_getChar_0 := by decide +kernel
theorem dksJ21_getChar_1 : cJ21_getChar.data.toList.drop 24 = dktJ21_getChar_1 := dk_seg dksJ21_getChar_0 24 rfl rfl
theorem dksJ21_getChar_2 : cJ21_getChar.data.toList.drop 48 = dktJ21_getChar_2 := dk_seg dksJ21_getChar_1 24 rfl rfl
theorem dJ21_getChar_0 : decode cJ21_getChar 0 = .ok (.getstatic 44, 3) := dk_178 0 44 (dk_at dksJ21_getChar_0 0 rfl rfl)
theorem dJ21_getChar_3 : decode cJ21_getChar 3 = .ok (.ifCond .ne 25, 3) := dk_154 0 25 (dk_at dksJ21_getChar_0 3 rfl rfl)
theorem dJ21_getChar_6 : decode cJ21_getChar 6 = .ok (.iload_n 1, 1) := dk_27 (dk_at dksJ21_getChar_0 6 rfl rfl)
theorem dJ21_getChar_7 : decode cJ21_getChar 7 = .ok (.ifCond .lt 11, 3) := dk_155 0 11 (dk_at dksJ21_getChar_0 7 rfl rfl)
theorem dJ21_getChar_10 : decode cJ21_getChar 10 = .ok (.iload_n 1, 1) := dk_27 (dk_at dksJ21_getChar_0 10 rfl rfl)
theorem dJ21_getChar_11 : decode cJ21_getChar 11 = .ok (.aload_n 0, 1) := dk_42 (dk_at dksJ21_getChar_0 11 rfl rfl)
theorem dJ21_getChar_12 : decode cJ21_getChar 12 = .ok (.invokestatic 48, 3) := dk_184 0 48 (dk_at dksJ21_getChar_0 12 rfl rfl)
theorem dJ21_getChar_15 : decode cJ21_getChar 15 = .ok (.if_icmp .lt 13, 3) := dk_161 0 13 (dk_at dksJ21_getChar_0 15 rfl rfl)
theorem dJ21_getChar_18 : decode cJ21_getChar 18 = .ok (.new 52, 3) := dk_187 0 52 (dk_at dksJ21_getChar_0 18 rfl rfl)
theorem dJ21_getChar_21 : decode cJ21_getChar 21 = .ok (.dup, 1) := dk_89 (dk_at dksJ21_getChar_0 21 rfl rfl)
theorem dJ21_getChar_22 : decode cJ21_getChar 22 = .ok (.ldc 54, 2) := dk_18 54 (dk_at dksJ21_getChar_0 22 rfl rfl)
theorem dJ21_getChar_24 : decode cJ21_getChar 24 = .ok (.invokespecial 56, 3) := dk_183 0 56 (dk_at dksJ21_getChar_1 0 rfl rfl)
theorem dJ21_getChar_27 : decode cJ21_getChar 27 = .ok (.athrow, 1) := dk_191 (dk_at dksJ21_getChar_1 3 rfl rfl)
theorem dJ21_getChar_28 : decode cJ21_getChar 28 = .ok (.iload_n 1, 1) := dk_27 (dk_at dksJ21_getChar_1 4 rfl rfl)
theorem dJ21_getChar_29 : decode cJ21_getChar 29 = .ok (.iconst 1, 1) := dk_4 (dk_at dksJ21_getChar_1 5 rfl rfl)
theorem dJ21_getChar_30 : decode cJ21_getChar 30 = .ok (.ishl, 1) := dk_120 (dk_at dksJ21_getChar_1 6 rfl rfl)
theorem dJ21_getChar_31 : decode cJ21_getChar 31 = .ok (.istore_n 1, 1) := dk_60 (dk_at dksJ21_getChar_1 7 rfl rfl)
theorem dJ21_getChar_32 : decode cJ21_getChar 32 = .ok (.aload_n 0, 1) := dk_42 (dk_at dksJ21_getChar_1 8 rfl rfl)
theorem dJ21_getChar_33 : decode cJ21_getChar 33 = .ok (.iload_n 1, 1) := dk_27 (dk_at dksJ21_getChar_1 9 rfl rfl)
theorem dJ21_getChar_34 : decode cJ21_getChar 34 = .ok (.iinc 1 1, 3) := dk_132 1 1 (dk_at dksJ21_getChar_1 10 rfl rfl)
theorem dJ21_getChar_37 : decode cJ21_getChar 37 = .ok (.baload, 1) := dk_51 (dk_at dksJ21_getChar_1 13 rfl rfl)
theorem dJ21_getChar_38 : decode cJ21_getChar 38 = .ok (.sipush 255, 3) := dk_17 0 255 (dk_at dksJ21_getChar_1 14 rfl rfl)
theorem dJ21_getChar_41 : decode cJ21_getChar 41 = .ok (.iand, 1) := dk_126 (dk_at dksJ21_getChar_1 17 rfl rfl)
theorem dJ21_getChar_42 : decode cJ21_getChar 42 = .ok (.getstatic 59, 3) := dk_178 0 59 (dk_at dksJ21_getChar_1 18 rfl rfl)
theorem dJ21_getChar_45 : decode cJ21_getChar 45 = .ok (.ishl, 1) := dk_120 (dk_at dksJ21_getChar_1 21 rfl rfl)
theorem dJ21_getChar_46 : decode cJ21_getChar 46 = .ok (.aload_n 0, 1) := dk_42 (dk_at dksJ21_getChar_1 22 rfl rfl)
theorem dJ21_getChar_47 : decode cJ21_getChar 47 = .ok (.iload_n 1, 1) := dk_27 (dk_at dksJ21_getChar_1 23 rfl rfl)
theorem dJ21_getChar_48 : decode cJ21_getChar 48 = .ok (.baload, 1) := dk_51 (dk_at dksJ21_getChar_2 0 rfl rfl)
theorem dJ21_getChar_49 : decode cJ21_getChar 49 = .ok (.sipush 255, 3) := dk_17 0 255 (dk_at dksJ21_getChar_2 1 rfl rfl)
theorem dJ21_getChar_52 : decode cJ21_getChar 52 = .ok (.iand, 1) := dk_126 (dk_at dksJ21_getChar_2 4 rfl rfl)
theorem dJ21_getChar_53 : decode cJ21_getChar 53 = .ok (.getstatic 63, 3) := dk_178 0 63 (dk_at dksJ21_getChar_2 5 rfl rfl)
theorem dJ21_getChar_56 : decode cJ21_getChar 56 = .ok (.ishl, 1) := dk_120 (dk_at dksJ21_getChar_2 8 rfl rfl)
theorem dJ21_getChar_57 : decode cJ21_getChar 57 = .ok (.ior, 1) := dk_128 (dk_at dksJ21_getChar_2 9 rfl rfl)
theorem dJ21_getChar_58 : decode cJ21_getChar 58 = .ok (.i2c, 1) := dk_146 (dk_at dksJ21_getChar_2 10 rfl rfl)
theorem dJ21_getChar_59 : decode cJ21_getChar 59 = .ok (.ireturn, 1) := dk_172 (dk_at dksJ21_getChar_2 11 rfl rfl)
abbrev cJ21_coderFromArrayLen : ByteArray := prog_36_method_15_code
def yJ21_coderFromArrayLen : MethodName := ⟨RJ21, "coderFromArrayLen", "([BI)B"⟩
def dkwJ21_coderFromArrayLen_0 : List UInt8 := [27, 42, 190, 100, 16, 31, 124, 145, 172]
abbrev dktJ21_coderFromArrayLen_0 : List UInt8 := dkwJ21_coderFromArrayLen_0 ++ []
theorem dksJ21_coderFromArrayLen_0 : cJ21_coderFromArrayLen.data.toList.drop 0 = dktJ21_coderFromArrayLen_0 := by decide +kernel
theorem dJ21_coderFromArrayLen_0 : decode cJ21_coderFromArrayLen 0 = .ok (.iload_n 1, 1) := dk_27 (dk_at dksJ21_coderFromArrayLen_0 0 rfl rfl)
theorem dJ21_coderFromArrayLen_1 : decode cJ21_coderFromArrayLen 1 = .ok (.aload_n 0, 1) := dk_42 (dk_at dksJ21_coderFromArrayLen_0 1 rfl rfl)
theorem dJ21_coderFromArrayLen_2 : decode cJ21_coderFromArrayLen 2 = .ok (.arraylength, 1) := dk_190 (dk_at dksJ21_coderFromArrayLen_0 2 rfl rfl)
theorem dJ21_coderFromArrayLen_3 : decode cJ21_coderFromArrayLen 3 = .ok (.isub, 1) := dk_100 (dk_at dksJ21_coderFromArrayLen_0 3 rfl rfl)
theorem dJ21_coderFromArrayLen_4 : decode cJ21_coderFromArrayLen 4 = .ok (.bipush 31, 2) := dk_16 31 (dk_at dksJ21_coderFromArrayLen_0 4 rfl rfl)
theorem dJ21_coderFromArrayLen_6 : decode cJ21_coderFromArrayLen 6 = .ok (.iushr, 1) := dk_124 (dk_at dksJ21_coderFromArrayLen_0 6 rfl rfl)
theorem dJ21_coderFromArrayLen_7 : decode cJ21_coderFromArrayLen 7 = .ok (.i2b, 1) := dk_145 (dk_at dksJ21_coderFromArrayLen_0 7 rfl rfl)
theorem dJ21_coderFromArrayLen_8 : decode cJ21_coderFromArrayLen 8 = .ok (.ireturn, 1) := dk_172 (dk_at dksJ21_coderFromArrayLen_0 8 rfl rfl)
abbrev cJ21_charAt : ByteArray := prog_36_method_83_code
def yJ21_charAt : MethodName := ⟨RJ21, "charAt", "([BI)C"⟩
def dkwJ21_charAt_0 : List UInt8 := [27, 42, 184, 0, 67, 42, 27, 184, 0, 71, 172]
abbrev dktJ21_charAt_0 : List UInt8 := dkwJ21_charAt_0 ++ []
theorem dksJ21_charAt_0 : cJ21_charAt.data.toList.drop 0 = dktJ21_charAt_0 := by decide +kernel
theorem dJ21_charAt_0 : decode cJ21_charAt 0 = .ok (.iload_n 1, 1) := dk_27 (dk_at dksJ21_charAt_0 0 rfl rfl)
theorem dJ21_charAt_1 : decode cJ21_charAt 1 = .ok (.aload_n 0, 1) := dk_42 (dk_at dksJ21_charAt_0 1 rfl rfl)
theorem dJ21_charAt_2 : decode cJ21_charAt 2 = .ok (.invokestatic 67, 3) := dk_184 0 67 (dk_at dksJ21_charAt_0 2 rfl rfl)
theorem dJ21_charAt_5 : decode cJ21_charAt 5 = .ok (.aload_n 0, 1) := dk_42 (dk_at dksJ21_charAt_0 5 rfl rfl)
theorem dJ21_charAt_6 : decode cJ21_charAt 6 = .ok (.iload_n 1, 1) := dk_27 (dk_at dksJ21_charAt_0 6 rfl rfl)
theorem dJ21_charAt_7 : decode cJ21_charAt 7 = .ok (.invokestatic 71, 3) := dk_184 0 71 (dk_at dksJ21_charAt_0 7 rfl rfl)
theorem dJ21_charAt_10 : decode cJ21_charAt 10 = .ok (.ireturn, 1) := dk_172 (dk_at dksJ21_charAt_0 10 rfl rfl)
theorem q82 : (Jvm.Cond.initialized "java/lang/StringUTF16") ∈ lw_all := lw_g (lw_at lw_m1 34 rfl) rfl
theorem q1049 : (Jvm.Cond.static ({ cls := "java/lang/StringUTF16", name := "newBytesFor", desc := "(I)[B" } : Jvm.MethodName)) ∈ lw_all := lw_g (lw_at lw_m5 41 rfl) rfl
theorem q1050 : (Jvm.Cond.code ({ cls := "java/lang/StringUTF16", name := "newBytesFor", desc := "(I)[B" } : Jvm.MethodName) prog_36_method_2_code (1 : Nat) (Option.some (Jvm.ClassFile.FieldType.array Jvm.ClassFile.FieldType.byte))) ∈ lw_all := lw_g (lw_at lw_m5 42 rfl) rfl
theorem q1051 : (Jvm.Cond.methodLink "java/lang/StringUTF16" (11 : Nat) ({ cls := "java/lang/StringUTF16", name := "newBytesLength", desc := "(I)I" } : Jvm.MethodName)) ∈ lw_all := lw_g (lw_at lw_m5 43 rfl) rfl
theorem q1052 : (Jvm.Cond.static ({ cls := "java/lang/StringUTF16", name := "newBytesLength", desc := "(I)I" } : Jvm.MethodName)) ∈ lw_all := lw_g (lw_at lw_m5 44 rfl) rfl
theorem q1053 : (Jvm.Cond.code ({ cls := "java/lang/StringUTF16", name := "newBytesLength", desc := "(I)I" } : Jvm.MethodName) prog_36_method_3_code (1 : Nat) (Option.some Jvm.ClassFile.FieldType.int)) ∈ lw_all := lw_g (lw_at lw_m5 45 rfl) rfl
theorem q1054 : (Jvm.Cond.constant "java/lang/StringUTF16" (20 : Nat) (1073741823 : Int32)) ∈ lw_all := lw_g (lw_at lw_m5 46 rfl) rfl
theorem q1113 : (Jvm.Cond.static ({ cls := "java/lang/StringUTF16", name := "inflate", desc := "([BI[BII)V" } : Jvm.MethodName)) ∈ lw_all := lw_g (lw_at lw_m5 105 rfl) rfl
theorem q1114 : (Jvm.Cond.code ({ cls := "java/lang/StringUTF16", name := "inflate", desc := "([BI[BII)V" } : Jvm.MethodName) prog_36_method_86_code (6 : Nat) (Option.none : Option Jvm.ClassFile.FieldType)) ∈ lw_all := lw_g (lw_at lw_m5 106 rfl) rfl
theorem q1115 : (Jvm.Cond.methodLink "java/lang/StringUTF16" (173 : Nat) ({ cls := "java/lang/StringUTF16", name := "checkBoundsOffCount", desc := "(II[B)V" } : Jvm.MethodName)) ∈ lw_all := lw_g (lw_at lw_m5 107 rfl) rfl
theorem q1116 : (Jvm.Cond.static ({ cls := "java/lang/StringUTF16", name := "checkBoundsOffCount", desc := "(II[B)V" } : Jvm.MethodName)) ∈ lw_all := lw_g (lw_at lw_m5 108 rfl) rfl
theorem q1117 : (Jvm.Cond.code ({ cls := "java/lang/StringUTF16", name := "checkBoundsOffCount", desc := "(II[B)V" } : Jvm.MethodName) prog_36_method_94_code (3 : Nat) (Option.none : Option Jvm.ClassFile.FieldType)) ∈ lw_all := lw_g (lw_at lw_m5 109 rfl) rfl
theorem q1118 : (Jvm.Cond.methodLink "java/lang/StringUTF16" (48 : Nat) ({ cls := "java/lang/StringUTF16", name := "length", desc := "([B)I" } : Jvm.MethodName)) ∈ lw_all := lw_g (lw_at lw_m5 110 rfl) rfl
theorem q1119 : (Jvm.Cond.static ({ cls := "java/lang/StringUTF16", name := "length", desc := "([B)I" } : Jvm.MethodName)) ∈ lw_all := lw_g (lw_at lw_m5 111 rfl) rfl
theorem q1120 : (Jvm.Cond.code ({ cls := "java/lang/StringUTF16", name := "length", desc := "([B)I" } : Jvm.MethodName) prog_36_method_6_code (1 : Nat) (Option.some Jvm.ClassFile.FieldType.int)) ∈ lw_all := lw_g (lw_at lw_m5 112 rfl) rfl
theorem q1121 : (Jvm.Cond.methodLink "java/lang/StringUTF16" (419 : Nat) ({ cls := "java/lang/String", name := "checkBoundsOffCount", desc := "(III)I" } : Jvm.MethodName)) ∈ lw_all := lw_g (lw_at lw_m5 113 rfl) rfl
theorem q1129 : (Jvm.Cond.methodLink "java/lang/StringUTF16" (111 : Nat) ({ cls := "java/lang/StringUTF16", name := "putChar", desc := "([BII)V" } : Jvm.MethodName)) ∈ lw_all := lw_g (lw_at lw_m5 121 rfl) rfl
theorem q1130 : (Jvm.Cond.static ({ cls := "java/lang/StringUTF16", name := "putChar", desc := "([BII)V" } : Jvm.MethodName)) ∈ lw_all := lw_g (lw_at lw_m5 122 rfl) rfl
theorem q1131 : (Jvm.Cond.code ({ cls := "java/lang/StringUTF16", name := "putChar", desc := "([BII)V" } : Jvm.MethodName) prog_36_method_4_code (3 : Nat) (Option.none : Option Jvm.ClassFile.FieldType)) ∈ lw_all := lw_g (lw_at lw_m5 123 rfl) rfl
theorem q1132 : (Jvm.Cond.fieldLink "java/lang/StringUTF16" (44 : Nat) "java/lang/StringUTF16" "$assertionsDisabled" "Z") ∈ lw_all := lw_g (lw_at lw_m5 124 rfl) rfl
theorem q1133 : (Jvm.Cond.laysStatic "java/lang/StringUTF16" "$assertionsDisabled" "Z") ∈ lw_tbl := lw_at lw_m5 125 rfl
theorem q1134 : (Jvm.Cond.fieldLink "java/lang/StringUTF16" (59 : Nat) "java/lang/StringUTF16" "HI_BYTE_SHIFT" "I") ∈ lw_all := lw_g (lw_at lw_m5 126 rfl) rfl
theorem q1135 : (Jvm.Cond.laysStatic "java/lang/StringUTF16" "HI_BYTE_SHIFT" "I") ∈ lw_tbl := lw_at lw_m5 127 rfl
theorem q1136 : (Jvm.Cond.fieldLink "java/lang/StringUTF16" (63 : Nat) "java/lang/StringUTF16" "LO_BYTE_SHIFT" "I") ∈ lw_all := lw_g (lw_at lw_m5 128 rfl) rfl
theorem q1137 : (Jvm.Cond.laysStatic "java/lang/StringUTF16" "LO_BYTE_SHIFT" "I") ∈ lw_tbl := lw_at lw_m5 129 rfl
theorem q1139 : (Jvm.Cond.static ({ cls := "java/lang/StringUTF16", name := "putCharSB", desc := "([BII)V" } : Jvm.MethodName)) ∈ lw_all := lw_g (lw_at lw_m5 131 rfl) rfl
theorem q1140 : (Jvm.Cond.code ({ cls := "java/lang/StringUTF16", name := "putCharSB", desc := "([BII)V" } : Jvm.MethodName) prog_36_method_71_code (3 : Nat) (Option.none : Option Jvm.ClassFile.FieldType)) ∈ lw_all := lw_g (lw_at lw_m5 132 rfl) rfl
theorem q1141 : (Jvm.Cond.methodLink "java/lang/StringUTF16" (67 : Nat) ({ cls := "java/lang/StringUTF16", name := "checkIndex", desc := "(I[B)V" } : Jvm.MethodName)) ∈ lw_all := lw_g (lw_at lw_m5 133 rfl) rfl
theorem q1142 : (Jvm.Cond.static ({ cls := "java/lang/StringUTF16", name := "checkIndex", desc := "(I[B)V" } : Jvm.MethodName)) ∈ lw_all := lw_g (lw_at lw_m5 134 rfl) rfl
theorem q1143 : (Jvm.Cond.code ({ cls := "java/lang/StringUTF16", name := "checkIndex", desc := "(I[B)V" } : Jvm.MethodName) prog_36_method_91_code (2 : Nat) (Option.none : Option Jvm.ClassFile.FieldType)) ∈ lw_all := lw_g (lw_at lw_m5 135 rfl) rfl
theorem q1144 : (Jvm.Cond.methodLink "java/lang/StringUTF16" (414 : Nat) ({ cls := "java/lang/String", name := "checkIndex", desc := "(II)V" } : Jvm.MethodName)) ∈ lw_all := lw_g (lw_at lw_m5 136 rfl) rfl
theorem q1204 : (Jvm.Cond.static ({ cls := "java/lang/StringUTF16", name := "getChars", desc := "(III[B)I" } : Jvm.MethodName)) ∈ lw_all := lw_g (lw_at lw_m5 196 rfl) rfl
theorem q1205 : (Jvm.Cond.code ({ cls := "java/lang/StringUTF16", name := "getChars", desc := "(III[B)I" } : Jvm.MethodName) prog_36_method_77_code (5 : Nat) (Option.some Jvm.ClassFile.FieldType.int)) ∈ lw_all := lw_g (lw_at lw_m5 197 rfl) rfl
theorem q1206 : (Jvm.Cond.methodLink "java/lang/StringUTF16" (96 : Nat) ({ cls := "java/lang/StringUTF16", name := "checkBoundsBeginEnd", desc := "(II[B)V" } : Jvm.MethodName)) ∈ lw_all := lw_g (lw_at lw_m5 198 rfl) rfl
theorem q1207 : (Jvm.Cond.static ({ cls := "java/lang/StringUTF16", name := "checkBoundsBeginEnd", desc := "(II[B)V" } : Jvm.MethodName)) ∈ lw_all := lw_g (lw_at lw_m5 199 rfl) rfl
theorem q1208 : (Jvm.Cond.code ({ cls := "java/lang/StringUTF16", name := "checkBoundsBeginEnd", desc := "(II[B)V" } : Jvm.MethodName) prog_36_method_93_code (3 : Nat) (Option.none : Option Jvm.ClassFile.FieldType)) ∈ lw_all := lw_g (lw_at lw_m5 200 rfl) rfl
theorem q1209 : (Jvm.Cond.methodLink "java/lang/StringUTF16" (241 : Nat) ({ cls := "java/lang/String", name := "checkBoundsBeginEnd", desc := "(III)V" } : Jvm.MethodName)) ∈ lw_all := lw_g (lw_at lw_m5 201 rfl) rfl
theorem q1215 : (Jvm.Cond.methodLink "java/lang/StringUTF16" (393 : Nat) ({ cls := "java/lang/StringUTF16", name := "getChars", desc := "(II[B)I" } : Jvm.MethodName)) ∈ lw_all := lw_g (lw_at lw_m5 207 rfl) rfl
theorem q1216 : (Jvm.Cond.static ({ cls := "java/lang/StringUTF16", name := "getChars", desc := "(II[B)I" } : Jvm.MethodName)) ∈ lw_all := lw_g (lw_at lw_m5 208 rfl) rfl
theorem q1217 : (Jvm.Cond.code ({ cls := "java/lang/StringUTF16", name := "getChars", desc := "(II[B)I" } : Jvm.MethodName) prog_36_method_89_code (7 : Nat) (Option.some Jvm.ClassFile.FieldType.int)) ∈ lw_all := lw_g (lw_at lw_m5 209 rfl) rfl
theorem q1218 : (Jvm.Cond.fieldLink "java/lang/StringUTF16" (403 : Nat) "java/lang/Integer" "DigitOnes" "[B") ∈ lw_all := lw_g (lw_at lw_m5 210 rfl) rfl
theorem q1219 : (Jvm.Cond.fieldLink "java/lang/StringUTF16" (407 : Nat) "java/lang/Integer" "DigitTens" "[B") ∈ lw_all := lw_g (lw_at lw_m5 211 rfl) rfl
theorem q1233 : (Jvm.Cond.static ({ cls := "java/lang/StringUTF16", name := "putCharsAt", desc := "([BICCCC)I" } : Jvm.MethodName)) ∈ lw_all := lw_g (lw_at lw_m5 225 rfl) rfl
theorem q1234 : (Jvm.Cond.code ({ cls := "java/lang/StringUTF16", name := "putCharsAt", desc := "([BICCCC)I" } : Jvm.MethodName) prog_36_method_81_code (7 : Nat) (Option.some Jvm.ClassFile.FieldType.int)) ∈ lw_all := lw_g (lw_at lw_m5 226 rfl) rfl
theorem q1262 : (Jvm.Cond.static ({ cls := "java/lang/StringUTF16", name := "compress", desc := "([BII)[B" } : Jvm.MethodName)) ∈ lw_all := lw_g (lw_at lw_m6 14 rfl) rfl
theorem q1263 : (Jvm.Cond.code ({ cls := "java/lang/StringUTF16", name := "compress", desc := "([BII)[B" } : Jvm.MethodName) prog_36_method_17_code (6 : Nat) (Option.some (Jvm.ClassFile.FieldType.array Jvm.ClassFile.FieldType.byte))) ∈ lw_all := lw_g (lw_at lw_m6 15 rfl) rfl
theorem q1264 : (Jvm.Cond.methodLink "java/lang/StringUTF16" (123 : Nat) ({ cls := "java/lang/StringUTF16", name := "compress", desc := "([BI[BII)I" } : Jvm.MethodName)) ∈ lw_all := lw_g (lw_at lw_m6 16 rfl) rfl
theorem q1265 : (Jvm.Cond.static ({ cls := "java/lang/StringUTF16", name := "compress", desc := "([BI[BII)I" } : Jvm.MethodName)) ∈ lw_all := lw_g (lw_at lw_m6 17 rfl) rfl
theorem q1266 : (Jvm.Cond.code ({ cls := "java/lang/StringUTF16", name := "compress", desc := "([BI[BII)I" } : Jvm.MethodName) prog_36_method_22_code (7 : Nat) (Option.some Jvm.ClassFile.FieldType.int)) ∈ lw_all := lw_g (lw_at lw_m6 18 rfl) rfl
theorem q1267 : (Jvm.Cond.methodLink "java/lang/StringUTF16" (71 : Nat) ({ cls := "java/lang/StringUTF16", name := "getChar", desc := "([BI)C" } : Jvm.MethodName)) ∈ lw_all := lw_g (lw_at lw_m6 19 rfl) rfl
theorem q1268 : (Jvm.Cond.static ({ cls := "java/lang/StringUTF16", name := "getChar", desc := "([BI)C" } : Jvm.MethodName)) ∈ lw_all := lw_g (lw_at lw_m6 20 rfl) rfl
theorem q1269 : (Jvm.Cond.code ({ cls := "java/lang/StringUTF16", name := "getChar", desc := "([BI)C" } : Jvm.MethodName) prog_36_method_5_code (2 : Nat) (Option.some Jvm.ClassFile.FieldType.char)) ∈ lw_all := lw_g (lw_at lw_m6 21 rfl) rfl
theorem q1270 : (Jvm.Cond.methodLink "java/lang/StringUTF16" (126 : Nat) ({ cls := "java/util/Arrays", name := "copyOfRange", desc := "([BII)[B" } : Jvm.MethodName)) ∈ lw_all := lw_g (lw_at lw_m6 22 rfl) rfl
theorem q1272 : (Jvm.Cond.static ({ cls := "java/lang/StringUTF16", name := "coderFromArrayLen", desc := "([BI)B" } : Jvm.MethodName)) ∈ lw_all := lw_g (lw_at lw_m6 24 rfl) rfl
theorem q1273 : (Jvm.Cond.code ({ cls := "java/lang/StringUTF16", name := "coderFromArrayLen", desc := "([BI)B" } : Jvm.MethodName) prog_36_method_15_code (2 : Nat) (Option.some Jvm.ClassFile.FieldType.byte)) ∈ lw_all := lw_g (lw_at lw_m6 25 rfl) rfl
theorem q1687 : (Jvm.Cond.static ({ cls := "java/lang/StringUTF16", name := "charAt", desc := "([BI)C" } : Jvm.MethodName)) ∈ lw_all := lw_g (lw_at lw_m7 199 rfl) rfl
theorem q1688 : (Jvm.Cond.code ({ cls := "java/lang/StringUTF16", name := "charAt", desc := "([BI)C" } : Jvm.MethodName) prog_36_method_83_code (2 : Nat) (Option.some Jvm.ClassFile.FieldType.char)) ∈ lw_all := lw_g (lw_at lw_m7 200 rfl) rfl
/-! java/lang/IllegalArgumentException -/
set_option maxRecDepth 100000
def RJ13 : String := "java/lang/IllegalArgumentException"
def TJ13 : u_T := fun k => match k with
  | 0 => ("java/lang/Throwable", "cause", "Ljava/lang/Throwable;", false)
  | 1 => ("java/lang/Throwable", "stackTrace", "[Ljava/lang/StackTraceElement;", false)
  | 2 => ("java/lang/Throwable", "suppressedExceptions", "Ljava/util/List;", false)
  | 3 => ("java/lang/Throwable", "detailMessage", "Ljava/lang/String;", false)
  | 4 => ("java/lang/Throwable", "backtrace", "Ljava/lang/Object;", false)
  | _ => ("java/lang/Throwable", "depth", "I", false)
def tyJ13 : Nat → FieldType := fun k => match k with
  | 0 => .object "java/lang/Throwable"
  | 1 => .array (.object "java/lang/StackTraceElement")
  | 2 => .object "java/util/List"
  | 3 => .object "java/lang/String"
  | 4 => .object "java/lang/Object"
  | _ => .int
abbrev wsJ130 : List Cond := u_ws RJ13 TJ13 6
theorem nmJ13 : ∀ a, a < 6 → ∀ b, b < 6 → a ≠ b → (TJ13 a).2.1 ≠ (TJ13 b).2.1 := by decide +kernel
theorem tyJ13_ok : ∀ k, k < 6 → parseFieldDescriptor (TJ13 k).2.2.1 = some (tyJ13 k) := by decide +kernel
abbrev cJ13_init : ByteArray := prog_24_method_2_code
def yJ13_init : MethodName := ⟨RJ13, "<init>", "(Ljava/lang/String;)V"⟩
def dkwJ13_init_0 : List UInt8 := [42, 43, 183, 0, 7, 177]
abbrev dktJ13_init_0 : List UInt8 := dkwJ13_init_0 ++ []
theorem dksJ13_init_0 : cJ13_init.data.toList.drop 0 = dktJ13_init_0 := by decide +kernel
theorem dJ13_init_0 : decode cJ13_init 0 = .ok (.aload_n 0, 1) := dk_42 (dk_at dksJ13_init_0 0 rfl rfl)
theorem dJ13_init_1 : decode cJ13_init 1 = .ok (.aload_n 1, 1) := dk_43 (dk_at dksJ13_init_0 1 rfl rfl)
theorem dJ13_init_2 : decode cJ13_init 2 = .ok (.invokespecial 7, 3) := dk_183 0 7 (dk_at dksJ13_init_0 2 rfl rfl)
theorem dJ13_init_5 : decode cJ13_init 5 = .ok (.return_, 1) := dk_177 (dk_at dksJ13_init_0 5 rfl rfl)
theorem q69 : (Jvm.Cond.initialized "java/lang/IllegalArgumentException") ∈ lw_all := lw_g (lw_at lw_m1 21 rfl) rfl
theorem q572 : (Jvm.Cond.selects "java/lang/IllegalArgumentException" ({ cls := "java/lang/Throwable", name := "fillInStackTrace", desc := "()Ljava/lang/Throwable;" } : Jvm.MethodName) ({ cls := "java/lang/Throwable", name := "fillInStackTrace", desc := "()Ljava/lang/Throwable;" } : Jvm.MethodName)) ∈ lw_all := lw_g (lw_at lw_m3 44 rfl) rfl
theorem q662 : (Jvm.Cond.instantiable "java/lang/IllegalArgumentException" (6 : Nat)) ∈ lw_all := lw_g (lw_at lw_m3 134 rfl) rfl
theorem q663 : (Jvm.Cond.castable "java/lang/IllegalArgumentException" "java/lang/IllegalArgumentException") ∈ lw_tbl := lw_at lw_m3 135 rfl
theorem q664 : (Jvm.Cond.selects "java/lang/IllegalArgumentException" ({ cls := "java/lang/Throwable", name := "fillInStackTrace", desc := "(I)Ljava/lang/Throwable;" } : Jvm.MethodName) ({ cls := "java/lang/Throwable", name := "fillInStackTrace", desc := "(I)Ljava/lang/Throwable;" } : Jvm.MethodName)) ∈ lw_all := lw_g (lw_at lw_m3 136 rfl) rfl
theorem q665 : (Jvm.Cond.lays "java/lang/IllegalArgumentException" "java/lang/Throwable" "cause" "Ljava/lang/Throwable;") ∈ lw_all := lw_g (lw_at lw_m3 137 rfl) rfl
theorem q666 : (Jvm.Cond.lays "java/lang/IllegalArgumentException" "java/lang/Throwable" "stackTrace" "[Ljava/lang/StackTraceElement;") ∈ lw_all := lw_g (lw_at lw_m3 138 rfl) rfl
theorem q667 : (Jvm.Cond.lays "java/lang/IllegalArgumentException" "java/lang/Throwable" "suppressedExceptions" "Ljava/util/List;") ∈ lw_all := lw_g (lw_at lw_m3 139 rfl) rfl
theorem q668 : (Jvm.Cond.lays "java/lang/IllegalArgumentException" "java/lang/Throwable" "detailMessage" "Ljava/lang/String;") ∈ lw_all := lw_g (lw_at lw_m3 140 rfl) rfl
theorem q669 : (Jvm.Cond.lays "java/lang/IllegalArgumentException" "java/lang/Throwable" "backtrace" "Ljava/lang/Object;") ∈ lw_all := lw_g (lw_at lw_m3 141 rfl) rfl
theorem q671 : (Jvm.Cond.instanceMethod ({ cls := "java/lang/IllegalArgumentException", name := "<init>", desc := "(Ljava/lang/String;)V" } : Jvm.MethodName)) ∈ lw_all := lw_g (lw_at lw_m3 143 rfl) rfl
theorem q672 : (Jvm.Cond.code ({ cls := "java/lang/IllegalArgumentException", name := "<init>", desc := "(Ljava/lang/String;)V" } : Jvm.MethodName) prog_24_method_2_code (2 : Nat) (Option.none : Option Jvm.ClassFile.FieldType)) ∈ lw_all := lw_g (lw_at lw_m3 144 rfl) rfl
theorem q673 : (Jvm.Cond.methodLink "java/lang/IllegalArgumentException" (7 : Nat) ({ cls := "java/lang/RuntimeException", name := "<init>", desc := "(Ljava/lang/String;)V" } : Jvm.MethodName)) ∈ lw_all := lw_g (lw_at lw_m3 145 rfl) rfl
theorem q674 : (Jvm.Cond.lays "java/lang/IllegalArgumentException" "java/lang/Throwable" "depth" "I") ∈ lw_all := lw_g (lw_at lw_m3 146 rfl) rfl
theorem q675 : (Jvm.Cond.superclass "java/lang/IllegalArgumentException" "java/lang/RuntimeException") ∈ lw_all := lw_g (lw_at lw_m3 147 rfl) rfl
theorem q841 : (Jvm.Cond.selects "java/lang/IllegalArgumentException" ({ cls := "java/lang/Object", name := "getClass", desc := "()Ljava/lang/Class;" } : Jvm.MethodName) ({ cls := "java/lang/Object", name := "getClass", desc := "()Ljava/lang/Class;" } : Jvm.MethodName)) ∈ lw_all := lw_g (lw_at lw_m4 73 rfl) rfl
theorem q1804 : (Jvm.Cond.castable "java/lang/IllegalArgumentException" "java/lang/Object") ∈ lw_tbl := lw_at lw_m8 76 rfl
theorem in_J13 : ∀ w ∈ wsJ130, w ∈ lw_all := lw_in wsJ130 [665, 666, 667, 668, 669, 674] (by decide +kernel) (by decide +kernel)
/-! java/lang/IllegalStateException -/
set_option maxRecDepth 100000
def RJ14 : String := "java/lang/IllegalStateException"
def TJ14 : u_T := fun k => match k with
  | 0 => ("java/lang/Throwable", "cause", "Ljava/lang/Throwable;", false)
  | 1 => ("java/lang/Throwable", "stackTrace", "[Ljava/lang/StackTraceElement;", false)
  | 2 => ("java/lang/Throwable", "suppressedExceptions", "Ljava/util/List;", false)
  | 3 => ("java/lang/Throwable", "detailMessage", "Ljava/lang/String;", false)
  | 4 => ("java/lang/Throwable", "backtrace", "Ljava/lang/Object;", false)
  | _ => ("java/lang/Throwable", "depth", "I", false)
def tyJ14 : Nat → FieldType := fun k => match k with
  | 0 => .object "java/lang/Throwable"
  | 1 => .array (.object "java/lang/StackTraceElement")
  | 2 => .object "java/util/List"
  | 3 => .object "java/lang/String"
  | 4 => .object "java/lang/Object"
  | _ => .int
abbrev wsJ140 : List Cond := u_ws RJ14 TJ14 6
theorem nmJ14 : ∀ a, a < 6 → ∀ b, b < 6 → a ≠ b → (TJ14 a).2.1 ≠ (TJ14 b).2.1 := by decide +kernel
theorem tyJ14_ok : ∀ k, k < 6 → parseFieldDescriptor (TJ14 k).2.2.1 = some (tyJ14 k) := by decide +kernel
abbrev cJ14_init : ByteArray := prog_25_method_2_code
def yJ14_init : MethodName := ⟨RJ14, "<init>", "(Ljava/lang/String;)V"⟩
def dkwJ14_init_0 : List UInt8 := [42, 43, 183, 0, 7, 177]
abbrev dktJ14_init_0 : List UInt8 := dkwJ14_init_0 ++ []
theorem dksJ14_init_0 : cJ14_init.data.toList.drop 0 = dktJ14_init_0 := by decide +kernel
theorem dJ14_init_0 : decode cJ14_init 0 = .ok (.aload_n 0, 1) := dk_42 (dk_at dksJ14_init_0 0 rfl rfl)
theorem dJ14_init_1 : decode cJ14_init 1 = .ok (.aload_n 1, 1) := dk_43 (dk_at dksJ14_init_0 1 rfl rfl)
theorem dJ14_init_2 : decode cJ14_init 2 = .ok (.invokespecial 7, 3) := dk_183 0 7 (dk_at dksJ14_init_0 2 rfl rfl)
theorem dJ14_init_5 : decode cJ14_init 5 = .ok (.return_, 1) := dk_177 (dk_at dksJ14_init_0 5 rfl rfl)
theorem q70 : (Jvm.Cond.initialized "java/lang/IllegalStateException") ∈ lw_all := lw_g (lw_at lw_m1 22 rfl) rfl
theorem q573 : (Jvm.Cond.selects "java/lang/IllegalStateException" ({ cls := "java/lang/Throwable", name := "fillInStackTrace", desc := "()Ljava/lang/Throwable;" } : Jvm.MethodName) ({ cls := "java/lang/Throwable", name := "fillInStackTrace", desc := "()Ljava/lang/Throwable;" } : Jvm.MethodName)) ∈ lw_all := lw_g (lw_at lw_m3 45 rfl) rfl
theorem q725 : (Jvm.Cond.instantiable "java/lang/IllegalStateException" (6 : Nat)) ∈ lw_all := lw_g (lw_at lw_m3 197 rfl) rfl
theorem q726 : (Jvm.Cond.castable "java/lang/IllegalStateException" "java/lang/IllegalStateException") ∈ lw_tbl := lw_at lw_m3 198 rfl
theorem q727 : (Jvm.Cond.selects "java/lang/IllegalStateException" ({ cls := "java/lang/Throwable", name := "fillInStackTrace", desc := "(I)Ljava/lang/Throwable;" } : Jvm.MethodName) ({ cls := "java/lang/Throwable", name := "fillInStackTrace", desc := "(I)Ljava/lang/Throwable;" } : Jvm.MethodName)) ∈ lw_all := lw_g (lw_at lw_m3 199 rfl) rfl
theorem q728 : (Jvm.Cond.lays "java/lang/IllegalStateException" "java/lang/Throwable" "cause" "Ljava/lang/Throwable;") ∈ lw_all := lw_g (lw_at lw_m3 200 rfl) rfl
theorem q729 : (Jvm.Cond.lays "java/lang/IllegalStateException" "java/lang/Throwable" "stackTrace" "[Ljava/lang/StackTraceElement;") ∈ lw_all := lw_g (lw_at lw_m3 201 rfl) rfl
theorem q730 : (Jvm.Cond.lays "java/lang/IllegalStateException" "java/lang/Throwable" "suppressedExceptions" "Ljava/util/List;") ∈ lw_all := lw_g (lw_at lw_m3 202 rfl) rfl
theorem q731 : (Jvm.Cond.lays "java/lang/IllegalStateException" "java/lang/Throwable" "detailMessage" "Ljava/lang/String;") ∈ lw_all := lw_g (lw_at lw_m3 203 rfl) rfl
theorem q732 : (Jvm.Cond.lays "java/lang/IllegalStateException" "java/lang/Throwable" "backtrace" "Ljava/lang/Object;") ∈ lw_all := lw_g (lw_at lw_m3 204 rfl) rfl
theorem q734 : (Jvm.Cond.instanceMethod ({ cls := "java/lang/IllegalStateException", name := "<init>", desc := "(Ljava/lang/String;)V" } : Jvm.MethodName)) ∈ lw_all := lw_g (lw_at lw_m3 206 rfl) rfl
theorem q735 : (Jvm.Cond.code ({ cls := "java/lang/IllegalStateException", name := "<init>", desc := "(Ljava/lang/String;)V" } : Jvm.MethodName) prog_25_method_2_code (2 : Nat) (Option.none : Option Jvm.ClassFile.FieldType)) ∈ lw_all := lw_g (lw_at lw_m3 207 rfl) rfl
theorem q736 : (Jvm.Cond.methodLink "java/lang/IllegalStateException" (7 : Nat) ({ cls := "java/lang/RuntimeException", name := "<init>", desc := "(Ljava/lang/String;)V" } : Jvm.MethodName)) ∈ lw_all := lw_g (lw_at lw_m3 208 rfl) rfl
theorem q737 : (Jvm.Cond.lays "java/lang/IllegalStateException" "java/lang/Throwable" "depth" "I") ∈ lw_all := lw_g (lw_at lw_m3 209 rfl) rfl
theorem q738 : (Jvm.Cond.superclass "java/lang/IllegalStateException" "java/lang/RuntimeException") ∈ lw_all := lw_g (lw_at lw_m3 210 rfl) rfl
theorem q842 : (Jvm.Cond.selects "java/lang/IllegalStateException" ({ cls := "java/lang/Object", name := "getClass", desc := "()Ljava/lang/Class;" } : Jvm.MethodName) ({ cls := "java/lang/Object", name := "getClass", desc := "()Ljava/lang/Class;" } : Jvm.MethodName)) ∈ lw_all := lw_g (lw_at lw_m4 74 rfl) rfl
theorem q1806 : (Jvm.Cond.castable "java/lang/IllegalStateException" "java/lang/Object") ∈ lw_tbl := lw_at lw_m8 78 rfl
theorem in_J14 : ∀ w ∈ wsJ140, w ∈ lw_all := lw_in wsJ140 [728, 729, 730, 731, 732, 737] (by decide +kernel) (by decide +kernel)
/-! java/lang/IndexOutOfBoundsException -/
set_option maxRecDepth 100000
def RJ7 : String := "java/lang/IndexOutOfBoundsException"
def TJ7 : u_T := fun k => match k with
  | 0 => ("java/lang/Throwable", "cause", "Ljava/lang/Throwable;", false)
  | 1 => ("java/lang/Throwable", "stackTrace", "[Ljava/lang/StackTraceElement;", false)
  | 2 => ("java/lang/Throwable", "suppressedExceptions", "Ljava/util/List;", false)
  | 3 => ("java/lang/Throwable", "detailMessage", "Ljava/lang/String;", false)
  | 4 => ("java/lang/Throwable", "backtrace", "Ljava/lang/Object;", false)
  | _ => ("java/lang/Throwable", "depth", "I", false)
def tyJ7 : Nat → FieldType := fun k => match k with
  | 0 => .object "java/lang/Throwable"
  | 1 => .array (.object "java/lang/StackTraceElement")
  | 2 => .object "java/util/List"
  | 3 => .object "java/lang/String"
  | 4 => .object "java/lang/Object"
  | _ => .int
abbrev wsJ70 : List Cond := u_ws RJ7 TJ7 6
theorem nmJ7 : ∀ a, a < 6 → ∀ b, b < 6 → a ≠ b → (TJ7 a).2.1 ≠ (TJ7 b).2.1 := by decide +kernel
theorem tyJ7_ok : ∀ k, k < 6 → parseFieldDescriptor (TJ7 k).2.2.1 = some (tyJ7 k) := by decide +kernel
abbrev cJ7_init : ByteArray := prog_26_method_2_code
def yJ7_init : MethodName := ⟨RJ7, "<init>", "(Ljava/lang/String;)V"⟩
def dkwJ7_init_0 : List UInt8 := [42, 43, 183, 0, 7, 177]
abbrev dktJ7_init_0 : List UInt8 := dkwJ7_init_0 ++ []
theorem dksJ7_init_0 : cJ7_init.data.toList.drop 0 = dktJ7_init_0 := by decide +kernel
theorem dJ7_init_0 : decode cJ7_init 0 = .ok (.aload_n 0, 1) := dk_42 (dk_at dksJ7_init_0 0 rfl rfl)
theorem dJ7_init_1 : decode cJ7_init 1 = .ok (.aload_n 1, 1) := dk_43 (dk_at dksJ7_init_0 1 rfl rfl)
theorem dJ7_init_2 : decode cJ7_init 2 = .ok (.invokespecial 7, 3) := dk_183 0 7 (dk_at dksJ7_init_0 2 rfl rfl)
theorem dJ7_init_5 : decode cJ7_init 5 = .ok (.return_, 1) := dk_177 (dk_at dksJ7_init_0 5 rfl rfl)
theorem q63 : (Jvm.Cond.initialized "java/lang/IndexOutOfBoundsException") ∈ lw_all := lw_g (lw_at lw_m1 15 rfl) rfl
theorem q552 : (Jvm.Cond.instanceMethod ({ cls := "java/lang/IndexOutOfBoundsException", name := "<init>", desc := "(Ljava/lang/String;)V" } : Jvm.MethodName)) ∈ lw_all := lw_g (lw_at lw_m3 24 rfl) rfl
theorem q553 : (Jvm.Cond.code ({ cls := "java/lang/IndexOutOfBoundsException", name := "<init>", desc := "(Ljava/lang/String;)V" } : Jvm.MethodName) prog_26_method_2_code (2 : Nat) (Option.none : Option Jvm.ClassFile.FieldType)) ∈ lw_all := lw_g (lw_at lw_m3 25 rfl) rfl
theorem q554 : (Jvm.Cond.methodLink "java/lang/IndexOutOfBoundsException" (7 : Nat) ({ cls := "java/lang/RuntimeException", name := "<init>", desc := "(Ljava/lang/String;)V" } : Jvm.MethodName)) ∈ lw_all := lw_g (lw_at lw_m3 26 rfl) rfl
theorem q574 : (Jvm.Cond.selects "java/lang/IndexOutOfBoundsException" ({ cls := "java/lang/Throwable", name := "fillInStackTrace", desc := "()Ljava/lang/Throwable;" } : Jvm.MethodName) ({ cls := "java/lang/Throwable", name := "fillInStackTrace", desc := "()Ljava/lang/Throwable;" } : Jvm.MethodName)) ∈ lw_all := lw_g (lw_at lw_m3 46 rfl) rfl
theorem q600 : (Jvm.Cond.declares ({ cls := "java/lang/IndexOutOfBoundsException", name := "<init>", desc := "()V" } : Jvm.MethodName)) ∈ lw_tbl := lw_at lw_m3 72 rfl
theorem q601 : (Jvm.Cond.declares ({ cls := "java/lang/IndexOutOfBoundsException", name := "<init>", desc := "(Ljava/lang/String;)V" } : Jvm.MethodName)) ∈ lw_tbl := lw_at lw_m3 73 rfl
theorem q637 : (Jvm.Cond.instantiable "java/lang/IndexOutOfBoundsException" (6 : Nat)) ∈ lw_all := lw_g (lw_at lw_m3 109 rfl) rfl
theorem q638 : (Jvm.Cond.castable "java/lang/IndexOutOfBoundsException" "java/lang/IndexOutOfBoundsException") ∈ lw_tbl := lw_at lw_m3 110 rfl
theorem q639 : (Jvm.Cond.selects "java/lang/IndexOutOfBoundsException" ({ cls := "java/lang/Throwable", name := "fillInStackTrace", desc := "(I)Ljava/lang/Throwable;" } : Jvm.MethodName) ({ cls := "java/lang/Throwable", name := "fillInStackTrace", desc := "(I)Ljava/lang/Throwable;" } : Jvm.MethodName)) ∈ lw_all := lw_g (lw_at lw_m3 111 rfl) rfl
theorem q640 : (Jvm.Cond.lays "java/lang/IndexOutOfBoundsException" "java/lang/Throwable" "cause" "Ljava/lang/Throwable;") ∈ lw_all := lw_g (lw_at lw_m3 112 rfl) rfl
theorem q641 : (Jvm.Cond.lays "java/lang/IndexOutOfBoundsException" "java/lang/Throwable" "stackTrace" "[Ljava/lang/StackTraceElement;") ∈ lw_all := lw_g (lw_at lw_m3 113 rfl) rfl
theorem q642 : (Jvm.Cond.lays "java/lang/IndexOutOfBoundsException" "java/lang/Throwable" "suppressedExceptions" "Ljava/util/List;") ∈ lw_all := lw_g (lw_at lw_m3 114 rfl) rfl
theorem q643 : (Jvm.Cond.lays "java/lang/IndexOutOfBoundsException" "java/lang/Throwable" "detailMessage" "Ljava/lang/String;") ∈ lw_all := lw_g (lw_at lw_m3 115 rfl) rfl
theorem q644 : (Jvm.Cond.lays "java/lang/IndexOutOfBoundsException" "java/lang/Throwable" "backtrace" "Ljava/lang/Object;") ∈ lw_all := lw_g (lw_at lw_m3 116 rfl) rfl
theorem q646 : (Jvm.Cond.lays "java/lang/IndexOutOfBoundsException" "java/lang/Throwable" "depth" "I") ∈ lw_all := lw_g (lw_at lw_m3 118 rfl) rfl
theorem q647 : (Jvm.Cond.superclass "java/lang/IndexOutOfBoundsException" "java/lang/RuntimeException") ∈ lw_all := lw_g (lw_at lw_m3 119 rfl) rfl
theorem q843 : (Jvm.Cond.selects "java/lang/IndexOutOfBoundsException" ({ cls := "java/lang/Object", name := "getClass", desc := "()Ljava/lang/Class;" } : Jvm.MethodName) ({ cls := "java/lang/Object", name := "getClass", desc := "()Ljava/lang/Class;" } : Jvm.MethodName)) ∈ lw_all := lw_g (lw_at lw_m4 75 rfl) rfl
theorem q1802 : (Jvm.Cond.castable "java/lang/IndexOutOfBoundsException" "java/lang/Object") ∈ lw_tbl := lw_at lw_m8 74 rfl
theorem in_J7 : ∀ w ∈ wsJ70, w ∈ lw_all := lw_in wsJ70 [640, 641, 642, 643, 644, 646] (by decide +kernel) (by decide +kernel)
/-! java/lang/ArrayIndexOutOfBoundsException -/
set_option maxRecDepth 100000
def RJ8 : String := "java/lang/ArrayIndexOutOfBoundsException"
def TJ8 : u_T := fun k => match k with
  | 0 => ("java/lang/Throwable", "backtrace", "Ljava/lang/Object;", false)
  | 1 => ("java/lang/Throwable", "detailMessage", "Ljava/lang/String;", false)
  | 2 => ("java/lang/Throwable", "cause", "Ljava/lang/Throwable;", false)
  | 3 => ("java/lang/Throwable", "stackTrace", "[Ljava/lang/StackTraceElement;", false)
  | 4 => ("java/lang/Throwable", "depth", "I", false)
  | _ => ("java/lang/Throwable", "suppressedExceptions", "Ljava/util/List;", false)
def tyJ8 : Nat → FieldType := fun k => match k with
  | 0 => .object "java/lang/Object"
  | 1 => .object "java/lang/String"
  | 2 => .object "java/lang/Throwable"
  | 3 => .array (.object "java/lang/StackTraceElement")
  | 4 => .int
  | _ => .object "java/util/List"
abbrev wsJ80 : List Cond := u_ws RJ8 TJ8 6
theorem nmJ8 : ∀ a, a < 6 → ∀ b, b < 6 → a ≠ b → (TJ8 a).2.1 ≠ (TJ8 b).2.1 := by decide +kernel
theorem tyJ8_ok : ∀ k, k < 6 → parseFieldDescriptor (TJ8 k).2.2.1 = some (tyJ8 k) := by decide +kernel
abbrev cJ8_init : ByteArray := prog_18_method_2_code
def yJ8_init : MethodName := ⟨RJ8, "<init>", "(Ljava/lang/String;)V"⟩
def dkwJ8_init_0 : List UInt8 := [42, 43, 183, 0, 7, 177]
abbrev dktJ8_init_0 : List UInt8 := dkwJ8_init_0 ++ []
theorem dksJ8_init_0 : cJ8_init.data.toList.drop 0 = dktJ8_init_0 := by decide +kernel
theorem dJ8_init_0 : decode cJ8_init 0 = .ok (.aload_n 0, 1) := dk_42 (dk_at dksJ8_init_0 0 rfl rfl)
theorem dJ8_init_1 : decode cJ8_init 1 = .ok (.aload_n 1, 1) := dk_43 (dk_at dksJ8_init_0 1 rfl rfl)
theorem dJ8_init_2 : decode cJ8_init 2 = .ok (.invokespecial 7, 3) := dk_183 0 7 (dk_at dksJ8_init_0 2 rfl rfl)
theorem dJ8_init_5 : decode cJ8_init 5 = .ok (.return_, 1) := dk_177 (dk_at dksJ8_init_0 5 rfl rfl)
theorem q64 : (Jvm.Cond.initialized "java/lang/ArrayIndexOutOfBoundsException") ∈ lw_all := lw_g (lw_at lw_m1 16 rfl) rfl
theorem q548 : (Jvm.Cond.instantiable "java/lang/ArrayIndexOutOfBoundsException" (6 : Nat)) ∈ lw_all := lw_g (lw_at lw_m3 20 rfl) rfl
theorem q549 : (Jvm.Cond.instanceMethod ({ cls := "java/lang/ArrayIndexOutOfBoundsException", name := "<init>", desc := "(Ljava/lang/String;)V" } : Jvm.MethodName)) ∈ lw_all := lw_g (lw_at lw_m3 21 rfl) rfl
theorem q550 : (Jvm.Cond.code ({ cls := "java/lang/ArrayIndexOutOfBoundsException", name := "<init>", desc := "(Ljava/lang/String;)V" } : Jvm.MethodName) prog_18_method_2_code (2 : Nat) (Option.none : Option Jvm.ClassFile.FieldType)) ∈ lw_all := lw_g (lw_at lw_m3 22 rfl) rfl
theorem q551 : (Jvm.Cond.methodLink "java/lang/ArrayIndexOutOfBoundsException" (7 : Nat) ({ cls := "java/lang/IndexOutOfBoundsException", name := "<init>", desc := "(Ljava/lang/String;)V" } : Jvm.MethodName)) ∈ lw_all := lw_g (lw_at lw_m3 23 rfl) rfl
theorem q571 : (Jvm.Cond.selects "java/lang/ArrayIndexOutOfBoundsException" ({ cls := "java/lang/Throwable", name := "fillInStackTrace", desc := "()Ljava/lang/Throwable;" } : Jvm.MethodName) ({ cls := "java/lang/Throwable", name := "fillInStackTrace", desc := "()Ljava/lang/Throwable;" } : Jvm.MethodName)) ∈ lw_all := lw_g (lw_at lw_m3 43 rfl) rfl
theorem q586 : (Jvm.Cond.lays "java/lang/ArrayIndexOutOfBoundsException" "java/lang/Throwable" "backtrace" "Ljava/lang/Object;") ∈ lw_all := lw_g (lw_at lw_m3 58 rfl) rfl
theorem q588 : (Jvm.Cond.lays "java/lang/ArrayIndexOutOfBoundsException" "java/lang/Throwable" "detailMessage" "Ljava/lang/String;") ∈ lw_all := lw_g (lw_at lw_m3 60 rfl) rfl
theorem q590 : (Jvm.Cond.lays "java/lang/ArrayIndexOutOfBoundsException" "java/lang/Throwable" "cause" "Ljava/lang/Throwable;") ∈ lw_all := lw_g (lw_at lw_m3 62 rfl) rfl
theorem q592 : (Jvm.Cond.lays "java/lang/ArrayIndexOutOfBoundsException" "java/lang/Throwable" "stackTrace" "[Ljava/lang/StackTraceElement;") ∈ lw_all := lw_g (lw_at lw_m3 64 rfl) rfl
theorem q594 : (Jvm.Cond.lays "java/lang/ArrayIndexOutOfBoundsException" "java/lang/Throwable" "depth" "I") ∈ lw_all := lw_g (lw_at lw_m3 66 rfl) rfl
theorem q596 : (Jvm.Cond.lays "java/lang/ArrayIndexOutOfBoundsException" "java/lang/Throwable" "suppressedExceptions" "Ljava/util/List;") ∈ lw_all := lw_g (lw_at lw_m3 68 rfl) rfl
theorem q598 : (Jvm.Cond.superclass "java/lang/ArrayIndexOutOfBoundsException" "java/lang/IndexOutOfBoundsException") ∈ lw_all := lw_g (lw_at lw_m3 70 rfl) rfl
theorem q599 : (Jvm.Cond.castable "java/lang/ArrayIndexOutOfBoundsException" "java/lang/ArrayIndexOutOfBoundsException") ∈ lw_tbl := lw_at lw_m3 71 rfl
theorem q608 : (Jvm.Cond.selects "java/lang/ArrayIndexOutOfBoundsException" ({ cls := "java/lang/Throwable", name := "fillInStackTrace", desc := "(I)Ljava/lang/Throwable;" } : Jvm.MethodName) ({ cls := "java/lang/Throwable", name := "fillInStackTrace", desc := "(I)Ljava/lang/Throwable;" } : Jvm.MethodName)) ∈ lw_all := lw_g (lw_at lw_m3 80 rfl) rfl
theorem q840 : (Jvm.Cond.selects "java/lang/ArrayIndexOutOfBoundsException" ({ cls := "java/lang/Object", name := "getClass", desc := "()Ljava/lang/Class;" } : Jvm.MethodName) ({ cls := "java/lang/Object", name := "getClass", desc := "()Ljava/lang/Class;" } : Jvm.MethodName)) ∈ lw_all := lw_g (lw_at lw_m4 72 rfl) rfl
theorem q1791 : (Jvm.Cond.castable "java/lang/ArrayIndexOutOfBoundsException" "java/lang/IndexOutOfBoundsException") ∈ lw_tbl := lw_at lw_m8 63 rfl
theorem q1801 : (Jvm.Cond.castable "java/lang/ArrayIndexOutOfBoundsException" "java/lang/Object") ∈ lw_tbl := lw_at lw_m8 73 rfl
theorem in_J8 : ∀ w ∈ wsJ80, w ∈ lw_all := lw_in wsJ80 [586, 588, 590, 592, 594, 596] (by decide +kernel) (by decide +kernel)
/-! java/lang/Throwable -/
set_option maxRecDepth 100000
def RJ4 : String := "java/lang/Throwable"
def TJ4 : u_T := fun k => match k with
  | 0 => ("java/lang/Throwable", "cause", "Ljava/lang/Throwable;", false)
  | 1 => ("java/lang/Throwable", "stackTrace", "[Ljava/lang/StackTraceElement;", false)
  | 2 => ("java/lang/Throwable", "suppressedExceptions", "Ljava/util/List;", false)
  | 3 => ("java/lang/Throwable", "detailMessage", "Ljava/lang/String;", false)
  | _ => ("java/lang/Throwable", "backtrace", "Ljava/lang/Object;", false)
def tyJ4 : Nat → FieldType := fun k => match k with
  | 0 => .object "java/lang/Throwable"
  | 1 => .array (.object "java/lang/StackTraceElement")
  | 2 => .object "java/util/List"
  | 3 => .object "java/lang/String"
  | _ => .object "java/lang/Object"
abbrev wsJ40 : List Cond := u_ws RJ4 TJ4 5
theorem nmJ4 : ∀ a, a < 5 → ∀ b, b < 5 → a ≠ b → (TJ4 a).2.1 ≠ (TJ4 b).2.1 := by decide +kernel
theorem tyJ4_ok : ∀ k, k < 5 → parseFieldDescriptor (TJ4 k).2.2.1 = some (tyJ4 k) := by decide +kernel
abbrev cJ4_init : ByteArray := prog_38_method_2_code
def yJ4_init : MethodName := ⟨RJ4, "<init>", "(Ljava/lang/String;)V"⟩
def dkwJ4_init_1 : List UInt8 := [182, 0, 27, 87, 42, 43, 181, 0, 31, 177]
abbrev dktJ4_init_1 : List UInt8 := dkwJ4_init_1 ++ []
def dkwJ4_init_0 : List UInt8 := [42, 183, 0, 1, 42, 42, 181, 0, 7, 42, 178, 0, 13, 181, 0, 17, 42, 178, 0, 20, 181, 0, 24, 42]
abbrev dktJ4_init_0 : List UInt8 := dkwJ4_init_0 ++ dktJ4_init_1
theorem dksJ4_init_0 : cJ4_init.data.toList.drop 0 = dktJ4_init_0 := by decide +kernel
theorem dksJ4_init_1 : cJ4_init.data.toList.drop 24 = dktJ4_init_1 := dk_seg dksJ4_init_0 24 rfl rfl
theorem dJ4_init_0 : decode cJ4_init 0 = .ok (.aload_n 0, 1) := dk_42 (dk_at dksJ4_init_0 0 rfl rfl)
theorem dJ4_init_1 : decode cJ4_init 1 = .ok (.invokespecial 1, 3) := dk_183 0 1 (dk_at dksJ4_init_0 1 rfl rfl)
theorem dJ4_init_4 : decode cJ4_init 4 = .ok (.aload_n 0, 1) := dk_42 (dk_at dksJ4_init_0 4 rfl rfl)
theorem dJ4_init_5 : decode cJ4_init 5 = .ok (.aload_n 0, 1) := dk_42 (dk_at dksJ4_init_0 5 rfl rfl)
theorem dJ4_init_6 : decode cJ4_init 6 = .ok (.putfield 7, 3) := dk_181 0 7 (dk_at dksJ4_init_0 6 rfl rfl)
theorem dJ4_init_9 : decode cJ4_init 9 = .ok (.aload_n 0, 1) := dk_42 (dk_at dksJ4_init_0 9 rfl rfl)
theorem dJ4_init_10 : decode cJ4_init 10 = .ok (.getstatic 13, 3) := dk_178 0 13 (dk_at dksJ4_init_0 10 rfl rfl)
theorem dJ4_init_13 : decode cJ4_init 13 = .ok (.putfield 17, 3) := dk_181 0 17 (dk_at dksJ4_init_0 13 rfl rfl)
theorem dJ4_init_16 : decode cJ4_init 16 = .ok (.aload_n 0, 1) := dk_42 (dk_at dksJ4_init_0 16 rfl rfl)
theorem dJ4_init_17 : decode cJ4_init 17 = .ok (.getstatic 20, 3) := dk_178 0 20 (dk_at dksJ4_init_0 17 rfl rfl)
theorem dJ4_init_20 : decode cJ4_init 20 = .ok (.putfield 24, 3) := dk_181 0 24 (dk_at dksJ4_init_0 20 rfl rfl)
theorem dJ4_init_23 : decode cJ4_init 23 = .ok (.aload_n 0, 1) := dk_42 (dk_at dksJ4_init_0 23 rfl rfl)
theorem dJ4_init_24 : decode cJ4_init 24 = .ok (.invokevirtual 27, 3) := dk_182 0 27 (dk_at dksJ4_init_1 0 rfl rfl)
theorem dJ4_init_27 : decode cJ4_init 27 = .ok (.pop, 1) := dk_87 (dk_at dksJ4_init_1 3 rfl rfl)
theorem dJ4_init_28 : decode cJ4_init 28 = .ok (.aload_n 0, 1) := dk_42 (dk_at dksJ4_init_1 4 rfl rfl)
theorem dJ4_init_29 : decode cJ4_init 29 = .ok (.aload_n 1, 1) := dk_43 (dk_at dksJ4_init_1 5 rfl rfl)
theorem dJ4_init_30 : decode cJ4_init 30 = .ok (.putfield 31, 3) := dk_181 0 31 (dk_at dksJ4_init_1 6 rfl rfl)
theorem dJ4_init_33 : decode cJ4_init 33 = .ok (.return_, 1) := dk_177 (dk_at dksJ4_init_1 9 rfl rfl)
abbrev cJ4_init_2 : ByteArray := prog_38_method_1_code
def yJ4_init_2 : MethodName := ⟨RJ4, "<init>", "()V"⟩
def dkwJ4_init_2_1 : List UInt8 := [182, 0, 27, 87, 177]
abbrev dktJ4_init_2_1 : List UInt8 := dkwJ4_init_2_1 ++ []
def dkwJ4_init_2_0 : List UInt8 := [42, 183, 0, 1, 42, 42, 181, 0, 7, 42, 178, 0, 13, 181, 0, 17, 42, 178, 0, 20, 181, 0, 24, 42]
abbrev dktJ4_init_2_0 : List UInt8 := dkwJ4_init_2_0 ++ dktJ4_init_2_1
theorem dksJ4_init_2_0 : cJ4_init_2.data.toList.drop 0 = dktJ4_init_2_0 := by decide +kernel
theorem dksJ4_init_2_1 : cJ4_init_2.data.toList.drop 24 = dktJ4_init_2_1 := dk_seg dksJ4_init_2_0 24 rfl rfl
theorem dJ4_init_2_0 : decode cJ4_init_2 0 = .ok (.aload_n 0, 1) := dk_42 (dk_at dksJ4_init_2_0 0 rfl rfl)
theorem dJ4_init_2_1 : decode cJ4_init_2 1 = .ok (.invokespecial 1, 3) := dk_183 0 1 (dk_at dksJ4_init_2_0 1 rfl rfl)
theorem dJ4_init_2_4 : decode cJ4_init_2 4 = .ok (.aload_n 0, 1) := dk_42 (dk_at dksJ4_init_2_0 4 rfl rfl)
theorem dJ4_init_2_5 : decode cJ4_init_2 5 = .ok (.aload_n 0, 1) := dk_42 (dk_at dksJ4_init_2_0 5 rfl rfl)
theorem dJ4_init_2_6 : decode cJ4_init_2 6 = .ok (.putfield 7, 3) := dk_181 0 7 (dk_at dksJ4_init_2_0 6 rfl rfl)
theorem dJ4_init_2_9 : decode cJ4_init_2 9 = .ok (.aload_n 0, 1) := dk_42 (dk_at dksJ4_init_2_0 9 rfl rfl)
theorem dJ4_init_2_10 : decode cJ4_init_2 10 = .ok (.getstatic 13, 3) := dk_178 0 13 (dk_at dksJ4_init_2_0 10 rfl rfl)
theorem dJ4_init_2_13 : decode cJ4_init_2 13 = .ok (.putfield 17, 3) := dk_181 0 17 (dk_at dksJ4_init_2_0 13 rfl rfl)
theorem dJ4_init_2_16 : decode cJ4_init_2 16 = .ok (.aload_n 0, 1) := dk_42 (dk_at dksJ4_init_2_0 16 rfl rfl)
theorem dJ4_init_2_17 : decode cJ4_init_2 17 = .ok (.getstatic 20, 3) := dk_178 0 20 (dk_at dksJ4_init_2_0 17 rfl rfl)
theorem dJ4_init_2_20 : decode cJ4_init_2 20 = .ok (.putfield 24, 3) := dk_181 0 24 (dk_at dksJ4_init_2_0 20 rfl rfl)
theorem dJ4_init_2_23 : decode cJ4_init_2 23 = .ok (.aload_n 0, 1) := dk_42 (dk_at dksJ4_init_2_0 23 rfl rfl)
theorem dJ4_init_2_24 : decode cJ4_init_2 24 = .ok (.invokevirtual 27, 3) := dk_182 0 27 (dk_at dksJ4_init_2_1 0 rfl rfl)
theorem dJ4_init_2_27 : decode cJ4_init_2 27 = .ok (.pop, 1) := dk_87 (dk_at dksJ4_init_2_1 3 rfl rfl)
theorem dJ4_init_2_28 : decode cJ4_init_2 28 = .ok (.return_, 1) := dk_177 (dk_at dksJ4_init_2_1 4 rfl rfl)
theorem q60 : (Jvm.Cond.initialized "java/lang/Throwable") ∈ lw_all := lw_g (lw_at lw_m1 12 rfl) rfl
theorem q561 : (Jvm.Cond.instanceMethod ({ cls := "java/lang/Throwable", name := "<init>", desc := "(Ljava/lang/String;)V" } : Jvm.MethodName)) ∈ lw_all := lw_g (lw_at lw_m3 33 rfl) rfl
theorem q562 : (Jvm.Cond.code ({ cls := "java/lang/Throwable", name := "<init>", desc := "(Ljava/lang/String;)V" } : Jvm.MethodName) prog_38_method_2_code (2 : Nat) (Option.none : Option Jvm.ClassFile.FieldType)) ∈ lw_all := lw_g (lw_at lw_m3 34 rfl) rfl
theorem q563 : (Jvm.Cond.methodLink "java/lang/Throwable" (1 : Nat) ({ cls := "java/lang/Object", name := "<init>", desc := "()V" } : Jvm.MethodName)) ∈ lw_all := lw_g (lw_at lw_m3 35 rfl) rfl
theorem q564 : (Jvm.Cond.fieldLink "java/lang/Throwable" (13 : Nat) "java/lang/Throwable" "UNASSIGNED_STACK" "[Ljava/lang/StackTraceElement;") ∈ lw_all := lw_g (lw_at lw_m3 36 rfl) rfl
theorem q565 : (Jvm.Cond.laysStatic "java/lang/Throwable" "UNASSIGNED_STACK" "[Ljava/lang/StackTraceElement;") ∈ lw_tbl := lw_at lw_m3 37 rfl
theorem q566 : (Jvm.Cond.fieldLink "java/lang/Throwable" (20 : Nat) "java/lang/Throwable" "SUPPRESSED_SENTINEL" "Ljava/util/List;") ∈ lw_all := lw_g (lw_at lw_m3 38 rfl) rfl
theorem q567 : (Jvm.Cond.laysStatic "java/lang/Throwable" "SUPPRESSED_SENTINEL" "Ljava/util/List;") ∈ lw_tbl := lw_at lw_m3 39 rfl
theorem q568 : (Jvm.Cond.methodLink "java/lang/Throwable" (27 : Nat) ({ cls := "java/lang/Throwable", name := "fillInStackTrace", desc := "()Ljava/lang/Throwable;" } : Jvm.MethodName)) ∈ lw_all := lw_g (lw_at lw_m3 40 rfl) rfl
theorem q569 : (Jvm.Cond.instanceMethod ({ cls := "java/lang/Throwable", name := "fillInStackTrace", desc := "()Ljava/lang/Throwable;" } : Jvm.MethodName)) ∈ lw_all := lw_g (lw_at lw_m3 41 rfl) rfl
theorem q570 : (Jvm.Cond.sameMethod "java/lang/Throwable" "java/lang/Throwable" "fillInStackTrace" "()Ljava/lang/Throwable;") ∈ lw_all := lw_g (lw_at lw_m3 42 rfl) rfl
theorem q575 : (Jvm.Cond.codeSync ({ cls := "java/lang/Throwable", name := "fillInStackTrace", desc := "()Ljava/lang/Throwable;" } : Jvm.MethodName) prog_38_method_18_code (1 : Nat) (Option.some (Jvm.ClassFile.FieldType.object "java/lang/Throwable"))) ∈ lw_all := lw_g (lw_at lw_m3 47 rfl) rfl
theorem q576 : (Jvm.Cond.methodLink "java/lang/Throwable" (202 : Nat) ({ cls := "java/lang/Throwable", name := "fillInStackTrace", desc := "(I)Ljava/lang/Throwable;" } : Jvm.MethodName)) ∈ lw_all := lw_g (lw_at lw_m3 48 rfl) rfl
theorem q577 : (Jvm.Cond.privateMethod ({ cls := "java/lang/Throwable", name := "fillInStackTrace", desc := "(I)Ljava/lang/Throwable;" } : Jvm.MethodName)) ∈ lw_tbl := lw_at lw_m3 49 rfl
theorem q578 : (Jvm.Cond.instanceMethod ({ cls := "java/lang/Throwable", name := "fillInStackTrace", desc := "(I)Ljava/lang/Throwable;" } : Jvm.MethodName)) ∈ lw_all := lw_g (lw_at lw_m3 50 rfl) rfl
theorem q579 : (Jvm.Cond.instantiable "java/lang/Throwable" (6 : Nat)) ∈ lw_all := lw_g (lw_at lw_m3 51 rfl) rfl
theorem q580 : (Jvm.Cond.native ({ cls := "java/lang/Throwable", name := "fillInStackTrace", desc := "(I)Ljava/lang/Throwable;" } : Jvm.MethodName)) ∈ lw_all := lw_g (lw_at lw_m3 52 rfl) rfl
theorem q581 : (Jvm.Cond.fieldLink "java/lang/Throwable" (198 : Nat) "java/lang/Throwable" "backtrace" "Ljava/lang/Object;") ∈ lw_all := lw_g (lw_at lw_m3 53 rfl) rfl
theorem q582 : (Jvm.Cond.fieldLink "java/lang/Throwable" (31 : Nat) "java/lang/Throwable" "detailMessage" "Ljava/lang/String;") ∈ lw_all := lw_g (lw_at lw_m3 54 rfl) rfl
theorem q583 : (Jvm.Cond.fieldLink "java/lang/Throwable" (7 : Nat) "java/lang/Throwable" "cause" "Ljava/lang/Throwable;") ∈ lw_all := lw_g (lw_at lw_m3 55 rfl) rfl
theorem q584 : (Jvm.Cond.fieldLink "java/lang/Throwable" (17 : Nat) "java/lang/Throwable" "stackTrace" "[Ljava/lang/StackTraceElement;") ∈ lw_all := lw_g (lw_at lw_m3 56 rfl) rfl
theorem q585 : (Jvm.Cond.fieldLink "java/lang/Throwable" (24 : Nat) "java/lang/Throwable" "suppressedExceptions" "Ljava/util/List;") ∈ lw_all := lw_g (lw_at lw_m3 57 rfl) rfl
theorem q587 : (Jvm.Cond.soleField "java/lang/Throwable" "backtrace") ∈ lw_all := lw_g (lw_at lw_m3 59 rfl) rfl
theorem q589 : (Jvm.Cond.soleField "java/lang/Throwable" "detailMessage") ∈ lw_all := lw_g (lw_at lw_m3 61 rfl) rfl
theorem q591 : (Jvm.Cond.soleField "java/lang/Throwable" "cause") ∈ lw_all := lw_g (lw_at lw_m3 63 rfl) rfl
theorem q593 : (Jvm.Cond.soleField "java/lang/Throwable" "stackTrace") ∈ lw_all := lw_g (lw_at lw_m3 65 rfl) rfl
theorem q595 : (Jvm.Cond.soleField "java/lang/Throwable" "depth") ∈ lw_all := lw_g (lw_at lw_m3 67 rfl) rfl
theorem q597 : (Jvm.Cond.soleField "java/lang/Throwable" "suppressedExceptions") ∈ lw_all := lw_g (lw_at lw_m3 69 rfl) rfl
theorem q606 : (Jvm.Cond.declares ({ cls := "java/lang/Throwable", name := "<init>", desc := "()V" } : Jvm.MethodName)) ∈ lw_tbl := lw_at lw_m3 78 rfl
theorem q607 : (Jvm.Cond.declares ({ cls := "java/lang/Throwable", name := "<init>", desc := "(Ljava/lang/String;)V" } : Jvm.MethodName)) ∈ lw_tbl := lw_at lw_m3 79 rfl
theorem q609 : (Jvm.Cond.lays "java/lang/Throwable" "java/lang/Throwable" "cause" "Ljava/lang/Throwable;") ∈ lw_all := lw_g (lw_at lw_m3 81 rfl) rfl
theorem q610 : (Jvm.Cond.lays "java/lang/Throwable" "java/lang/Throwable" "stackTrace" "[Ljava/lang/StackTraceElement;") ∈ lw_all := lw_g (lw_at lw_m3 82 rfl) rfl
theorem q611 : (Jvm.Cond.lays "java/lang/Throwable" "java/lang/Throwable" "suppressedExceptions" "Ljava/util/List;") ∈ lw_all := lw_g (lw_at lw_m3 83 rfl) rfl
theorem q612 : (Jvm.Cond.lays "java/lang/Throwable" "java/lang/Throwable" "detailMessage" "Ljava/lang/String;") ∈ lw_all := lw_g (lw_at lw_m3 84 rfl) rfl
theorem q613 : (Jvm.Cond.lays "java/lang/Throwable" "java/lang/Throwable" "backtrace" "Ljava/lang/Object;") ∈ lw_all := lw_g (lw_at lw_m3 85 rfl) rfl
theorem q614 : (Jvm.Cond.fieldLink "java/lang/Throwable" (198 : Nat) "java/lang/Throwable" "backtrace" "Ljava/lang/Object;") ∈ lw_all := lw_g (lw_at lw_m3 86 rfl) rfl
theorem q615 : (Jvm.Cond.superclass "java/lang/Throwable" "java/lang/Object") ∈ lw_all := lw_g (lw_at lw_m3 87 rfl) rfl
theorem q616 : (Jvm.Cond.instanceMethod ({ cls := "java/lang/Throwable", name := "<init>", desc := "()V" } : Jvm.MethodName)) ∈ lw_all := lw_g (lw_at lw_m3 88 rfl) rfl
theorem q617 : (Jvm.Cond.code ({ cls := "java/lang/Throwable", name := "<init>", desc := "()V" } : Jvm.MethodName) prog_38_method_1_code (1 : Nat) (Option.none : Option Jvm.ClassFile.FieldType)) ∈ lw_all := lw_g (lw_at lw_m3 89 rfl) rfl
theorem q1780 : (Jvm.Cond.sameMethod "java/lang/Throwable" "java/lang/Throwable" "fillInStackTrace" "(I)Ljava/lang/Throwable;") ∈ lw_all := lw_g (lw_at lw_m8 52 rfl) rfl
theorem q1814 : (Jvm.Cond.castable "java/lang/Throwable" "java/lang/Object") ∈ lw_tbl := lw_at lw_m8 86 rfl
theorem in_J4 : ∀ w ∈ wsJ40, w ∈ lw_all := lw_in wsJ40 [609, 610, 611, 612, 613] (by decide +kernel) (by decide +kernel)
/-! java/lang/Exception -/
set_option maxRecDepth 100000
def RJ5 : String := "java/lang/Exception"
abbrev cJ5_init : ByteArray := prog_23_method_2_code
def yJ5_init : MethodName := ⟨RJ5, "<init>", "(Ljava/lang/String;)V"⟩
def dkwJ5_init_0 : List UInt8 := [42, 43, 183, 0, 7, 177]
abbrev dktJ5_init_0 : List UInt8 := dkwJ5_init_0 ++ []
theorem dksJ5_init_0 : cJ5_init.data.toList.drop 0 = dktJ5_init_0 := by decide +kernel
theorem dJ5_init_0 : decode cJ5_init 0 = .ok (.aload_n 0, 1) := dk_42 (dk_at dksJ5_init_0 0 rfl rfl)
theorem dJ5_init_1 : decode cJ5_init 1 = .ok (.aload_n 1, 1) := dk_43 (dk_at dksJ5_init_0 1 rfl rfl)
theorem dJ5_init_2 : decode cJ5_init 2 = .ok (.invokespecial 7, 3) := dk_183 0 7 (dk_at dksJ5_init_0 2 rfl rfl)
theorem dJ5_init_5 : decode cJ5_init 5 = .ok (.return_, 1) := dk_177 (dk_at dksJ5_init_0 5 rfl rfl)
theorem q61 : (Jvm.Cond.initialized "java/lang/Exception") ∈ lw_all := lw_g (lw_at lw_m1 13 rfl) rfl
theorem q558 : (Jvm.Cond.instanceMethod ({ cls := "java/lang/Exception", name := "<init>", desc := "(Ljava/lang/String;)V" } : Jvm.MethodName)) ∈ lw_all := lw_g (lw_at lw_m3 30 rfl) rfl
theorem q559 : (Jvm.Cond.code ({ cls := "java/lang/Exception", name := "<init>", desc := "(Ljava/lang/String;)V" } : Jvm.MethodName) prog_23_method_2_code (2 : Nat) (Option.none : Option Jvm.ClassFile.FieldType)) ∈ lw_all := lw_g (lw_at lw_m3 31 rfl) rfl
theorem q560 : (Jvm.Cond.methodLink "java/lang/Exception" (7 : Nat) ({ cls := "java/lang/Throwable", name := "<init>", desc := "(Ljava/lang/String;)V" } : Jvm.MethodName)) ∈ lw_all := lw_g (lw_at lw_m3 32 rfl) rfl
theorem q604 : (Jvm.Cond.declares ({ cls := "java/lang/Exception", name := "<init>", desc := "()V" } : Jvm.MethodName)) ∈ lw_tbl := lw_at lw_m3 76 rfl
theorem q605 : (Jvm.Cond.declares ({ cls := "java/lang/Exception", name := "<init>", desc := "(Ljava/lang/String;)V" } : Jvm.MethodName)) ∈ lw_tbl := lw_at lw_m3 77 rfl
/-! java/lang/RuntimeException -/
set_option maxRecDepth 100000
def RJ6 : String := "java/lang/RuntimeException"
abbrev cJ6_init : ByteArray := prog_32_method_2_code
def yJ6_init : MethodName := ⟨RJ6, "<init>", "(Ljava/lang/String;)V"⟩
def dkwJ6_init_0 : List UInt8 := [42, 43, 183, 0, 7, 177]
abbrev dktJ6_init_0 : List UInt8 := dkwJ6_init_0 ++ []
theorem dksJ6_init_0 : cJ6_init.data.toList.drop 0 = dktJ6_init_0 := by decide +kernel
theorem dJ6_init_0 : decode cJ6_init 0 = .ok (.aload_n 0, 1) := dk_42 (dk_at dksJ6_init_0 0 rfl rfl)
theorem dJ6_init_1 : decode cJ6_init 1 = .ok (.aload_n 1, 1) := dk_43 (dk_at dksJ6_init_0 1 rfl rfl)
theorem dJ6_init_2 : decode cJ6_init 2 = .ok (.invokespecial 7, 3) := dk_183 0 7 (dk_at dksJ6_init_0 2 rfl rfl)
theorem dJ6_init_5 : decode cJ6_init 5 = .ok (.return_, 1) := dk_177 (dk_at dksJ6_init_0 5 rfl rfl)
theorem q62 : (Jvm.Cond.initialized "java/lang/RuntimeException") ∈ lw_all := lw_g (lw_at lw_m1 14 rfl) rfl
theorem q555 : (Jvm.Cond.instanceMethod ({ cls := "java/lang/RuntimeException", name := "<init>", desc := "(Ljava/lang/String;)V" } : Jvm.MethodName)) ∈ lw_all := lw_g (lw_at lw_m3 27 rfl) rfl
theorem q556 : (Jvm.Cond.code ({ cls := "java/lang/RuntimeException", name := "<init>", desc := "(Ljava/lang/String;)V" } : Jvm.MethodName) prog_32_method_2_code (2 : Nat) (Option.none : Option Jvm.ClassFile.FieldType)) ∈ lw_all := lw_g (lw_at lw_m3 28 rfl) rfl
theorem q557 : (Jvm.Cond.methodLink "java/lang/RuntimeException" (7 : Nat) ({ cls := "java/lang/Exception", name := "<init>", desc := "(Ljava/lang/String;)V" } : Jvm.MethodName)) ∈ lw_all := lw_g (lw_at lw_m3 29 rfl) rfl
theorem q602 : (Jvm.Cond.declares ({ cls := "java/lang/RuntimeException", name := "<init>", desc := "()V" } : Jvm.MethodName)) ∈ lw_tbl := lw_at lw_m3 74 rfl
theorem q603 : (Jvm.Cond.declares ({ cls := "java/lang/RuntimeException", name := "<init>", desc := "(Ljava/lang/String;)V" } : Jvm.MethodName)) ∈ lw_tbl := lw_at lw_m3 75 rfl
theorem q1093 : (Jvm.Cond.sameMethod "[B" "java/lang/Object" "clone" "()Ljava/lang/Object;") ∈ lw_all := lw_g (lw_at lw_m5 85 rfl) rfl
set_option maxRecDepth 100000
theorem q1094 : (Jvm.Cond.selects "[B" ({ cls := "[B", name := "clone", desc := "()Ljava/lang/Object;" } : Jvm.MethodName) ({ cls := "java/lang/Object", name := "clone", desc := "()Ljava/lang/Object;" } : Jvm.MethodName)) ∈ lw_all := lw_g (lw_at lw_m5 86 rfl) rfl
theorem q1095 : (Jvm.Cond.castable "[B" "java/lang/Cloneable") ∈ lw_tbl := lw_at lw_m5 87 rfl
theorem q1823 : (Jvm.Cond.castable "[B" "java/lang/Object") ∈ lw_tbl := lw_at lw_m8 95 rfl
theorem q1822 : (Jvm.Cond.castable "[I" "java/lang/Object") ∈ lw_tbl := lw_at lw_m8 94 rfl
set_option maxRecDepth 100000
theorem q1820 : (Jvm.Cond.castable "[LBumpward$Edge;" "java/lang/Object") ∈ lw_tbl := lw_at lw_m8 92 rfl
set_option maxRecDepth 100000
theorem q682 : (Jvm.Cond.sameMethod "[LBumpward$Kind;" "java/lang/Object" "clone" "()Ljava/lang/Object;") ∈ lw_all := lw_g (lw_at lw_m3 154 rfl) rfl
set_option maxRecDepth 100000
theorem q685 : (Jvm.Cond.selects "[LBumpward$Kind;" ({ cls := "[LBumpward$Kind;", name := "clone", desc := "()Ljava/lang/Object;" } : Jvm.MethodName) ({ cls := "java/lang/Object", name := "clone", desc := "()Ljava/lang/Object;" } : Jvm.MethodName)) ∈ lw_all := lw_g (lw_at lw_m3 157 rfl) rfl
theorem q686 : (Jvm.Cond.castable "[LBumpward$Kind;" "java/lang/Cloneable") ∈ lw_tbl := lw_at lw_m3 158 rfl
theorem q1824 : (Jvm.Cond.castable "[LBumpward$Kind;" "java/lang/Object") ∈ lw_tbl := lw_at lw_m8 96 rfl
theorem q1817 : (Jvm.Cond.sameMethod "[Ljava/lang/Object;" "java/lang/Object" "getClass" "()Ljava/lang/Class;") ∈ lw_all := lw_g (lw_at lw_m8 89 rfl) rfl
set_option maxRecDepth 100000
theorem q1818 : (Jvm.Cond.selects "[Ljava/lang/Object;" ({ cls := "java/lang/Object", name := "getClass", desc := "()Ljava/lang/Class;" } : Jvm.MethodName) ({ cls := "java/lang/Object", name := "getClass", desc := "()Ljava/lang/Class;" } : Jvm.MethodName)) ∈ lw_all := lw_g (lw_at lw_m8 90 rfl) rfl
theorem q1825 : (Jvm.Cond.castable "[Ljava/lang/Object;" "java/lang/Object") ∈ lw_tbl := lw_at lw_m8 97 rfl
theorem q1821 : (Jvm.Cond.castable "[Z" "java/lang/Object") ∈ lw_tbl := lw_at lw_m8 93 rfl
set_option maxRecDepth 100000
theorem q1826 : (Jvm.Cond.castable "[[I" "java/lang/Object") ∈ lw_tbl := lw_at lw_m8 98 rfl
set_option maxRecDepth 100000
theorem q84 : (Jvm.Cond.initialized "java/lang/Number") ∈ lw_all := lw_g (lw_at lw_m1 36 rfl) rfl
set_option maxRecDepth 100000
theorem q76 : (Jvm.Cond.initialized "java/lang/System") ∈ lw_all := lw_g (lw_at lw_m1 28 rfl) rfl
set_option maxRecDepth 100000
theorem q858 : (Jvm.Cond.static ({ cls := "java/lang/System", name := "arraycopy", desc := "(Ljava/lang/Object;ILjava/lang/Object;II)V" } : Jvm.MethodName)) ∈ lw_all := lw_g (lw_at lw_m4 90 rfl) rfl
theorem q859 : (Jvm.Cond.native ({ cls := "java/lang/System", name := "arraycopy", desc := "(Ljava/lang/Object;ILjava/lang/Object;II)V" } : Jvm.MethodName)) ∈ lw_all := lw_g (lw_at lw_m4 91 rfl) rfl
theorem q238 : (Jvm.Cond.interfaceMethod "java/util/Iterator" "java/util/Iterator" "hasNext" "()Z") ∈ lw_tbl := lw_at lw_m1 190 rfl
set_option maxRecDepth 100000
theorem q239 : (Jvm.Cond.declares ({ cls := "java/util/Iterator", name := "hasNext", desc := "()Z" } : Jvm.MethodName)) ∈ lw_tbl := lw_at lw_m1 191 rfl
theorem q248 : (Jvm.Cond.interfaceMethod "java/util/Iterator" "java/util/Iterator" "next" "()Ljava/lang/Object;") ∈ lw_tbl := lw_at lw_m1 200 rfl
theorem q249 : (Jvm.Cond.declares ({ cls := "java/util/Iterator", name := "next", desc := "()Ljava/lang/Object;" } : Jvm.MethodName)) ∈ lw_tbl := lw_at lw_m1 201 rfl
theorem q96 : (Jvm.Cond.arrayOver (Jvm.ClassFile.FieldType.object "Bumpward$Edge")) ∈ lw_tbl := lw_at lw_m1 48 rfl
set_option maxRecDepth 100000
theorem q126 : (Jvm.Cond.arrayClass Jvm.ClassFile.FieldType.boolean) ∈ lw_all := lw_g (lw_at lw_m1 78 rfl) rfl
theorem q494 : (Jvm.Cond.arrayClass Jvm.ClassFile.FieldType.int) ∈ lw_all := lw_g (lw_at lw_m2 206 rfl) rfl
theorem q619 : (Jvm.Cond.arrayClass Jvm.ClassFile.FieldType.byte) ∈ lw_all := lw_g (lw_at lw_m3 91 rfl) rfl
theorem q687 : (Jvm.Cond.arrayOver (Jvm.ClassFile.FieldType.object "Bumpward$Kind")) ∈ lw_tbl := lw_at lw_m3 159 rfl
theorem q854 : (Jvm.Cond.arrayOver (Jvm.ClassFile.FieldType.object "java/lang/Object")) ∈ lw_tbl := lw_at lw_m4 86 rfl
theorem q1366 : (Jvm.Cond.arrayOver (Jvm.ClassFile.FieldType.array Jvm.ClassFile.FieldType.int)) ∈ lw_tbl := lw_at lw_m6 118 rfl
