/-! DECODE ROWS BY BYTES: one lemma an opcode; a method's code is cut into short pieces once, and a row reads its own piece alone. -/
set_option maxRecDepth 100000
/-- the code has just these bytes from pc on -/
def DkAt (code : ByteArray) (pc : Nat) (bs : List UInt8) : Prop := ∀ (j : Nat) (b : UInt8), bs[j]? = some b → code.data.toList[pc + j]? = some b
/-- the piece W has the bytes bs from its place j on -/
def dkIn (W : List UInt8) (j : Nat) (bs : List UInt8) : Bool := decide ((W.drop j).take bs.length = bs)
theorem dk_seg {l W T : List UInt8} {o o2 : Nat} (h : l.drop o = W ++ T) (n : Nat) (hn : W.length = n) (ho : o + n = o2) : l.drop o2 = T := by
  subst ho
  rw [← List.drop_drop, h, List.drop_left' hn]
theorem dk_at {code : ByteArray} {W T bs : List UInt8} {o pc : Nat} (h : code.data.toList.drop o = W ++ T) (j : Nat) (hp : o + j = pc) (hw : dkIn W j bs = true) : DkAt code pc bs := by
  subst hp
  intro i b e
  have h1 := of_decide_eq_true hw
  have h2 : i < bs.length := (List.getElem?_eq_some_iff.mp e).1
  have h3 : W[j + i]? = some b := by
    rw [← h1, List.getElem?_take, if_pos h2, List.getElem?_drop] at e
    exact e
  have h4 : j + i < W.length := (List.getElem?_eq_some_iff.mp h3).1
  have h5 : (code.data.toList.drop o)[j + i]? = some b := by
    rw [h, List.getElem?_append_left h4]
    exact h3
  rw [List.getElem?_drop, ← Nat.add_assoc] at h5
  exact h5
theorem dk_u1 {A : ByteArray} {p : Nat} {b : UInt8} (h : A.data.toList[p]? = some b) : (Reader.u1 : Reader DecodeError Nat) A p = .ok (b.toNat, p + 1) := by
  obtain ⟨h1, h2⟩ := List.getElem?_eq_some_iff.mp h
  have h3 : p < A.size := by simpa using h1
  have h4 : A[p]'h3 = b := h2
  have e : (Reader.u1 : Reader DecodeError Nat) A p = (if h : p < A.size then .ok (A[p].toNat, p + 1) else .error (HasTruncated.truncated p)) := by
    show (do if h : p < A.size then do set (p + 1); Pure.pure A[p].toNat else MonadExcept.throw (HasTruncated.truncated p) : Reader DecodeError Nat) A p = _
    by_cases hi : p < A.size
    · rw [dif_pos hi, dif_pos hi]; rfl
    · rw [dif_neg hi, dif_neg hi]; rfl
  rw [e, dif_pos h3, h4]
theorem dk_bind {α β : Type} {r : Reader DecodeError α} {f : α → Reader DecodeError β} {A : ByteArray} {p s : Nat} {a : α} (h : r A p = .ok (a, s)) : (r >>= f) A p = f a A s := by
  show (do let (a, s) ← r A p; f a A s : Except DecodeError (β × Nat)) = _
  rw [h]
  rfl
theorem dk_map {α β : Type} {r : Reader DecodeError α} {g : α → β} {A : ByteArray} {p s : Nat} {a : α} (h : r A p = .ok (a, s)) : (g <$> r) A p = .ok (g a, s) := by
  show (do let (a, s) ← r A p; .ok (g a, s) : Except DecodeError (β × Nat)) = _
  rw [h]
  rfl
theorem dk_u2 {A : ByteArray} {p : Nat} {a b : UInt8} (h : A.data.toList[p]? = some a) (h2 : A.data.toList[p + 1]? = some b) : (Reader.u2 : Reader DecodeError Nat) A p = .ok (a.toNat * 256 + b.toNat, p + 2) := by
  show (Reader.u1 >>= fun hi => Reader.u1 >>= fun lo => Pure.pure (hi * 256 + lo) : Reader DecodeError Nat) A p = _
  rw [dk_bind (dk_u1 h), dk_bind (dk_u1 h2)]
  rfl
theorem dk_of {code : ByteArray} {pc n : Nat} {i : Instr} (h : Decoder.instr pc code pc = .ok (i, pc + n)) : decode code pc = .ok (i, n) := by
  have e : decode code pc = (match Decoder.instr pc code pc with | .error x => .error x | .ok (j, s) => .ok (j, s - pc)) := by
    show (do let (j, s) ← Decoder.instr pc code pc; Pure.pure (j, s - pc) : Except DecodeError (Instr × Nat)) = _
    cases Decoder.instr pc code pc <;> rfl
  rw [e, h]
  show Except.ok (i, pc + n - pc) = _
  rw [Nat.add_sub_cancel_left]
theorem dk_1 {code : ByteArray} {pc : Nat} (h : DkAt code pc [1]) : decode code pc = .ok (.aconst_null, 1) := dk_of ((dk_bind (dk_u1 (h 0 _ rfl))).trans rfl)
theorem dk_2 {code : ByteArray} {pc : Nat} (h : DkAt code pc [2]) : decode code pc = .ok (.iconst (-1), 1) := dk_of ((dk_bind (dk_u1 (h 0 _ rfl))).trans rfl)
theorem dk_3 {code : ByteArray} {pc : Nat} (h : DkAt code pc [3]) : decode code pc = .ok (.iconst 0, 1) := dk_of ((dk_bind (dk_u1 (h 0 _ rfl))).trans rfl)
theorem dk_4 {code : ByteArray} {pc : Nat} (h : DkAt code pc [4]) : decode code pc = .ok (.iconst 1, 1) := dk_of ((dk_bind (dk_u1 (h 0 _ rfl))).trans rfl)
theorem dk_5 {code : ByteArray} {pc : Nat} (h : DkAt code pc [5]) : decode code pc = .ok (.iconst 2, 1) := dk_of ((dk_bind (dk_u1 (h 0 _ rfl))).trans rfl)
theorem dk_6 {code : ByteArray} {pc : Nat} (h : DkAt code pc [6]) : decode code pc = .ok (.iconst 3, 1) := dk_of ((dk_bind (dk_u1 (h 0 _ rfl))).trans rfl)
theorem dk_7 {code : ByteArray} {pc : Nat} (h : DkAt code pc [7]) : decode code pc = .ok (.iconst 4, 1) := dk_of ((dk_bind (dk_u1 (h 0 _ rfl))).trans rfl)
theorem dk_8 {code : ByteArray} {pc : Nat} (h : DkAt code pc [8]) : decode code pc = .ok (.iconst 5, 1) := dk_of ((dk_bind (dk_u1 (h 0 _ rfl))).trans rfl)
theorem dk_9 {code : ByteArray} {pc : Nat} (h : DkAt code pc [9]) : decode code pc = .ok (.lconst 0, 1) := dk_of ((dk_bind (dk_u1 (h 0 _ rfl))).trans rfl)
theorem dk_10 {code : ByteArray} {pc : Nat} (h : DkAt code pc [10]) : decode code pc = .ok (.lconst 1, 1) := dk_of ((dk_bind (dk_u1 (h 0 _ rfl))).trans rfl)
theorem dk_11 {code : ByteArray} {pc : Nat} (h : DkAt code pc [11]) : decode code pc = .ok (.fconst 0, 1) := dk_of ((dk_bind (dk_u1 (h 0 _ rfl))).trans rfl)
theorem dk_16 {code : ByteArray} {pc : Nat} (a : UInt8) (h : DkAt code pc [16, a]) : decode code pc = .ok (.bipush (Reader.signed 8 a.toNat), 2) := dk_of ((dk_bind (dk_u1 (h 0 _ rfl))).trans ((dk_bind (dk_map (dk_u1 (h 1 _ rfl)))).trans rfl))
theorem dk_17 {code : ByteArray} {pc : Nat} (a b : UInt8) (h : DkAt code pc [17, a, b]) : decode code pc = .ok (.sipush (Reader.signed 16 (a.toNat * 256 + b.toNat)), 3) := dk_of ((dk_bind (dk_u1 (h 0 _ rfl))).trans ((dk_bind (dk_map (dk_u2 (h 1 _ rfl) (h 2 _ rfl)))).trans rfl))
theorem dk_18 {code : ByteArray} {pc : Nat} (a : UInt8) (h : DkAt code pc [18, a]) : decode code pc = .ok (.ldc a.toNat, 2) := dk_of ((dk_bind (dk_u1 (h 0 _ rfl))).trans ((dk_bind (dk_u1 (h 1 _ rfl))).trans rfl))
theorem dk_19 {code : ByteArray} {pc : Nat} (a b : UInt8) (h : DkAt code pc [19, a, b]) : decode code pc = .ok (.ldc_w (a.toNat * 256 + b.toNat), 3) := dk_of ((dk_bind (dk_u1 (h 0 _ rfl))).trans ((dk_bind (dk_u2 (h 1 _ rfl) (h 2 _ rfl))).trans rfl))
theorem dk_20 {code : ByteArray} {pc : Nat} (a b : UInt8) (h : DkAt code pc [20, a, b]) : decode code pc = .ok (.ldc2_w (a.toNat * 256 + b.toNat), 3) := dk_of ((dk_bind (dk_u1 (h 0 _ rfl))).trans ((dk_bind (dk_u2 (h 1 _ rfl) (h 2 _ rfl))).trans rfl))
theorem dk_21 {code : ByteArray} {pc : Nat} (a : UInt8) (h : DkAt code pc [21, a]) : decode code pc = .ok (.iload a.toNat, 2) := dk_of ((dk_bind (dk_u1 (h 0 _ rfl))).trans ((dk_bind (dk_u1 (h 1 _ rfl))).trans rfl))
theorem dk_22 {code : ByteArray} {pc : Nat} (a : UInt8) (h : DkAt code pc [22, a]) : decode code pc = .ok (.lload a.toNat, 2) := dk_of ((dk_bind (dk_u1 (h 0 _ rfl))).trans ((dk_bind (dk_u1 (h 1 _ rfl))).trans rfl))
theorem dk_24 {code : ByteArray} {pc : Nat} (a : UInt8) (h : DkAt code pc [24, a]) : decode code pc = .ok (.dload a.toNat, 2) := dk_of ((dk_bind (dk_u1 (h 0 _ rfl))).trans ((dk_bind (dk_u1 (h 1 _ rfl))).trans rfl))
theorem dk_25 {code : ByteArray} {pc : Nat} (a : UInt8) (h : DkAt code pc [25, a]) : decode code pc = .ok (.aload a.toNat, 2) := dk_of ((dk_bind (dk_u1 (h 0 _ rfl))).trans ((dk_bind (dk_u1 (h 1 _ rfl))).trans rfl))
theorem dk_26 {code : ByteArray} {pc : Nat} (h : DkAt code pc [26]) : decode code pc = .ok (.iload_n 0, 1) := dk_of ((dk_bind (dk_u1 (h 0 _ rfl))).trans rfl)
theorem dk_27 {code : ByteArray} {pc : Nat} (h : DkAt code pc [27]) : decode code pc = .ok (.iload_n 1, 1) := dk_of ((dk_bind (dk_u1 (h 0 _ rfl))).trans rfl)
theorem dk_28 {code : ByteArray} {pc : Nat} (h : DkAt code pc [28]) : decode code pc = .ok (.iload_n 2, 1) := dk_of ((dk_bind (dk_u1 (h 0 _ rfl))).trans rfl)
theorem dk_29 {code : ByteArray} {pc : Nat} (h : DkAt code pc [29]) : decode code pc = .ok (.iload_n 3, 1) := dk_of ((dk_bind (dk_u1 (h 0 _ rfl))).trans rfl)
theorem dk_30 {code : ByteArray} {pc : Nat} (h : DkAt code pc [30]) : decode code pc = .ok (.lload_n 0, 1) := dk_of ((dk_bind (dk_u1 (h 0 _ rfl))).trans rfl)
theorem dk_31 {code : ByteArray} {pc : Nat} (h : DkAt code pc [31]) : decode code pc = .ok (.lload_n 1, 1) := dk_of ((dk_bind (dk_u1 (h 0 _ rfl))).trans rfl)
theorem dk_32 {code : ByteArray} {pc : Nat} (h : DkAt code pc [32]) : decode code pc = .ok (.lload_n 2, 1) := dk_of ((dk_bind (dk_u1 (h 0 _ rfl))).trans rfl)
theorem dk_33 {code : ByteArray} {pc : Nat} (h : DkAt code pc [33]) : decode code pc = .ok (.lload_n 3, 1) := dk_of ((dk_bind (dk_u1 (h 0 _ rfl))).trans rfl)
theorem dk_42 {code : ByteArray} {pc : Nat} (h : DkAt code pc [42]) : decode code pc = .ok (.aload_n 0, 1) := dk_of ((dk_bind (dk_u1 (h 0 _ rfl))).trans rfl)
theorem dk_43 {code : ByteArray} {pc : Nat} (h : DkAt code pc [43]) : decode code pc = .ok (.aload_n 1, 1) := dk_of ((dk_bind (dk_u1 (h 0 _ rfl))).trans rfl)
theorem dk_44 {code : ByteArray} {pc : Nat} (h : DkAt code pc [44]) : decode code pc = .ok (.aload_n 2, 1) := dk_of ((dk_bind (dk_u1 (h 0 _ rfl))).trans rfl)
theorem dk_45 {code : ByteArray} {pc : Nat} (h : DkAt code pc [45]) : decode code pc = .ok (.aload_n 3, 1) := dk_of ((dk_bind (dk_u1 (h 0 _ rfl))).trans rfl)
theorem dk_46 {code : ByteArray} {pc : Nat} (h : DkAt code pc [46]) : decode code pc = .ok (.iaload, 1) := dk_of ((dk_bind (dk_u1 (h 0 _ rfl))).trans rfl)
theorem dk_47 {code : ByteArray} {pc : Nat} (h : DkAt code pc [47]) : decode code pc = .ok (.laload, 1) := dk_of ((dk_bind (dk_u1 (h 0 _ rfl))).trans rfl)
theorem dk_50 {code : ByteArray} {pc : Nat} (h : DkAt code pc [50]) : decode code pc = .ok (.aaload, 1) := dk_of ((dk_bind (dk_u1 (h 0 _ rfl))).trans rfl)
theorem dk_51 {code : ByteArray} {pc : Nat} (h : DkAt code pc [51]) : decode code pc = .ok (.baload, 1) := dk_of ((dk_bind (dk_u1 (h 0 _ rfl))).trans rfl)
theorem dk_53 {code : ByteArray} {pc : Nat} (h : DkAt code pc [53]) : decode code pc = .ok (.saload, 1) := dk_of ((dk_bind (dk_u1 (h 0 _ rfl))).trans rfl)
theorem dk_54 {code : ByteArray} {pc : Nat} (a : UInt8) (h : DkAt code pc [54, a]) : decode code pc = .ok (.istore a.toNat, 2) := dk_of ((dk_bind (dk_u1 (h 0 _ rfl))).trans ((dk_bind (dk_u1 (h 1 _ rfl))).trans rfl))
theorem dk_55 {code : ByteArray} {pc : Nat} (a : UInt8) (h : DkAt code pc [55, a]) : decode code pc = .ok (.lstore a.toNat, 2) := dk_of ((dk_bind (dk_u1 (h 0 _ rfl))).trans ((dk_bind (dk_u1 (h 1 _ rfl))).trans rfl))
theorem dk_57 {code : ByteArray} {pc : Nat} (a : UInt8) (h : DkAt code pc [57, a]) : decode code pc = .ok (.dstore a.toNat, 2) := dk_of ((dk_bind (dk_u1 (h 0 _ rfl))).trans ((dk_bind (dk_u1 (h 1 _ rfl))).trans rfl))
theorem dk_58 {code : ByteArray} {pc : Nat} (a : UInt8) (h : DkAt code pc [58, a]) : decode code pc = .ok (.astore a.toNat, 2) := dk_of ((dk_bind (dk_u1 (h 0 _ rfl))).trans ((dk_bind (dk_u1 (h 1 _ rfl))).trans rfl))
theorem dk_59 {code : ByteArray} {pc : Nat} (h : DkAt code pc [59]) : decode code pc = .ok (.istore_n 0, 1) := dk_of ((dk_bind (dk_u1 (h 0 _ rfl))).trans rfl)
theorem dk_60 {code : ByteArray} {pc : Nat} (h : DkAt code pc [60]) : decode code pc = .ok (.istore_n 1, 1) := dk_of ((dk_bind (dk_u1 (h 0 _ rfl))).trans rfl)
theorem dk_61 {code : ByteArray} {pc : Nat} (h : DkAt code pc [61]) : decode code pc = .ok (.istore_n 2, 1) := dk_of ((dk_bind (dk_u1 (h 0 _ rfl))).trans rfl)
theorem dk_62 {code : ByteArray} {pc : Nat} (h : DkAt code pc [62]) : decode code pc = .ok (.istore_n 3, 1) := dk_of ((dk_bind (dk_u1 (h 0 _ rfl))).trans rfl)
theorem dk_63 {code : ByteArray} {pc : Nat} (h : DkAt code pc [63]) : decode code pc = .ok (.lstore_n 0, 1) := dk_of ((dk_bind (dk_u1 (h 0 _ rfl))).trans rfl)
theorem dk_64 {code : ByteArray} {pc : Nat} (h : DkAt code pc [64]) : decode code pc = .ok (.lstore_n 1, 1) := dk_of ((dk_bind (dk_u1 (h 0 _ rfl))).trans rfl)
theorem dk_66 {code : ByteArray} {pc : Nat} (h : DkAt code pc [66]) : decode code pc = .ok (.lstore_n 3, 1) := dk_of ((dk_bind (dk_u1 (h 0 _ rfl))).trans rfl)
theorem dk_76 {code : ByteArray} {pc : Nat} (h : DkAt code pc [76]) : decode code pc = .ok (.astore_n 1, 1) := dk_of ((dk_bind (dk_u1 (h 0 _ rfl))).trans rfl)
theorem dk_77 {code : ByteArray} {pc : Nat} (h : DkAt code pc [77]) : decode code pc = .ok (.astore_n 2, 1) := dk_of ((dk_bind (dk_u1 (h 0 _ rfl))).trans rfl)
theorem dk_78 {code : ByteArray} {pc : Nat} (h : DkAt code pc [78]) : decode code pc = .ok (.astore_n 3, 1) := dk_of ((dk_bind (dk_u1 (h 0 _ rfl))).trans rfl)
theorem dk_79 {code : ByteArray} {pc : Nat} (h : DkAt code pc [79]) : decode code pc = .ok (.iastore, 1) := dk_of ((dk_bind (dk_u1 (h 0 _ rfl))).trans rfl)
theorem dk_80 {code : ByteArray} {pc : Nat} (h : DkAt code pc [80]) : decode code pc = .ok (.lastore, 1) := dk_of ((dk_bind (dk_u1 (h 0 _ rfl))).trans rfl)
theorem dk_83 {code : ByteArray} {pc : Nat} (h : DkAt code pc [83]) : decode code pc = .ok (.aastore, 1) := dk_of ((dk_bind (dk_u1 (h 0 _ rfl))).trans rfl)
theorem dk_84 {code : ByteArray} {pc : Nat} (h : DkAt code pc [84]) : decode code pc = .ok (.bastore, 1) := dk_of ((dk_bind (dk_u1 (h 0 _ rfl))).trans rfl)
theorem dk_86 {code : ByteArray} {pc : Nat} (h : DkAt code pc [86]) : decode code pc = .ok (.sastore, 1) := dk_of ((dk_bind (dk_u1 (h 0 _ rfl))).trans rfl)
theorem dk_87 {code : ByteArray} {pc : Nat} (h : DkAt code pc [87]) : decode code pc = .ok (.pop, 1) := dk_of ((dk_bind (dk_u1 (h 0 _ rfl))).trans rfl)
theorem dk_89 {code : ByteArray} {pc : Nat} (h : DkAt code pc [89]) : decode code pc = .ok (.dup, 1) := dk_of ((dk_bind (dk_u1 (h 0 _ rfl))).trans rfl)
theorem dk_90 {code : ByteArray} {pc : Nat} (h : DkAt code pc [90]) : decode code pc = .ok (.dup_x1, 1) := dk_of ((dk_bind (dk_u1 (h 0 _ rfl))).trans rfl)
theorem dk_92 {code : ByteArray} {pc : Nat} (h : DkAt code pc [92]) : decode code pc = .ok (.dup2, 1) := dk_of ((dk_bind (dk_u1 (h 0 _ rfl))).trans rfl)
theorem dk_96 {code : ByteArray} {pc : Nat} (h : DkAt code pc [96]) : decode code pc = .ok (.iadd, 1) := dk_of ((dk_bind (dk_u1 (h 0 _ rfl))).trans rfl)
theorem dk_97 {code : ByteArray} {pc : Nat} (h : DkAt code pc [97]) : decode code pc = .ok (.ladd, 1) := dk_of ((dk_bind (dk_u1 (h 0 _ rfl))).trans rfl)
theorem dk_100 {code : ByteArray} {pc : Nat} (h : DkAt code pc [100]) : decode code pc = .ok (.isub, 1) := dk_of ((dk_bind (dk_u1 (h 0 _ rfl))).trans rfl)
theorem dk_101 {code : ByteArray} {pc : Nat} (h : DkAt code pc [101]) : decode code pc = .ok (.lsub, 1) := dk_of ((dk_bind (dk_u1 (h 0 _ rfl))).trans rfl)
theorem dk_104 {code : ByteArray} {pc : Nat} (h : DkAt code pc [104]) : decode code pc = .ok (.imul, 1) := dk_of ((dk_bind (dk_u1 (h 0 _ rfl))).trans rfl)
theorem dk_105 {code : ByteArray} {pc : Nat} (h : DkAt code pc [105]) : decode code pc = .ok (.lmul, 1) := dk_of ((dk_bind (dk_u1 (h 0 _ rfl))).trans rfl)
theorem dk_108 {code : ByteArray} {pc : Nat} (h : DkAt code pc [108]) : decode code pc = .ok (.idiv, 1) := dk_of ((dk_bind (dk_u1 (h 0 _ rfl))).trans rfl)
theorem dk_110 {code : ByteArray} {pc : Nat} (h : DkAt code pc [110]) : decode code pc = .ok (.fdiv, 1) := dk_of ((dk_bind (dk_u1 (h 0 _ rfl))).trans rfl)
theorem dk_111 {code : ByteArray} {pc : Nat} (h : DkAt code pc [111]) : decode code pc = .ok (.ddiv, 1) := dk_of ((dk_bind (dk_u1 (h 0 _ rfl))).trans rfl)
theorem dk_112 {code : ByteArray} {pc : Nat} (h : DkAt code pc [112]) : decode code pc = .ok (.irem, 1) := dk_of ((dk_bind (dk_u1 (h 0 _ rfl))).trans rfl)
theorem dk_116 {code : ByteArray} {pc : Nat} (h : DkAt code pc [116]) : decode code pc = .ok (.ineg, 1) := dk_of ((dk_bind (dk_u1 (h 0 _ rfl))).trans rfl)
theorem dk_120 {code : ByteArray} {pc : Nat} (h : DkAt code pc [120]) : decode code pc = .ok (.ishl, 1) := dk_of ((dk_bind (dk_u1 (h 0 _ rfl))).trans rfl)
theorem dk_121 {code : ByteArray} {pc : Nat} (h : DkAt code pc [121]) : decode code pc = .ok (.lshl, 1) := dk_of ((dk_bind (dk_u1 (h 0 _ rfl))).trans rfl)
theorem dk_122 {code : ByteArray} {pc : Nat} (h : DkAt code pc [122]) : decode code pc = .ok (.ishr, 1) := dk_of ((dk_bind (dk_u1 (h 0 _ rfl))).trans rfl)
theorem dk_124 {code : ByteArray} {pc : Nat} (h : DkAt code pc [124]) : decode code pc = .ok (.iushr, 1) := dk_of ((dk_bind (dk_u1 (h 0 _ rfl))).trans rfl)
theorem dk_125 {code : ByteArray} {pc : Nat} (h : DkAt code pc [125]) : decode code pc = .ok (.lushr, 1) := dk_of ((dk_bind (dk_u1 (h 0 _ rfl))).trans rfl)
theorem dk_126 {code : ByteArray} {pc : Nat} (h : DkAt code pc [126]) : decode code pc = .ok (.iand, 1) := dk_of ((dk_bind (dk_u1 (h 0 _ rfl))).trans rfl)
theorem dk_127 {code : ByteArray} {pc : Nat} (h : DkAt code pc [127]) : decode code pc = .ok (.land, 1) := dk_of ((dk_bind (dk_u1 (h 0 _ rfl))).trans rfl)
theorem dk_128 {code : ByteArray} {pc : Nat} (h : DkAt code pc [128]) : decode code pc = .ok (.ior, 1) := dk_of ((dk_bind (dk_u1 (h 0 _ rfl))).trans rfl)
theorem dk_129 {code : ByteArray} {pc : Nat} (h : DkAt code pc [129]) : decode code pc = .ok (.lor, 1) := dk_of ((dk_bind (dk_u1 (h 0 _ rfl))).trans rfl)
theorem dk_130 {code : ByteArray} {pc : Nat} (h : DkAt code pc [130]) : decode code pc = .ok (.ixor, 1) := dk_of ((dk_bind (dk_u1 (h 0 _ rfl))).trans rfl)
theorem dk_131 {code : ByteArray} {pc : Nat} (h : DkAt code pc [131]) : decode code pc = .ok (.lxor, 1) := dk_of ((dk_bind (dk_u1 (h 0 _ rfl))).trans rfl)
theorem dk_132 {code : ByteArray} {pc : Nat} (a b : UInt8) (h : DkAt code pc [132, a, b]) : decode code pc = .ok (.iinc a.toNat (Reader.signed 8 b.toNat), 3) := dk_of ((dk_bind (dk_u1 (h 0 _ rfl))).trans ((dk_bind (dk_u1 (h 1 _ rfl))).trans ((dk_bind (dk_map (dk_u1 (h 2 _ rfl)))).trans rfl)))
theorem dk_133 {code : ByteArray} {pc : Nat} (h : DkAt code pc [133]) : decode code pc = .ok (.i2l, 1) := dk_of ((dk_bind (dk_u1 (h 0 _ rfl))).trans rfl)
theorem dk_134 {code : ByteArray} {pc : Nat} (h : DkAt code pc [134]) : decode code pc = .ok (.i2f, 1) := dk_of ((dk_bind (dk_u1 (h 0 _ rfl))).trans rfl)
theorem dk_135 {code : ByteArray} {pc : Nat} (h : DkAt code pc [135]) : decode code pc = .ok (.i2d, 1) := dk_of ((dk_bind (dk_u1 (h 0 _ rfl))).trans rfl)
theorem dk_136 {code : ByteArray} {pc : Nat} (h : DkAt code pc [136]) : decode code pc = .ok (.l2i, 1) := dk_of ((dk_bind (dk_u1 (h 0 _ rfl))).trans rfl)
theorem dk_141 {code : ByteArray} {pc : Nat} (h : DkAt code pc [141]) : decode code pc = .ok (.f2d, 1) := dk_of ((dk_bind (dk_u1 (h 0 _ rfl))).trans rfl)
theorem dk_145 {code : ByteArray} {pc : Nat} (h : DkAt code pc [145]) : decode code pc = .ok (.i2b, 1) := dk_of ((dk_bind (dk_u1 (h 0 _ rfl))).trans rfl)
theorem dk_146 {code : ByteArray} {pc : Nat} (h : DkAt code pc [146]) : decode code pc = .ok (.i2c, 1) := dk_of ((dk_bind (dk_u1 (h 0 _ rfl))).trans rfl)
theorem dk_147 {code : ByteArray} {pc : Nat} (h : DkAt code pc [147]) : decode code pc = .ok (.i2s, 1) := dk_of ((dk_bind (dk_u1 (h 0 _ rfl))).trans rfl)
theorem dk_148 {code : ByteArray} {pc : Nat} (h : DkAt code pc [148]) : decode code pc = .ok (.lcmp, 1) := dk_of ((dk_bind (dk_u1 (h 0 _ rfl))).trans rfl)
theorem dk_151 {code : ByteArray} {pc : Nat} (h : DkAt code pc [151]) : decode code pc = .ok (.dcmp .l, 1) := dk_of ((dk_bind (dk_u1 (h 0 _ rfl))).trans rfl)
theorem dk_153 {code : ByteArray} {pc : Nat} (a b : UInt8) (h : DkAt code pc [153, a, b]) : decode code pc = .ok (.ifCond .eq (Reader.signed 16 (a.toNat * 256 + b.toNat)), 3) := dk_of ((dk_bind (dk_u1 (h 0 _ rfl))).trans ((dk_bind (dk_map (dk_u2 (h 1 _ rfl) (h 2 _ rfl)))).trans rfl))
theorem dk_154 {code : ByteArray} {pc : Nat} (a b : UInt8) (h : DkAt code pc [154, a, b]) : decode code pc = .ok (.ifCond .ne (Reader.signed 16 (a.toNat * 256 + b.toNat)), 3) := dk_of ((dk_bind (dk_u1 (h 0 _ rfl))).trans ((dk_bind (dk_map (dk_u2 (h 1 _ rfl) (h 2 _ rfl)))).trans rfl))
theorem dk_155 {code : ByteArray} {pc : Nat} (a b : UInt8) (h : DkAt code pc [155, a, b]) : decode code pc = .ok (.ifCond .lt (Reader.signed 16 (a.toNat * 256 + b.toNat)), 3) := dk_of ((dk_bind (dk_u1 (h 0 _ rfl))).trans ((dk_bind (dk_map (dk_u2 (h 1 _ rfl) (h 2 _ rfl)))).trans rfl))
theorem dk_156 {code : ByteArray} {pc : Nat} (a b : UInt8) (h : DkAt code pc [156, a, b]) : decode code pc = .ok (.ifCond .ge (Reader.signed 16 (a.toNat * 256 + b.toNat)), 3) := dk_of ((dk_bind (dk_u1 (h 0 _ rfl))).trans ((dk_bind (dk_map (dk_u2 (h 1 _ rfl) (h 2 _ rfl)))).trans rfl))
theorem dk_157 {code : ByteArray} {pc : Nat} (a b : UInt8) (h : DkAt code pc [157, a, b]) : decode code pc = .ok (.ifCond .gt (Reader.signed 16 (a.toNat * 256 + b.toNat)), 3) := dk_of ((dk_bind (dk_u1 (h 0 _ rfl))).trans ((dk_bind (dk_map (dk_u2 (h 1 _ rfl) (h 2 _ rfl)))).trans rfl))
theorem dk_158 {code : ByteArray} {pc : Nat} (a b : UInt8) (h : DkAt code pc [158, a, b]) : decode code pc = .ok (.ifCond .le (Reader.signed 16 (a.toNat * 256 + b.toNat)), 3) := dk_of ((dk_bind (dk_u1 (h 0 _ rfl))).trans ((dk_bind (dk_map (dk_u2 (h 1 _ rfl) (h 2 _ rfl)))).trans rfl))
theorem dk_159 {code : ByteArray} {pc : Nat} (a b : UInt8) (h : DkAt code pc [159, a, b]) : decode code pc = .ok (.if_icmp .eq (Reader.signed 16 (a.toNat * 256 + b.toNat)), 3) := dk_of ((dk_bind (dk_u1 (h 0 _ rfl))).trans ((dk_bind (dk_map (dk_u2 (h 1 _ rfl) (h 2 _ rfl)))).trans rfl))
theorem dk_160 {code : ByteArray} {pc : Nat} (a b : UInt8) (h : DkAt code pc [160, a, b]) : decode code pc = .ok (.if_icmp .ne (Reader.signed 16 (a.toNat * 256 + b.toNat)), 3) := dk_of ((dk_bind (dk_u1 (h 0 _ rfl))).trans ((dk_bind (dk_map (dk_u2 (h 1 _ rfl) (h 2 _ rfl)))).trans rfl))
theorem dk_161 {code : ByteArray} {pc : Nat} (a b : UInt8) (h : DkAt code pc [161, a, b]) : decode code pc = .ok (.if_icmp .lt (Reader.signed 16 (a.toNat * 256 + b.toNat)), 3) := dk_of ((dk_bind (dk_u1 (h 0 _ rfl))).trans ((dk_bind (dk_map (dk_u2 (h 1 _ rfl) (h 2 _ rfl)))).trans rfl))
theorem dk_162 {code : ByteArray} {pc : Nat} (a b : UInt8) (h : DkAt code pc [162, a, b]) : decode code pc = .ok (.if_icmp .ge (Reader.signed 16 (a.toNat * 256 + b.toNat)), 3) := dk_of ((dk_bind (dk_u1 (h 0 _ rfl))).trans ((dk_bind (dk_map (dk_u2 (h 1 _ rfl) (h 2 _ rfl)))).trans rfl))
theorem dk_163 {code : ByteArray} {pc : Nat} (a b : UInt8) (h : DkAt code pc [163, a, b]) : decode code pc = .ok (.if_icmp .gt (Reader.signed 16 (a.toNat * 256 + b.toNat)), 3) := dk_of ((dk_bind (dk_u1 (h 0 _ rfl))).trans ((dk_bind (dk_map (dk_u2 (h 1 _ rfl) (h 2 _ rfl)))).trans rfl))
theorem dk_164 {code : ByteArray} {pc : Nat} (a b : UInt8) (h : DkAt code pc [164, a, b]) : decode code pc = .ok (.if_icmp .le (Reader.signed 16 (a.toNat * 256 + b.toNat)), 3) := dk_of ((dk_bind (dk_u1 (h 0 _ rfl))).trans ((dk_bind (dk_map (dk_u2 (h 1 _ rfl) (h 2 _ rfl)))).trans rfl))
theorem dk_166 {code : ByteArray} {pc : Nat} (a b : UInt8) (h : DkAt code pc [166, a, b]) : decode code pc = .ok (.if_acmp .ne (Reader.signed 16 (a.toNat * 256 + b.toNat)), 3) := dk_of ((dk_bind (dk_u1 (h 0 _ rfl))).trans ((dk_bind (dk_map (dk_u2 (h 1 _ rfl) (h 2 _ rfl)))).trans rfl))
theorem dk_167 {code : ByteArray} {pc : Nat} (a b : UInt8) (h : DkAt code pc [167, a, b]) : decode code pc = .ok (.goto (Reader.signed 16 (a.toNat * 256 + b.toNat)), 3) := dk_of ((dk_bind (dk_u1 (h 0 _ rfl))).trans ((dk_bind (dk_map (dk_u2 (h 1 _ rfl) (h 2 _ rfl)))).trans rfl))
theorem dk_172 {code : ByteArray} {pc : Nat} (h : DkAt code pc [172]) : decode code pc = .ok (.ireturn, 1) := dk_of ((dk_bind (dk_u1 (h 0 _ rfl))).trans rfl)
theorem dk_173 {code : ByteArray} {pc : Nat} (h : DkAt code pc [173]) : decode code pc = .ok (.lreturn, 1) := dk_of ((dk_bind (dk_u1 (h 0 _ rfl))).trans rfl)
theorem dk_174 {code : ByteArray} {pc : Nat} (h : DkAt code pc [174]) : decode code pc = .ok (.freturn, 1) := dk_of ((dk_bind (dk_u1 (h 0 _ rfl))).trans rfl)
theorem dk_175 {code : ByteArray} {pc : Nat} (h : DkAt code pc [175]) : decode code pc = .ok (.dreturn, 1) := dk_of ((dk_bind (dk_u1 (h 0 _ rfl))).trans rfl)
theorem dk_176 {code : ByteArray} {pc : Nat} (h : DkAt code pc [176]) : decode code pc = .ok (.areturn, 1) := dk_of ((dk_bind (dk_u1 (h 0 _ rfl))).trans rfl)
theorem dk_177 {code : ByteArray} {pc : Nat} (h : DkAt code pc [177]) : decode code pc = .ok (.return_, 1) := dk_of ((dk_bind (dk_u1 (h 0 _ rfl))).trans rfl)
theorem dk_178 {code : ByteArray} {pc : Nat} (a b : UInt8) (h : DkAt code pc [178, a, b]) : decode code pc = .ok (.getstatic (a.toNat * 256 + b.toNat), 3) := dk_of ((dk_bind (dk_u1 (h 0 _ rfl))).trans ((dk_bind (dk_u2 (h 1 _ rfl) (h 2 _ rfl))).trans rfl))
theorem dk_180 {code : ByteArray} {pc : Nat} (a b : UInt8) (h : DkAt code pc [180, a, b]) : decode code pc = .ok (.getfield (a.toNat * 256 + b.toNat), 3) := dk_of ((dk_bind (dk_u1 (h 0 _ rfl))).trans ((dk_bind (dk_u2 (h 1 _ rfl) (h 2 _ rfl))).trans rfl))
theorem dk_181 {code : ByteArray} {pc : Nat} (a b : UInt8) (h : DkAt code pc [181, a, b]) : decode code pc = .ok (.putfield (a.toNat * 256 + b.toNat), 3) := dk_of ((dk_bind (dk_u1 (h 0 _ rfl))).trans ((dk_bind (dk_u2 (h 1 _ rfl) (h 2 _ rfl))).trans rfl))
theorem dk_182 {code : ByteArray} {pc : Nat} (a b : UInt8) (h : DkAt code pc [182, a, b]) : decode code pc = .ok (.invokevirtual (a.toNat * 256 + b.toNat), 3) := dk_of ((dk_bind (dk_u1 (h 0 _ rfl))).trans ((dk_bind (dk_u2 (h 1 _ rfl) (h 2 _ rfl))).trans rfl))
theorem dk_183 {code : ByteArray} {pc : Nat} (a b : UInt8) (h : DkAt code pc [183, a, b]) : decode code pc = .ok (.invokespecial (a.toNat * 256 + b.toNat), 3) := dk_of ((dk_bind (dk_u1 (h 0 _ rfl))).trans ((dk_bind (dk_u2 (h 1 _ rfl) (h 2 _ rfl))).trans rfl))
theorem dk_184 {code : ByteArray} {pc : Nat} (a b : UInt8) (h : DkAt code pc [184, a, b]) : decode code pc = .ok (.invokestatic (a.toNat * 256 + b.toNat), 3) := dk_of ((dk_bind (dk_u1 (h 0 _ rfl))).trans ((dk_bind (dk_u2 (h 1 _ rfl) (h 2 _ rfl))).trans rfl))
theorem dk_187 {code : ByteArray} {pc : Nat} (a b : UInt8) (h : DkAt code pc [187, a, b]) : decode code pc = .ok (.new (a.toNat * 256 + b.toNat), 3) := dk_of ((dk_bind (dk_u1 (h 0 _ rfl))).trans ((dk_bind (dk_u2 (h 1 _ rfl) (h 2 _ rfl))).trans rfl))
theorem dk_188_4 {code : ByteArray} {pc : Nat} (h : DkAt code pc [188, 4]) : decode code pc = .ok (.newarray .boolean, 2) := dk_of ((dk_bind (dk_u1 (h 0 _ rfl))).trans ((dk_bind (dk_u1 (h 1 _ rfl))).trans rfl))
theorem dk_188_8 {code : ByteArray} {pc : Nat} (h : DkAt code pc [188, 8]) : decode code pc = .ok (.newarray .byte, 2) := dk_of ((dk_bind (dk_u1 (h 0 _ rfl))).trans ((dk_bind (dk_u1 (h 1 _ rfl))).trans rfl))
theorem dk_188_10 {code : ByteArray} {pc : Nat} (h : DkAt code pc [188, 10]) : decode code pc = .ok (.newarray .int, 2) := dk_of ((dk_bind (dk_u1 (h 0 _ rfl))).trans ((dk_bind (dk_u1 (h 1 _ rfl))).trans rfl))
theorem dk_188_11 {code : ByteArray} {pc : Nat} (h : DkAt code pc [188, 11]) : decode code pc = .ok (.newarray .long, 2) := dk_of ((dk_bind (dk_u1 (h 0 _ rfl))).trans ((dk_bind (dk_u1 (h 1 _ rfl))).trans rfl))
theorem dk_189 {code : ByteArray} {pc : Nat} (a b : UInt8) (h : DkAt code pc [189, a, b]) : decode code pc = .ok (.anewarray (a.toNat * 256 + b.toNat), 3) := dk_of ((dk_bind (dk_u1 (h 0 _ rfl))).trans ((dk_bind (dk_u2 (h 1 _ rfl) (h 2 _ rfl))).trans rfl))
theorem dk_190 {code : ByteArray} {pc : Nat} (h : DkAt code pc [190]) : decode code pc = .ok (.arraylength, 1) := dk_of ((dk_bind (dk_u1 (h 0 _ rfl))).trans rfl)
theorem dk_191 {code : ByteArray} {pc : Nat} (h : DkAt code pc [191]) : decode code pc = .ok (.athrow, 1) := dk_of ((dk_bind (dk_u1 (h 0 _ rfl))).trans rfl)
theorem dk_192 {code : ByteArray} {pc : Nat} (a b : UInt8) (h : DkAt code pc [192, a, b]) : decode code pc = .ok (.checkcast (a.toNat * 256 + b.toNat), 3) := dk_of ((dk_bind (dk_u1 (h 0 _ rfl))).trans ((dk_bind (dk_u2 (h 1 _ rfl) (h 2 _ rfl))).trans rfl))
theorem dk_198 {code : ByteArray} {pc : Nat} (a b : UInt8) (h : DkAt code pc [198, a, b]) : decode code pc = .ok (.ifnull (Reader.signed 16 (a.toNat * 256 + b.toNat)), 3) := dk_of ((dk_bind (dk_u1 (h 0 _ rfl))).trans ((dk_bind (dk_map (dk_u2 (h 1 _ rfl) (h 2 _ rfl)))).trans rfl))
theorem dk_199 {code : ByteArray} {pc : Nat} (a b : UInt8) (h : DkAt code pc [199, a, b]) : decode code pc = .ok (.ifnonnull (Reader.signed 16 (a.toNat * 256 + b.toNat)), 3) := dk_of ((dk_bind (dk_u1 (h 0 _ rfl))).trans ((dk_bind (dk_map (dk_u2 (h 1 _ rfl) (h 2 _ rfl)))).trans rfl))
/-! TufaSteps -/
set_option maxRecDepth 100000
def RX1 : String := "TufaSteps"
def TX1 : u_T := fun k => match k with
  | 0 => ("TufaSteps", "board", "LTufaSteps$Picture;", false)
  | _ => ("TufaSteps", "stored", "Ljava/util/BitSet;", false)
def tyX1 : Nat → FieldType := fun k => match k with
  | 0 => .object "TufaSteps$Picture"
  | _ => .object "java/util/BitSet"
abbrev wsX10 : List Cond := u_ws RX1 TX1 2
theorem nmX1 : ∀ a, a < 2 → ∀ b, b < 2 → a ≠ b → (TX1 a).2.1 ≠ (TX1 b).2.1 := by decide +kernel
theorem tyX1_ok : ∀ k, k < 2 → parseFieldDescriptor (TX1 k).2.2.1 = some (tyX1 k) := by decide +kernel
abbrev cX1_init : ByteArray := prog_1_method_8_code
def yX1_init : MethodName := ⟨RX1, "<init>", "()V"⟩
def dkwX1_init_1 : List UInt8 := [183, 0, 37, 181, 0, 38, 177]
abbrev dktX1_init_1 : List UInt8 := dkwX1_init_1 ++ []
def dkwX1_init_0 : List UInt8 := [42, 183, 0, 23, 42, 187, 0, 26, 89, 16, 8, 16, 8, 183, 0, 28, 181, 0, 31, 42, 187, 0, 35, 89]
abbrev dktX1_init_0 : List UInt8 := dkwX1_init_0 ++ dktX1_init_1
theorem dksX1_init_0 : cX1_init.data.toList.drop 0 = dktX1_init_0 := by decide +kernel
theorem dksX1_init_1 : cX1_init.data.toList.drop 24 = dktX1_init_1 := dk_seg dksX1_init_0 24 rfl rfl
theorem dX1_init_0 : decode cX1_init 0 = .ok (.aload_n 0, 1) := dk_42 (dk_at dksX1_init_0 0 rfl rfl)
theorem dX1_init_1 : decode cX1_init 1 = .ok (.invokespecial 23, 3) := dk_183 0 23 (dk_at dksX1_init_0 1 rfl rfl)
theorem dX1_init_4 : decode cX1_init 4 = .ok (.aload_n 0, 1) := dk_42 (dk_at dksX1_init_0 4 rfl rfl)
theorem dX1_init_5 : decode cX1_init 5 = .ok (.new 26, 3) := dk_187 0 26 (dk_at dksX1_init_0 5 rfl rfl)
theorem dX1_init_8 : decode cX1_init 8 = .ok (.dup, 1) := dk_89 (dk_at dksX1_init_0 8 rfl rfl)
theorem dX1_init_9 : decode cX1_init 9 = .ok (.bipush 8, 2) := dk_16 8 (dk_at dksX1_init_0 9 rfl rfl)
theorem dX1_init_11 : decode cX1_init 11 = .ok (.bipush 8, 2) := dk_16 8 (dk_at dksX1_init_0 11 rfl rfl)
theorem dX1_init_13 : decode cX1_init 13 = .ok (.invokespecial 28, 3) := dk_183 0 28 (dk_at dksX1_init_0 13 rfl rfl)
theorem dX1_init_16 : decode cX1_init 16 = .ok (.putfield 31, 3) := dk_181 0 31 (dk_at dksX1_init_0 16 rfl rfl)
theorem dX1_init_19 : decode cX1_init 19 = .ok (.aload_n 0, 1) := dk_42 (dk_at dksX1_init_0 19 rfl rfl)
theorem dX1_init_20 : decode cX1_init 20 = .ok (.new 35, 3) := dk_187 0 35 (dk_at dksX1_init_0 20 rfl rfl)
theorem dX1_init_23 : decode cX1_init 23 = .ok (.dup, 1) := dk_89 (dk_at dksX1_init_0 23 rfl rfl)
theorem dX1_init_24 : decode cX1_init 24 = .ok (.invokespecial 37, 3) := dk_183 0 37 (dk_at dksX1_init_1 0 rfl rfl)
theorem dX1_init_27 : decode cX1_init 27 = .ok (.putfield 38, 3) := dk_181 0 38 (dk_at dksX1_init_1 3 rfl rfl)
theorem dX1_init_30 : decode cX1_init 30 = .ok (.return_, 1) := dk_177 (dk_at dksX1_init_1 6 rfl rfl)
abbrev cX1_invert : ByteArray := prog_1_method_16_code
def yX1_invert : MethodName := ⟨RX1, "invert", "()I"⟩
def dkwX1_invert_0 : List UInt8 := [42, 180, 0, 31, 180, 0, 64, 3, 42, 180, 0, 31, 182, 0, 110, 182, 0, 113, 42, 182, 0, 116, 172]
abbrev dktX1_invert_0 : List UInt8 := dkwX1_invert_0 ++ []
theorem dksX1_invert_0 : cX1_invert.data.toList.drop 0 = dktX1_invert_0 := by decide +kernel
theorem dX1_invert_0 : decode cX1_invert 0 = .ok (.aload_n 0, 1) := dk_42 (dk_at dksX1_invert_0 0 rfl rfl)
theorem dX1_invert_1 : decode cX1_invert 1 = .ok (.getfield 31, 3) := dk_180 0 31 (dk_at dksX1_invert_0 1 rfl rfl)
theorem dX1_invert_4 : decode cX1_invert 4 = .ok (.getfield 64, 3) := dk_180 0 64 (dk_at dksX1_invert_0 4 rfl rfl)
theorem dX1_invert_7 : decode cX1_invert 7 = .ok (.iconst 0, 1) := dk_3 (dk_at dksX1_invert_0 7 rfl rfl)
theorem dX1_invert_8 : decode cX1_invert 8 = .ok (.aload_n 0, 1) := dk_42 (dk_at dksX1_invert_0 8 rfl rfl)
theorem dX1_invert_9 : decode cX1_invert 9 = .ok (.getfield 31, 3) := dk_180 0 31 (dk_at dksX1_invert_0 9 rfl rfl)
theorem dX1_invert_12 : decode cX1_invert 12 = .ok (.invokevirtual 110, 3) := dk_182 0 110 (dk_at dksX1_invert_0 12 rfl rfl)
theorem dX1_invert_15 : decode cX1_invert 15 = .ok (.invokevirtual 113, 3) := dk_182 0 113 (dk_at dksX1_invert_0 15 rfl rfl)
theorem dX1_invert_18 : decode cX1_invert 18 = .ok (.aload_n 0, 1) := dk_42 (dk_at dksX1_invert_0 18 rfl rfl)
theorem dX1_invert_19 : decode cX1_invert 19 = .ok (.invokevirtual 116, 3) := dk_182 0 116 (dk_at dksX1_invert_0 19 rfl rfl)
theorem dX1_invert_22 : decode cX1_invert 22 = .ok (.ireturn, 1) := dk_172 (dk_at dksX1_invert_0 22 rfl rfl)
abbrev cX1_ink : ByteArray := prog_1_method_23_code
def yX1_ink : MethodName := ⟨RX1, "ink", "()I"⟩
def dkwX1_ink_0 : List UInt8 := [42, 180, 0, 31, 180, 0, 64, 182, 0, 107, 172]
abbrev dktX1_ink_0 : List UInt8 := dkwX1_ink_0 ++ []
theorem dksX1_ink_0 : cX1_ink.data.toList.drop 0 = dktX1_ink_0 := by decide +kernel
theorem dX1_ink_0 : decode cX1_ink 0 = .ok (.aload_n 0, 1) := dk_42 (dk_at dksX1_ink_0 0 rfl rfl)
theorem dX1_ink_1 : decode cX1_ink 1 = .ok (.getfield 31, 3) := dk_180 0 31 (dk_at dksX1_ink_0 1 rfl rfl)
theorem dX1_ink_4 : decode cX1_ink 4 = .ok (.getfield 64, 3) := dk_180 0 64 (dk_at dksX1_ink_0 4 rfl rfl)
theorem dX1_ink_7 : decode cX1_ink 7 = .ok (.invokevirtual 107, 3) := dk_182 0 107 (dk_at dksX1_ink_0 7 rfl rfl)
theorem dX1_ink_10 : decode cX1_ink 10 = .ok (.ireturn, 1) := dk_172 (dk_at dksX1_ink_0 10 rfl rfl)
abbrev cX1_store : ByteArray := prog_1_method_17_code
def yX1_store : MethodName := ⟨RX1, "store", "()I"⟩
def dkwX1_store_1 : List UInt8 := [181, 0, 38, 27, 172]
abbrev dktX1_store_1 : List UInt8 := dkwX1_store_1 ++ []
def dkwX1_store_0 : List UInt8 := [42, 180, 0, 31, 42, 180, 0, 38, 182, 0, 91, 60, 42, 42, 180, 0, 31, 182, 0, 79, 180, 0, 64]
abbrev dktX1_store_0 : List UInt8 := dkwX1_store_0 ++ dktX1_store_1
theorem dksX1_store_0 : cX1_store.data.toList.drop 0 = dktX1_store_0 := by decide +kernel
theorem dksX1_store_1 : cX1_store.data.toList.drop 23 = dktX1_store_1 := dk_seg dksX1_store_0 23 rfl rfl
theorem dX1_store_0 : decode cX1_store 0 = .ok (.aload_n 0, 1) := dk_42 (dk_at dksX1_store_0 0 rfl rfl)
theorem dX1_store_1 : decode cX1_store 1 = .ok (.getfield 31, 3) := dk_180 0 31 (dk_at dksX1_store_0 1 rfl rfl)
theorem dX1_store_4 : decode cX1_store 4 = .ok (.aload_n 0, 1) := dk_42 (dk_at dksX1_store_0 4 rfl rfl)
theorem dX1_store_5 : decode cX1_store 5 = .ok (.getfield 38, 3) := dk_180 0 38 (dk_at dksX1_store_0 5 rfl rfl)
theorem dX1_store_8 : decode cX1_store 8 = .ok (.invokevirtual 91, 3) := dk_182 0 91 (dk_at dksX1_store_0 8 rfl rfl)
theorem dX1_store_11 : decode cX1_store 11 = .ok (.istore_n 1, 1) := dk_60 (dk_at dksX1_store_0 11 rfl rfl)
theorem dX1_store_12 : decode cX1_store 12 = .ok (.aload_n 0, 1) := dk_42 (dk_at dksX1_store_0 12 rfl rfl)
theorem dX1_store_13 : decode cX1_store 13 = .ok (.aload_n 0, 1) := dk_42 (dk_at dksX1_store_0 13 rfl rfl)
theorem dX1_store_14 : decode cX1_store 14 = .ok (.getfield 31, 3) := dk_180 0 31 (dk_at dksX1_store_0 14 rfl rfl)
theorem dX1_store_17 : decode cX1_store 17 = .ok (.invokevirtual 79, 3) := dk_182 0 79 (dk_at dksX1_store_0 17 rfl rfl)
theorem dX1_store_20 : decode cX1_store 20 = .ok (.getfield 64, 3) := dk_180 0 64 (dk_at dksX1_store_0 20 rfl rfl)
theorem dX1_store_23 : decode cX1_store 23 = .ok (.putfield 38, 3) := dk_181 0 38 (dk_at dksX1_store_1 0 rfl rfl)
theorem dX1_store_26 : decode cX1_store 26 = .ok (.iload_n 1, 1) := dk_27 (dk_at dksX1_store_1 3 rfl rfl)
theorem dX1_store_27 : decode cX1_store 27 = .ok (.ireturn, 1) := dk_172 (dk_at dksX1_store_1 4 rfl rfl)
abbrev cX1_thin : ByteArray := prog_1_method_19_code
def yX1_thin : MethodName := ⟨RX1, "thin", "()I"⟩
def dkwX1_thin_0 : List UInt8 := [42, 180, 0, 31, 182, 0, 128, 172]
abbrev dktX1_thin_0 : List UInt8 := dkwX1_thin_0 ++ []
theorem dksX1_thin_0 : cX1_thin.data.toList.drop 0 = dktX1_thin_0 := by decide +kernel
theorem dX1_thin_0 : decode cX1_thin 0 = .ok (.aload_n 0, 1) := dk_42 (dk_at dksX1_thin_0 0 rfl rfl)
theorem dX1_thin_1 : decode cX1_thin 1 = .ok (.getfield 31, 3) := dk_180 0 31 (dk_at dksX1_thin_0 1 rfl rfl)
theorem dX1_thin_4 : decode cX1_thin 4 = .ok (.invokevirtual 128, 3) := dk_182 0 128 (dk_at dksX1_thin_0 4 rfl rfl)
theorem dX1_thin_7 : decode cX1_thin 7 = .ok (.ireturn, 1) := dk_172 (dk_at dksX1_thin_0 7 rfl rfl)
abbrev cX1_right : ByteArray := prog_1_method_6_code
def yX1_right : MethodName := ⟨RX1, "right", "(I)I"⟩
def dkwX1_right_0 : List UInt8 := [26, 7, 112, 154, 0, 7, 3, 167, 0, 13, 26, 7, 162, 0, 7, 4, 167, 0, 4, 2, 172]
abbrev dktX1_right_0 : List UInt8 := dkwX1_right_0 ++ []
theorem dksX1_right_0 : cX1_right.data.toList.drop 0 = dktX1_right_0 := by decide +kernel
theorem dX1_right_0 : decode cX1_right 0 = .ok (.iload_n 0, 1) := dk_26 (dk_at dksX1_right_0 0 rfl rfl)
theorem dX1_right_1 : decode cX1_right 1 = .ok (.iconst 4, 1) := dk_7 (dk_at dksX1_right_0 1 rfl rfl)
theorem dX1_right_2 : decode cX1_right 2 = .ok (.irem, 1) := dk_112 (dk_at dksX1_right_0 2 rfl rfl)
theorem dX1_right_3 : decode cX1_right 3 = .ok (.ifCond .ne 7, 3) := dk_154 0 7 (dk_at dksX1_right_0 3 rfl rfl)
theorem dX1_right_6 : decode cX1_right 6 = .ok (.iconst 0, 1) := dk_3 (dk_at dksX1_right_0 6 rfl rfl)
theorem dX1_right_7 : decode cX1_right 7 = .ok (.goto 13, 3) := dk_167 0 13 (dk_at dksX1_right_0 7 rfl rfl)
theorem dX1_right_10 : decode cX1_right 10 = .ok (.iload_n 0, 1) := dk_26 (dk_at dksX1_right_0 10 rfl rfl)
theorem dX1_right_11 : decode cX1_right 11 = .ok (.iconst 4, 1) := dk_7 (dk_at dksX1_right_0 11 rfl rfl)
theorem dX1_right_12 : decode cX1_right 12 = .ok (.if_icmp .ge 7, 3) := dk_162 0 7 (dk_at dksX1_right_0 12 rfl rfl)
theorem dX1_right_15 : decode cX1_right 15 = .ok (.iconst 1, 1) := dk_4 (dk_at dksX1_right_0 15 rfl rfl)
theorem dX1_right_16 : decode cX1_right 16 = .ok (.goto 4, 3) := dk_167 0 4 (dk_at dksX1_right_0 16 rfl rfl)
theorem dX1_right_19 : decode cX1_right 19 = .ok (.iconst (-1), 1) := dk_2 (dk_at dksX1_right_0 19 rfl rfl)
theorem dX1_right_20 : decode cX1_right 20 = .ok (.ireturn, 1) := dk_172 (dk_at dksX1_right_0 20 rfl rfl)
abbrev cX1_down : ByteArray := prog_1_method_7_code
def yX1_down : MethodName := ⟨RX1, "down", "(I)I"⟩
def dkwX1_down_0 : List UInt8 := [26, 16, 6, 96, 16, 8, 112, 184, 0, 19, 172]
abbrev dktX1_down_0 : List UInt8 := dkwX1_down_0 ++ []
theorem dksX1_down_0 : cX1_down.data.toList.drop 0 = dktX1_down_0 := by decide +kernel
theorem dX1_down_0 : decode cX1_down 0 = .ok (.iload_n 0, 1) := dk_26 (dk_at dksX1_down_0 0 rfl rfl)
theorem dX1_down_1 : decode cX1_down 1 = .ok (.bipush 6, 2) := dk_16 6 (dk_at dksX1_down_0 1 rfl rfl)
theorem dX1_down_3 : decode cX1_down 3 = .ok (.iadd, 1) := dk_96 (dk_at dksX1_down_0 3 rfl rfl)
theorem dX1_down_4 : decode cX1_down 4 = .ok (.bipush 8, 2) := dk_16 8 (dk_at dksX1_down_0 4 rfl rfl)
theorem dX1_down_6 : decode cX1_down 6 = .ok (.irem, 1) := dk_112 (dk_at dksX1_down_0 6 rfl rfl)
theorem dX1_down_7 : decode cX1_down 7 = .ok (.invokestatic 19, 3) := dk_184 0 19 (dk_at dksX1_down_0 7 rfl rfl)
theorem dX1_down_10 : decode cX1_down 10 = .ok (.ireturn, 1) := dk_172 (dk_at dksX1_down_0 10 rfl rfl)
abbrev cX1_isIn : ByteArray := prog_1_method_1_code
def yX1_isIn : MethodName := ⟨RX1, "isIn", "(III)Z"⟩
def dkwX1_isIn_0 : List UInt8 := [26, 28, 163, 0, 12, 28, 27, 163, 0, 7, 4, 167, 0, 4, 3, 172]
abbrev dktX1_isIn_0 : List UInt8 := dkwX1_isIn_0 ++ []
theorem dksX1_isIn_0 : cX1_isIn.data.toList.drop 0 = dktX1_isIn_0 := by decide +kernel
theorem dX1_isIn_0 : decode cX1_isIn 0 = .ok (.iload_n 0, 1) := dk_26 (dk_at dksX1_isIn_0 0 rfl rfl)
theorem dX1_isIn_1 : decode cX1_isIn 1 = .ok (.iload_n 2, 1) := dk_28 (dk_at dksX1_isIn_0 1 rfl rfl)
theorem dX1_isIn_2 : decode cX1_isIn 2 = .ok (.if_icmp .gt 12, 3) := dk_163 0 12 (dk_at dksX1_isIn_0 2 rfl rfl)
theorem dX1_isIn_5 : decode cX1_isIn 5 = .ok (.iload_n 2, 1) := dk_28 (dk_at dksX1_isIn_0 5 rfl rfl)
theorem dX1_isIn_6 : decode cX1_isIn 6 = .ok (.iload_n 1, 1) := dk_27 (dk_at dksX1_isIn_0 6 rfl rfl)
theorem dX1_isIn_7 : decode cX1_isIn 7 = .ok (.if_icmp .gt 7, 3) := dk_163 0 7 (dk_at dksX1_isIn_0 7 rfl rfl)
theorem dX1_isIn_10 : decode cX1_isIn 10 = .ok (.iconst 1, 1) := dk_4 (dk_at dksX1_isIn_0 10 rfl rfl)
theorem dX1_isIn_11 : decode cX1_isIn 11 = .ok (.goto 4, 3) := dk_167 0 4 (dk_at dksX1_isIn_0 11 rfl rfl)
theorem dX1_isIn_14 : decode cX1_isIn 14 = .ok (.iconst 0, 1) := dk_3 (dk_at dksX1_isIn_0 14 rfl rfl)
theorem dX1_isIn_15 : decode cX1_isIn 15 = .ok (.ireturn, 1) := dk_172 (dk_at dksX1_isIn_0 15 rfl rfl)
abbrev cX1_width : ByteArray := prog_1_method_20_code
def yX1_width : MethodName := ⟨RX1, "width", "()I"⟩
def dkwX1_width_0 : List UInt8 := [42, 180, 0, 31, 180, 0, 131, 172]
abbrev dktX1_width_0 : List UInt8 := dkwX1_width_0 ++ []
theorem dksX1_width_0 : cX1_width.data.toList.drop 0 = dktX1_width_0 := by decide +kernel
theorem dX1_width_0 : decode cX1_width 0 = .ok (.aload_n 0, 1) := dk_42 (dk_at dksX1_width_0 0 rfl rfl)
theorem dX1_width_1 : decode cX1_width 1 = .ok (.getfield 31, 3) := dk_180 0 31 (dk_at dksX1_width_0 1 rfl rfl)
theorem dX1_width_4 : decode cX1_width 4 = .ok (.getfield 131, 3) := dk_180 0 131 (dk_at dksX1_width_0 4 rfl rfl)
theorem dX1_width_7 : decode cX1_width 7 = .ok (.ireturn, 1) := dk_172 (dk_at dksX1_width_0 7 rfl rfl)
abbrev cX1_height : ByteArray := prog_1_method_21_code
def yX1_height : MethodName := ⟨RX1, "height", "()I"⟩
def dkwX1_height_0 : List UInt8 := [42, 180, 0, 31, 180, 0, 134, 172]
abbrev dktX1_height_0 : List UInt8 := dkwX1_height_0 ++ []
theorem dksX1_height_0 : cX1_height.data.toList.drop 0 = dktX1_height_0 := by decide +kernel
theorem dX1_height_0 : decode cX1_height 0 = .ok (.aload_n 0, 1) := dk_42 (dk_at dksX1_height_0 0 rfl rfl)
theorem dX1_height_1 : decode cX1_height 1 = .ok (.getfield 31, 3) := dk_180 0 31 (dk_at dksX1_height_0 1 rfl rfl)
theorem dX1_height_4 : decode cX1_height 4 = .ok (.getfield 134, 3) := dk_180 0 134 (dk_at dksX1_height_0 4 rfl rfl)
theorem dX1_height_7 : decode cX1_height 7 = .ok (.ireturn, 1) := dk_172 (dk_at dksX1_height_0 7 rfl rfl)
abbrev cX1_greatestDepth : ByteArray := prog_1_method_25_code
def yX1_greatestDepth : MethodName := ⟨RX1, "greatestDepth", "(Z)I"⟩
def dkwX1_greatestDepth_3 : List UInt8 := [167, 255, 232, 132, 5, 1, 167, 255, 201, 28, 172]
abbrev dktX1_greatestDepth_3 : List UInt8 := dkwX1_greatestDepth_3 ++ []
def dkwX1_greatestDepth_2 : List UInt8 := [21, 8, 162, 0, 23, 25, 7, 21, 9, 53, 54, 10, 28, 21, 10, 184, 0, 140, 61, 132, 9, 1]
abbrev dktX1_greatestDepth_2 : List UInt8 := dkwX1_greatestDepth_2 ++ dktX1_greatestDepth_3
def dkwX1_greatestDepth_1 : List UInt8 := [162, 0, 54, 45, 21, 5, 50, 58, 6, 25, 6, 58, 7, 25, 7, 190, 54, 8, 3, 54, 9, 21, 9]
abbrev dktX1_greatestDepth_1 : List UInt8 := dkwX1_greatestDepth_1 ++ dktX1_greatestDepth_2
def dkwX1_greatestDepth_0 : List UInt8 := [3, 61, 42, 180, 0, 31, 27, 182, 0, 136, 78, 45, 190, 54, 4, 3, 54, 5, 21, 5, 21, 4]
abbrev dktX1_greatestDepth_0 : List UInt8 := dkwX1_greatestDepth_0 ++ dktX1_greatestDepth_1
theorem dksX1_greatestDepth_0 : cX1_greatestDepth.data.toList.drop 0 = dktX1_greatestDepth_0 := by decide +kernel
theorem dksX1_greatestDepth_1 : cX1_greatestDepth.data.toList.drop 22 = dktX1_greatestDepth_1 := dk_seg dksX1_greatestDepth_0 22 rfl rfl
theorem dksX1_greatestDepth_2 : cX1_greatestDepth.data.toList.drop 45 = dktX1_greatestDepth_2 := dk_seg dksX1_greatestDepth_1 23 rfl rfl
theorem dksX1_greatestDepth_3 : cX1_greatestDepth.data.toList.drop 67 = dktX1_greatestDepth_3 := dk_seg dksX1_greatestDepth_2 22 rfl rfl
theorem dX1_greatestDepth_0 : decode cX1_greatestDepth 0 = .ok (.iconst 0, 1) := dk_3 (dk_at dksX1_greatestDepth_0 0 rfl rfl)
theorem dX1_greatestDepth_1 : decode cX1_greatestDepth 1 = .ok (.istore_n 2, 1) := dk_61 (dk_at dksX1_greatestDepth_0 1 rfl rfl)
theorem dX1_greatestDepth_2 : decode cX1_greatestDepth 2 = .ok (.aload_n 0, 1) := dk_42 (dk_at dksX1_greatestDepth_0 2 rfl rfl)
theorem dX1_greatestDepth_3 : decode cX1_greatestDepth 3 = .ok (.getfield 31, 3) := dk_180 0 31 (dk_at dksX1_greatestDepth_0 3 rfl rfl)
theorem dX1_greatestDepth_6 : decode cX1_greatestDepth 6 = .ok (.iload_n 1, 1) := dk_27 (dk_at dksX1_greatestDepth_0 6 rfl rfl)
theorem dX1_greatestDepth_7 : decode cX1_greatestDepth 7 = .ok (.invokevirtual 136, 3) := dk_182 0 136 (dk_at dksX1_greatestDepth_0 7 rfl rfl)
theorem dX1_greatestDepth_10 : decode cX1_greatestDepth 10 = .ok (.astore_n 3, 1) := dk_78 (dk_at dksX1_greatestDepth_0 10 rfl rfl)
theorem dX1_greatestDepth_11 : decode cX1_greatestDepth 11 = .ok (.aload_n 3, 1) := dk_45 (dk_at dksX1_greatestDepth_0 11 rfl rfl)
theorem dX1_greatestDepth_12 : decode cX1_greatestDepth 12 = .ok (.arraylength, 1) := dk_190 (dk_at dksX1_greatestDepth_0 12 rfl rfl)
theorem dX1_greatestDepth_13 : decode cX1_greatestDepth 13 = .ok (.istore 4, 2) := dk_54 4 (dk_at dksX1_greatestDepth_0 13 rfl rfl)
theorem dX1_greatestDepth_15 : decode cX1_greatestDepth 15 = .ok (.iconst 0, 1) := dk_3 (dk_at dksX1_greatestDepth_0 15 rfl rfl)
theorem dX1_greatestDepth_16 : decode cX1_greatestDepth 16 = .ok (.istore 5, 2) := dk_54 5 (dk_at dksX1_greatestDepth_0 16 rfl rfl)
theorem dX1_greatestDepth_18 : decode cX1_greatestDepth 18 = .ok (.iload 5, 2) := dk_21 5 (dk_at dksX1_greatestDepth_0 18 rfl rfl)
theorem dX1_greatestDepth_20 : decode cX1_greatestDepth 20 = .ok (.iload 4, 2) := dk_21 4 (dk_at dksX1_greatestDepth_0 20 rfl rfl)
theorem dX1_greatestDepth_22 : decode cX1_greatestDepth 22 = .ok (.if_icmp .ge 54, 3) := dk_162 0 54 (dk_at dksX1_greatestDepth_1 0 rfl rfl)
theorem dX1_greatestDepth_25 : decode cX1_greatestDepth 25 = .ok (.aload_n 3, 1) := dk_45 (dk_at dksX1_greatestDepth_1 3 rfl rfl)
theorem dX1_greatestDepth_26 : decode cX1_greatestDepth 26 = .ok (.iload 5, 2) := dk_21 5 (dk_at dksX1_greatestDepth_1 4 rfl rfl)
theorem dX1_greatestDepth_28 : decode cX1_greatestDepth 28 = .ok (.aaload, 1) := dk_50 (dk_at dksX1_greatestDepth_1 6 rfl rfl)
theorem dX1_greatestDepth_29 : decode cX1_greatestDepth 29 = .ok (.astore 6, 2) := dk_58 6 (dk_at dksX1_greatestDepth_1 7 rfl rfl)
theorem dX1_greatestDepth_31 : decode cX1_greatestDepth 31 = .ok (.aload 6, 2) := dk_25 6 (dk_at dksX1_greatestDepth_1 9 rfl rfl)
theorem dX1_greatestDepth_33 : decode cX1_greatestDepth 33 = .ok (.astore 7, 2) := dk_58 7 (dk_at dksX1_greatestDepth_1 11 rfl rfl)
theorem dX1_greatestDepth_35 : decode cX1_greatestDepth 35 = .ok (.aload 7, 2) := dk_25 7 (dk_at dksX1_greatestDepth_1 13 rfl rfl)
theorem dX1_greatestDepth_37 : decode cX1_greatestDepth 37 = .ok (.arraylength, 1) := dk_190 (dk_at dksX1_greatestDepth_1 15 rfl rfl)
theorem dX1_greatestDepth_38 : decode cX1_greatestDepth 38 = .ok (.istore 8, 2) := dk_54 8 (dk_at dksX1_greatestDepth_1 16 rfl rfl)
theorem dX1_greatestDepth_40 : decode cX1_greatestDepth 40 = .ok (.iconst 0, 1) := dk_3 (dk_at dksX1_greatestDepth_1 18 rfl rfl)
theorem dX1_greatestDepth_41 : decode cX1_greatestDepth 41 = .ok (.istore 9, 2) := dk_54 9 (dk_at dksX1_greatestDepth_1 19 rfl rfl)
theorem dX1_greatestDepth_43 : decode cX1_greatestDepth 43 = .ok (.iload 9, 2) := dk_21 9 (dk_at dksX1_greatestDepth_1 21 rfl rfl)
theorem dX1_greatestDepth_45 : decode cX1_greatestDepth 45 = .ok (.iload 8, 2) := dk_21 8 (dk_at dksX1_greatestDepth_2 0 rfl rfl)
theorem dX1_greatestDepth_47 : decode cX1_greatestDepth 47 = .ok (.if_icmp .ge 23, 3) := dk_162 0 23 (dk_at dksX1_greatestDepth_2 2 rfl rfl)
theorem dX1_greatestDepth_50 : decode cX1_greatestDepth 50 = .ok (.aload 7, 2) := dk_25 7 (dk_at dksX1_greatestDepth_2 5 rfl rfl)
theorem dX1_greatestDepth_52 : decode cX1_greatestDepth 52 = .ok (.iload 9, 2) := dk_21 9 (dk_at dksX1_greatestDepth_2 7 rfl rfl)
theorem dX1_greatestDepth_54 : decode cX1_greatestDepth 54 = .ok (.saload, 1) := dk_53 (dk_at dksX1_greatestDepth_2 9 rfl rfl)
theorem dX1_greatestDepth_55 : decode cX1_greatestDepth 55 = .ok (.istore 10, 2) := dk_54 10 (dk_at dksX1_greatestDepth_2 10 rfl rfl)
theorem dX1_greatestDepth_57 : decode cX1_greatestDepth 57 = .ok (.iload_n 2, 1) := dk_28 (dk_at dksX1_greatestDepth_2 12 rfl rfl)
theorem dX1_greatestDepth_58 : decode cX1_greatestDepth 58 = .ok (.iload 10, 2) := dk_21 10 (dk_at dksX1_greatestDepth_2 13 rfl rfl)
theorem dX1_greatestDepth_60 : decode cX1_greatestDepth 60 = .ok (.invokestatic 140, 3) := dk_184 0 140 (dk_at dksX1_greatestDepth_2 15 rfl rfl)
theorem dX1_greatestDepth_63 : decode cX1_greatestDepth 63 = .ok (.istore_n 2, 1) := dk_61 (dk_at dksX1_greatestDepth_2 18 rfl rfl)
theorem dX1_greatestDepth_64 : decode cX1_greatestDepth 64 = .ok (.iinc 9 1, 3) := dk_132 9 1 (dk_at dksX1_greatestDepth_2 19 rfl rfl)
theorem dX1_greatestDepth_67 : decode cX1_greatestDepth 67 = .ok (.goto (-24), 3) := dk_167 255 232 (dk_at dksX1_greatestDepth_3 0 rfl rfl)
theorem dX1_greatestDepth_70 : decode cX1_greatestDepth 70 = .ok (.iinc 5 1, 3) := dk_132 5 1 (dk_at dksX1_greatestDepth_3 3 rfl rfl)
theorem dX1_greatestDepth_73 : decode cX1_greatestDepth 73 = .ok (.goto (-55), 3) := dk_167 255 201 (dk_at dksX1_greatestDepth_3 6 rfl rfl)
theorem dX1_greatestDepth_76 : decode cX1_greatestDepth 76 = .ok (.iload_n 2, 1) := dk_28 (dk_at dksX1_greatestDepth_3 9 rfl rfl)
theorem dX1_greatestDepth_77 : decode cX1_greatestDepth 77 = .ok (.ireturn, 1) := dk_172 (dk_at dksX1_greatestDepth_3 10 rfl rfl)
abbrev cX1_depthSum : ByteArray := prog_1_method_26_code
def yX1_depthSum : MethodName := ⟨RX1, "depthSum", "(Z)I"⟩
def dkwX1_depthSum_3 : List UInt8 := [132, 5, 1, 167, 255, 203, 28, 172]
abbrev dktX1_depthSum_3 : List UInt8 := dkwX1_depthSum_3 ++ []
def dkwX1_depthSum_2 : List UInt8 := [21, 8, 162, 0, 21, 25, 7, 21, 9, 53, 54, 10, 28, 21, 10, 96, 61, 132, 9, 1, 167, 255, 234]
abbrev dktX1_depthSum_2 : List UInt8 := dkwX1_depthSum_2 ++ dktX1_depthSum_3
def dkwX1_depthSum_1 : List UInt8 := [162, 0, 52, 45, 21, 5, 50, 58, 6, 25, 6, 58, 7, 25, 7, 190, 54, 8, 3, 54, 9, 21, 9]
abbrev dktX1_depthSum_1 : List UInt8 := dkwX1_depthSum_1 ++ dktX1_depthSum_2
def dkwX1_depthSum_0 : List UInt8 := [3, 61, 42, 180, 0, 31, 27, 182, 0, 136, 78, 45, 190, 54, 4, 3, 54, 5, 21, 5, 21, 4]
abbrev dktX1_depthSum_0 : List UInt8 := dkwX1_depthSum_0 ++ dktX1_depthSum_1
theorem dksX1_depthSum_0 : cX1_depthSum.data.toList.drop 0 = dktX1_depthSum_0 := by decide +kernel
theorem dksX1_depthSum_1 : cX1_depthSum.data.toList.drop 22 = dktX1_depthSum_1 := dk_seg dksX1_depthSum_0 22 rfl rfl
theorem dksX1_depthSum_2 : cX1_depthSum.data.toList.drop 45 = dktX1_depthSum_2 := dk_seg dksX1_depthSum_1 23 rfl rfl
theorem dksX1_depthSum_3 : cX1_depthSum.data.toList.drop 68 = dktX1_depthSum_3 := dk_seg dksX1_depthSum_2 23 rfl rfl
theorem dX1_depthSum_0 : decode cX1_depthSum 0 = .ok (.iconst 0, 1) := dk_3 (dk_at dksX1_depthSum_0 0 rfl rfl)
theorem dX1_depthSum_1 : decode cX1_depthSum 1 = .ok (.istore_n 2, 1) := dk_61 (dk_at dksX1_depthSum_0 1 rfl rfl)
theorem dX1_depthSum_2 : decode cX1_depthSum 2 = .ok (.aload_n 0, 1) := dk_42 (dk_at dksX1_depthSum_0 2 rfl rfl)
theorem dX1_depthSum_3 : decode cX1_depthSum 3 = .ok (.getfield 31, 3) := dk_180 0 31 (dk_at dksX1_depthSum_0 3 rfl rfl)
theorem dX1_depthSum_6 : decode cX1_depthSum 6 = .ok (.iload_n 1, 1) := dk_27 (dk_at dksX1_depthSum_0 6 rfl rfl)
theorem dX1_depthSum_7 : decode cX1_depthSum 7 = .ok (.invokevirtual 136, 3) := dk_182 0 136 (dk_at dksX1_depthSum_0 7 rfl rfl)
theorem dX1_depthSum_10 : decode cX1_depthSum 10 = .ok (.astore_n 3, 1) := dk_78 (dk_at dksX1_depthSum_0 10 rfl rfl)
theorem dX1_depthSum_11 : decode cX1_depthSum 11 = .ok (.aload_n 3, 1) := dk_45 (dk_at dksX1_depthSum_0 11 rfl rfl)
theorem dX1_depthSum_12 : decode cX1_depthSum 12 = .ok (.arraylength, 1) := dk_190 (dk_at dksX1_depthSum_0 12 rfl rfl)
theorem dX1_depthSum_13 : decode cX1_depthSum 13 = .ok (.istore 4, 2) := dk_54 4 (dk_at dksX1_depthSum_0 13 rfl rfl)
theorem dX1_depthSum_15 : decode cX1_depthSum 15 = .ok (.iconst 0, 1) := dk_3 (dk_at dksX1_depthSum_0 15 rfl rfl)
theorem dX1_depthSum_16 : decode cX1_depthSum 16 = .ok (.istore 5, 2) := dk_54 5 (dk_at dksX1_depthSum_0 16 rfl rfl)
theorem dX1_depthSum_18 : decode cX1_depthSum 18 = .ok (.iload 5, 2) := dk_21 5 (dk_at dksX1_depthSum_0 18 rfl rfl)
theorem dX1_depthSum_20 : decode cX1_depthSum 20 = .ok (.iload 4, 2) := dk_21 4 (dk_at dksX1_depthSum_0 20 rfl rfl)
theorem dX1_depthSum_22 : decode cX1_depthSum 22 = .ok (.if_icmp .ge 52, 3) := dk_162 0 52 (dk_at dksX1_depthSum_1 0 rfl rfl)
theorem dX1_depthSum_25 : decode cX1_depthSum 25 = .ok (.aload_n 3, 1) := dk_45 (dk_at dksX1_depthSum_1 3 rfl rfl)
theorem dX1_depthSum_26 : decode cX1_depthSum 26 = .ok (.iload 5, 2) := dk_21 5 (dk_at dksX1_depthSum_1 4 rfl rfl)
theorem dX1_depthSum_28 : decode cX1_depthSum 28 = .ok (.aaload, 1) := dk_50 (dk_at dksX1_depthSum_1 6 rfl rfl)
theorem dX1_depthSum_29 : decode cX1_depthSum 29 = .ok (.astore 6, 2) := dk_58 6 (dk_at dksX1_depthSum_1 7 rfl rfl)
theorem dX1_depthSum_31 : decode cX1_depthSum 31 = .ok (.aload 6, 2) := dk_25 6 (dk_at dksX1_depthSum_1 9 rfl rfl)
theorem dX1_depthSum_33 : decode cX1_depthSum 33 = .ok (.astore 7, 2) := dk_58 7 (dk_at dksX1_depthSum_1 11 rfl rfl)
theorem dX1_depthSum_35 : decode cX1_depthSum 35 = .ok (.aload 7, 2) := dk_25 7 (dk_at dksX1_depthSum_1 13 rfl rfl)
theorem dX1_depthSum_37 : decode cX1_depthSum 37 = .ok (.arraylength, 1) := dk_190 (dk_at dksX1_depthSum_1 15 rfl rfl)
theorem dX1_depthSum_38 : decode cX1_depthSum 38 = .ok (.istore 8, 2) := dk_54 8 (dk_at dksX1_depthSum_1 16 rfl rfl)
theorem dX1_depthSum_40 : decode cX1_depthSum 40 = .ok (.iconst 0, 1) := dk_3 (dk_at dksX1_depthSum_1 18 rfl rfl)
theorem dX1_depthSum_41 : decode cX1_depthSum 41 = .ok (.istore 9, 2) := dk_54 9 (dk_at dksX1_depthSum_1 19 rfl rfl)
theorem dX1_depthSum_43 : decode cX1_depthSum 43 = .ok (.iload 9, 2) := dk_21 9 (dk_at dksX1_depthSum_1 21 rfl rfl)
theorem dX1_depthSum_45 : decode cX1_depthSum 45 = .ok (.iload 8, 2) := dk_21 8 (dk_at dksX1_depthSum_2 0 rfl rfl)
theorem dX1_depthSum_47 : decode cX1_depthSum 47 = .ok (.if_icmp .ge 21, 3) := dk_162 0 21 (dk_at dksX1_depthSum_2 2 rfl rfl)
theorem dX1_depthSum_50 : decode cX1_depthSum 50 = .ok (.aload 7, 2) := dk_25 7 (dk_at dksX1_depthSum_2 5 rfl rfl)
theorem dX1_depthSum_52 : decode cX1_depthSum 52 = .ok (.iload 9, 2) := dk_21 9 (dk_at dksX1_depthSum_2 7 rfl rfl)
theorem dX1_depthSum_54 : decode cX1_depthSum 54 = .ok (.saload, 1) := dk_53 (dk_at dksX1_depthSum_2 9 rfl rfl)
theorem dX1_depthSum_55 : decode cX1_depthSum 55 = .ok (.istore 10, 2) := dk_54 10 (dk_at dksX1_depthSum_2 10 rfl rfl)
theorem dX1_depthSum_57 : decode cX1_depthSum 57 = .ok (.iload_n 2, 1) := dk_28 (dk_at dksX1_depthSum_2 12 rfl rfl)
theorem dX1_depthSum_58 : decode cX1_depthSum 58 = .ok (.iload 10, 2) := dk_21 10 (dk_at dksX1_depthSum_2 13 rfl rfl)
theorem dX1_depthSum_60 : decode cX1_depthSum 60 = .ok (.iadd, 1) := dk_96 (dk_at dksX1_depthSum_2 15 rfl rfl)
theorem dX1_depthSum_61 : decode cX1_depthSum 61 = .ok (.istore_n 2, 1) := dk_61 (dk_at dksX1_depthSum_2 16 rfl rfl)
theorem dX1_depthSum_62 : decode cX1_depthSum 62 = .ok (.iinc 9 1, 3) := dk_132 9 1 (dk_at dksX1_depthSum_2 17 rfl rfl)
theorem dX1_depthSum_65 : decode cX1_depthSum 65 = .ok (.goto (-22), 3) := dk_167 255 234 (dk_at dksX1_depthSum_2 20 rfl rfl)
theorem dX1_depthSum_68 : decode cX1_depthSum 68 = .ok (.iinc 5 1, 3) := dk_132 5 1 (dk_at dksX1_depthSum_3 0 rfl rfl)
theorem dX1_depthSum_71 : decode cX1_depthSum 71 = .ok (.goto (-53), 3) := dk_167 255 203 (dk_at dksX1_depthSum_3 3 rfl rfl)
theorem dX1_depthSum_74 : decode cX1_depthSum 74 = .ok (.iload_n 2, 1) := dk_28 (dk_at dksX1_depthSum_3 6 rfl rfl)
theorem dX1_depthSum_75 : decode cX1_depthSum 75 = .ok (.ireturn, 1) := dk_172 (dk_at dksX1_depthSum_3 7 rfl rfl)
abbrev cX1_allRuns : ByteArray := prog_1_method_29_code
def yX1_allRuns : MethodName := ⟨RX1, "allRuns", "()I"⟩
def dkwX1_allRuns_1 : List UInt8 := [167, 255, 237, 27, 172]
abbrev dktX1_allRuns_1 : List UInt8 := dkwX1_allRuns_1 ++ []
def dkwX1_allRuns_0 : List UInt8 := [3, 60, 3, 61, 28, 42, 182, 0, 50, 162, 0, 17, 27, 42, 28, 182, 0, 171, 96, 60, 132, 2, 1]
abbrev dktX1_allRuns_0 : List UInt8 := dkwX1_allRuns_0 ++ dktX1_allRuns_1
theorem dksX1_allRuns_0 : cX1_allRuns.data.toList.drop 0 = dktX1_allRuns_0 := by decide +kernel
theorem dksX1_allRuns_1 : cX1_allRuns.data.toList.drop 23 = dktX1_allRuns_1 := dk_seg dksX1_allRuns_0 23 rfl rfl
theorem dX1_allRuns_0 : decode cX1_allRuns 0 = .ok (.iconst 0, 1) := dk_3 (dk_at dksX1_allRuns_0 0 rfl rfl)
theorem dX1_allRuns_1 : decode cX1_allRuns 1 = .ok (.istore_n 1, 1) := dk_60 (dk_at dksX1_allRuns_0 1 rfl rfl)
theorem dX1_allRuns_2 : decode cX1_allRuns 2 = .ok (.iconst 0, 1) := dk_3 (dk_at dksX1_allRuns_0 2 rfl rfl)
theorem dX1_allRuns_3 : decode cX1_allRuns 3 = .ok (.istore_n 2, 1) := dk_61 (dk_at dksX1_allRuns_0 3 rfl rfl)
theorem dX1_allRuns_4 : decode cX1_allRuns 4 = .ok (.iload_n 2, 1) := dk_28 (dk_at dksX1_allRuns_0 4 rfl rfl)
theorem dX1_allRuns_5 : decode cX1_allRuns 5 = .ok (.aload_n 0, 1) := dk_42 (dk_at dksX1_allRuns_0 5 rfl rfl)
theorem dX1_allRuns_6 : decode cX1_allRuns 6 = .ok (.invokevirtual 50, 3) := dk_182 0 50 (dk_at dksX1_allRuns_0 6 rfl rfl)
theorem dX1_allRuns_9 : decode cX1_allRuns 9 = .ok (.if_icmp .ge 17, 3) := dk_162 0 17 (dk_at dksX1_allRuns_0 9 rfl rfl)
theorem dX1_allRuns_12 : decode cX1_allRuns 12 = .ok (.iload_n 1, 1) := dk_27 (dk_at dksX1_allRuns_0 12 rfl rfl)
theorem dX1_allRuns_13 : decode cX1_allRuns 13 = .ok (.aload_n 0, 1) := dk_42 (dk_at dksX1_allRuns_0 13 rfl rfl)
theorem dX1_allRuns_14 : decode cX1_allRuns 14 = .ok (.iload_n 2, 1) := dk_28 (dk_at dksX1_allRuns_0 14 rfl rfl)
theorem dX1_allRuns_15 : decode cX1_allRuns 15 = .ok (.invokevirtual 171, 3) := dk_182 0 171 (dk_at dksX1_allRuns_0 15 rfl rfl)
theorem dX1_allRuns_18 : decode cX1_allRuns 18 = .ok (.iadd, 1) := dk_96 (dk_at dksX1_allRuns_0 18 rfl rfl)
theorem dX1_allRuns_19 : decode cX1_allRuns 19 = .ok (.istore_n 1, 1) := dk_60 (dk_at dksX1_allRuns_0 19 rfl rfl)
theorem dX1_allRuns_20 : decode cX1_allRuns 20 = .ok (.iinc 2 1, 3) := dk_132 2 1 (dk_at dksX1_allRuns_0 20 rfl rfl)
theorem dX1_allRuns_23 : decode cX1_allRuns 23 = .ok (.goto (-19), 3) := dk_167 255 237 (dk_at dksX1_allRuns_1 0 rfl rfl)
theorem dX1_allRuns_26 : decode cX1_allRuns 26 = .ok (.iload_n 1, 1) := dk_27 (dk_at dksX1_allRuns_1 3 rfl rfl)
theorem dX1_allRuns_27 : decode cX1_allRuns 27 = .ok (.ireturn, 1) := dk_172 (dk_at dksX1_allRuns_1 4 rfl rfl)
abbrev cX1_runs : ByteArray := prog_1_method_27_code
def yX1_runs : MethodName := ⟨RX1, "runs", "(I)I"⟩
def dkwX1_runs_0 : List UInt8 := [42, 180, 0, 31, 42, 27, 182, 0, 145, 182, 0, 148, 182, 0, 152, 172]
abbrev dktX1_runs_0 : List UInt8 := dkwX1_runs_0 ++ []
theorem dksX1_runs_0 : cX1_runs.data.toList.drop 0 = dktX1_runs_0 := by decide +kernel
theorem dX1_runs_0 : decode cX1_runs 0 = .ok (.aload_n 0, 1) := dk_42 (dk_at dksX1_runs_0 0 rfl rfl)
theorem dX1_runs_1 : decode cX1_runs 1 = .ok (.getfield 31, 3) := dk_180 0 31 (dk_at dksX1_runs_0 1 rfl rfl)
theorem dX1_runs_4 : decode cX1_runs 4 = .ok (.aload_n 0, 1) := dk_42 (dk_at dksX1_runs_0 4 rfl rfl)
theorem dX1_runs_5 : decode cX1_runs 5 = .ok (.iload_n 1, 1) := dk_27 (dk_at dksX1_runs_0 5 rfl rfl)
theorem dX1_runs_6 : decode cX1_runs 6 = .ok (.invokevirtual 145, 3) := dk_182 0 145 (dk_at dksX1_runs_0 6 rfl rfl)
theorem dX1_runs_9 : decode cX1_runs 9 = .ok (.invokevirtual 148, 3) := dk_182 0 148 (dk_at dksX1_runs_0 9 rfl rfl)
theorem dX1_runs_12 : decode cX1_runs 12 = .ok (.invokevirtual 152, 3) := dk_182 0 152 (dk_at dksX1_runs_0 12 rfl rfl)
theorem dX1_runs_15 : decode cX1_runs 15 = .ok (.ireturn, 1) := dk_172 (dk_at dksX1_runs_0 15 rfl rfl)
abbrev cX1_checkedRow : ByteArray := prog_1_method_11_code
def yX1_checkedRow : MethodName := ⟨RX1, "checkedRow", "(I)I"⟩
def dkwX1_checkedRow_0 : List UInt8 := [3, 42, 182, 0, 50, 4, 100, 27, 184, 0, 15, 184, 0, 57, 27, 172]
abbrev dktX1_checkedRow_0 : List UInt8 := dkwX1_checkedRow_0 ++ []
theorem dksX1_checkedRow_0 : cX1_checkedRow.data.toList.drop 0 = dktX1_checkedRow_0 := by decide +kernel
theorem dX1_checkedRow_0 : decode cX1_checkedRow 0 = .ok (.iconst 0, 1) := dk_3 (dk_at dksX1_checkedRow_0 0 rfl rfl)
theorem dX1_checkedRow_1 : decode cX1_checkedRow 1 = .ok (.aload_n 0, 1) := dk_42 (dk_at dksX1_checkedRow_0 1 rfl rfl)
theorem dX1_checkedRow_2 : decode cX1_checkedRow 2 = .ok (.invokevirtual 50, 3) := dk_182 0 50 (dk_at dksX1_checkedRow_0 2 rfl rfl)
theorem dX1_checkedRow_5 : decode cX1_checkedRow 5 = .ok (.iconst 1, 1) := dk_4 (dk_at dksX1_checkedRow_0 5 rfl rfl)
theorem dX1_checkedRow_6 : decode cX1_checkedRow 6 = .ok (.isub, 1) := dk_100 (dk_at dksX1_checkedRow_0 6 rfl rfl)
theorem dX1_checkedRow_7 : decode cX1_checkedRow 7 = .ok (.iload_n 1, 1) := dk_27 (dk_at dksX1_checkedRow_0 7 rfl rfl)
theorem dX1_checkedRow_8 : decode cX1_checkedRow 8 = .ok (.invokestatic 15, 3) := dk_184 0 15 (dk_at dksX1_checkedRow_0 8 rfl rfl)
theorem dX1_checkedRow_11 : decode cX1_checkedRow 11 = .ok (.invokestatic 57, 3) := dk_184 0 57 (dk_at dksX1_checkedRow_0 11 rfl rfl)
theorem dX1_checkedRow_14 : decode cX1_checkedRow 14 = .ok (.iload_n 1, 1) := dk_27 (dk_at dksX1_checkedRow_0 14 rfl rfl)
theorem dX1_checkedRow_15 : decode cX1_checkedRow 15 = .ok (.ireturn, 1) := dk_172 (dk_at dksX1_checkedRow_0 15 rfl rfl)
abbrev cX1_checkIndex : ByteArray := prog_1_method_2_code
def yX1_checkIndex : MethodName := ⟨RX1, "checkIndex", "(Z)V"⟩
def dkwX1_checkIndex_0 : List UInt8 := [26, 154, 0, 11, 187, 0, 1, 89, 183, 0, 3, 191, 177]
abbrev dktX1_checkIndex_0 : List UInt8 := dkwX1_checkIndex_0 ++ []
theorem dksX1_checkIndex_0 : cX1_checkIndex.data.toList.drop 0 = dktX1_checkIndex_0 := by decide +kernel
theorem dX1_checkIndex_0 : decode cX1_checkIndex 0 = .ok (.iload_n 0, 1) := dk_26 (dk_at dksX1_checkIndex_0 0 rfl rfl)
theorem dX1_checkIndex_1 : decode cX1_checkIndex 1 = .ok (.ifCond .ne 11, 3) := dk_154 0 11 (dk_at dksX1_checkIndex_0 1 rfl rfl)
theorem dX1_checkIndex_4 : decode cX1_checkIndex 4 = .ok (.new 1, 3) := dk_187 0 1 (dk_at dksX1_checkIndex_0 4 rfl rfl)
theorem dX1_checkIndex_7 : decode cX1_checkIndex 7 = .ok (.dup, 1) := dk_89 (dk_at dksX1_checkIndex_0 7 rfl rfl)
theorem dX1_checkIndex_8 : decode cX1_checkIndex 8 = .ok (.invokespecial 3, 3) := dk_183 0 3 (dk_at dksX1_checkIndex_0 8 rfl rfl)
theorem dX1_checkIndex_11 : decode cX1_checkIndex 11 = .ok (.athrow, 1) := dk_191 (dk_at dksX1_checkIndex_0 11 rfl rfl)
theorem dX1_checkIndex_12 : decode cX1_checkIndex 12 = .ok (.return_, 1) := dk_177 (dk_at dksX1_checkIndex_0 12 rfl rfl)
abbrev cX1_parts : ByteArray := prog_1_method_30_code
def yX1_parts : MethodName := ⟨RX1, "parts", "()I"⟩
def dkwX1_parts_0 : List UInt8 := [42, 180, 0, 31, 182, 0, 173, 172]
abbrev dktX1_parts_0 : List UInt8 := dkwX1_parts_0 ++ []
theorem dksX1_parts_0 : cX1_parts.data.toList.drop 0 = dktX1_parts_0 := by decide +kernel
theorem dX1_parts_0 : decode cX1_parts 0 = .ok (.aload_n 0, 1) := dk_42 (dk_at dksX1_parts_0 0 rfl rfl)
theorem dX1_parts_1 : decode cX1_parts 1 = .ok (.getfield 31, 3) := dk_180 0 31 (dk_at dksX1_parts_0 1 rfl rfl)
theorem dX1_parts_4 : decode cX1_parts 4 = .ok (.invokevirtual 173, 3) := dk_182 0 173 (dk_at dksX1_parts_0 4 rfl rfl)
theorem dX1_parts_7 : decode cX1_parts 7 = .ok (.ireturn, 1) := dk_172 (dk_at dksX1_parts_0 7 rfl rfl)
abbrev cX1_holes : ByteArray := prog_1_method_33_code
def yX1_holes : MethodName := ⟨RX1, "holes", "()I"⟩
def dkwX1_holes_0 : List UInt8 := [42, 180, 0, 31, 182, 0, 179, 172]
abbrev dktX1_holes_0 : List UInt8 := dkwX1_holes_0 ++ []
theorem dksX1_holes_0 : cX1_holes.data.toList.drop 0 = dktX1_holes_0 := by decide +kernel
theorem dX1_holes_0 : decode cX1_holes 0 = .ok (.aload_n 0, 1) := dk_42 (dk_at dksX1_holes_0 0 rfl rfl)
theorem dX1_holes_1 : decode cX1_holes 1 = .ok (.getfield 31, 3) := dk_180 0 31 (dk_at dksX1_holes_0 1 rfl rfl)
theorem dX1_holes_4 : decode cX1_holes 4 = .ok (.invokevirtual 179, 3) := dk_182 0 179 (dk_at dksX1_holes_0 4 rfl rfl)
theorem dX1_holes_7 : decode cX1_holes 7 = .ok (.ireturn, 1) := dk_172 (dk_at dksX1_holes_0 7 rfl rfl)
abbrev cX1_edges : ByteArray := prog_1_method_34_code
def yX1_edges : MethodName := ⟨RX1, "edges", "()I"⟩
def dkwX1_edges_0 : List UInt8 := [42, 180, 0, 31, 182, 0, 182, 172]
abbrev dktX1_edges_0 : List UInt8 := dkwX1_edges_0 ++ []
theorem dksX1_edges_0 : cX1_edges.data.toList.drop 0 = dktX1_edges_0 := by decide +kernel
theorem dX1_edges_0 : decode cX1_edges 0 = .ok (.aload_n 0, 1) := dk_42 (dk_at dksX1_edges_0 0 rfl rfl)
theorem dX1_edges_1 : decode cX1_edges 1 = .ok (.getfield 31, 3) := dk_180 0 31 (dk_at dksX1_edges_0 1 rfl rfl)
theorem dX1_edges_4 : decode cX1_edges 4 = .ok (.invokevirtual 182, 3) := dk_182 0 182 (dk_at dksX1_edges_0 4 rfl rfl)
theorem dX1_edges_7 : decode cX1_edges 7 = .ok (.ireturn, 1) := dk_172 (dk_at dksX1_edges_0 7 rfl rfl)
abbrev cX1_stepsToThin : ByteArray := prog_1_method_35_code
def yX1_stepsToThin : MethodName := ⟨RX1, "stepsToThin", "()I"⟩
def dkwX1_stepsToThin_0 : List UInt8 := [42, 180, 0, 31, 182, 0, 79, 182, 0, 128, 172]
abbrev dktX1_stepsToThin_0 : List UInt8 := dkwX1_stepsToThin_0 ++ []
theorem dksX1_stepsToThin_0 : cX1_stepsToThin.data.toList.drop 0 = dktX1_stepsToThin_0 := by decide +kernel
theorem dX1_stepsToThin_0 : decode cX1_stepsToThin 0 = .ok (.aload_n 0, 1) := dk_42 (dk_at dksX1_stepsToThin_0 0 rfl rfl)
theorem dX1_stepsToThin_1 : decode cX1_stepsToThin 1 = .ok (.getfield 31, 3) := dk_180 0 31 (dk_at dksX1_stepsToThin_0 1 rfl rfl)
theorem dX1_stepsToThin_4 : decode cX1_stepsToThin 4 = .ok (.invokevirtual 79, 3) := dk_182 0 79 (dk_at dksX1_stepsToThin_0 4 rfl rfl)
theorem dX1_stepsToThin_7 : decode cX1_stepsToThin 7 = .ok (.invokevirtual 128, 3) := dk_182 0 128 (dk_at dksX1_stepsToThin_0 7 rfl rfl)
theorem dX1_stepsToThin_10 : decode cX1_stepsToThin 10 = .ok (.ireturn, 1) := dk_172 (dk_at dksX1_stepsToThin_0 10 rfl rfl)
abbrev cX1_thinned : ByteArray := prog_1_method_36_code
def yX1_thinned : MethodName := ⟨RX1, "thinned", "()I"⟩
def dkwX1_thinned_0 : List UInt8 := [42, 180, 0, 31, 182, 0, 79, 76, 43, 182, 0, 128, 61, 43, 180, 0, 64, 182, 0, 107, 172]
abbrev dktX1_thinned_0 : List UInt8 := dkwX1_thinned_0 ++ []
theorem dksX1_thinned_0 : cX1_thinned.data.toList.drop 0 = dktX1_thinned_0 := by decide +kernel
theorem dX1_thinned_0 : decode cX1_thinned 0 = .ok (.aload_n 0, 1) := dk_42 (dk_at dksX1_thinned_0 0 rfl rfl)
theorem dX1_thinned_1 : decode cX1_thinned 1 = .ok (.getfield 31, 3) := dk_180 0 31 (dk_at dksX1_thinned_0 1 rfl rfl)
theorem dX1_thinned_4 : decode cX1_thinned 4 = .ok (.invokevirtual 79, 3) := dk_182 0 79 (dk_at dksX1_thinned_0 4 rfl rfl)
theorem dX1_thinned_7 : decode cX1_thinned 7 = .ok (.astore_n 1, 1) := dk_76 (dk_at dksX1_thinned_0 7 rfl rfl)
theorem dX1_thinned_8 : decode cX1_thinned 8 = .ok (.aload_n 1, 1) := dk_43 (dk_at dksX1_thinned_0 8 rfl rfl)
theorem dX1_thinned_9 : decode cX1_thinned 9 = .ok (.invokevirtual 128, 3) := dk_182 0 128 (dk_at dksX1_thinned_0 9 rfl rfl)
theorem dX1_thinned_12 : decode cX1_thinned 12 = .ok (.istore_n 2, 1) := dk_61 (dk_at dksX1_thinned_0 12 rfl rfl)
theorem dX1_thinned_13 : decode cX1_thinned 13 = .ok (.aload_n 1, 1) := dk_43 (dk_at dksX1_thinned_0 13 rfl rfl)
theorem dX1_thinned_14 : decode cX1_thinned 14 = .ok (.getfield 64, 3) := dk_180 0 64 (dk_at dksX1_thinned_0 14 rfl rfl)
theorem dX1_thinned_17 : decode cX1_thinned 17 = .ok (.invokevirtual 107, 3) := dk_182 0 107 (dk_at dksX1_thinned_0 17 rfl rfl)
theorem dX1_thinned_20 : decode cX1_thinned 20 = .ok (.ireturn, 1) := dk_172 (dk_at dksX1_thinned_0 20 rfl rfl)
abbrev cX1_inkShare : ByteArray := prog_1_method_37_code
def yX1_inkShare : MethodName := ⟨RX1, "inkShare", "()D"⟩
def dkwX1_inkShare_0 : List UInt8 := [42, 182, 0, 116, 135, 42, 180, 0, 31, 182, 0, 110, 135, 111, 175]
abbrev dktX1_inkShare_0 : List UInt8 := dkwX1_inkShare_0 ++ []
theorem dksX1_inkShare_0 : cX1_inkShare.data.toList.drop 0 = dktX1_inkShare_0 := by decide +kernel
theorem dX1_inkShare_0 : decode cX1_inkShare 0 = .ok (.aload_n 0, 1) := dk_42 (dk_at dksX1_inkShare_0 0 rfl rfl)
theorem dX1_inkShare_1 : decode cX1_inkShare 1 = .ok (.invokevirtual 116, 3) := dk_182 0 116 (dk_at dksX1_inkShare_0 1 rfl rfl)
theorem dX1_inkShare_4 : decode cX1_inkShare 4 = .ok (.i2d, 1) := dk_135 (dk_at dksX1_inkShare_0 4 rfl rfl)
theorem dX1_inkShare_5 : decode cX1_inkShare 5 = .ok (.aload_n 0, 1) := dk_42 (dk_at dksX1_inkShare_0 5 rfl rfl)
theorem dX1_inkShare_6 : decode cX1_inkShare 6 = .ok (.getfield 31, 3) := dk_180 0 31 (dk_at dksX1_inkShare_0 6 rfl rfl)
theorem dX1_inkShare_9 : decode cX1_inkShare 9 = .ok (.invokevirtual 110, 3) := dk_182 0 110 (dk_at dksX1_inkShare_0 9 rfl rfl)
theorem dX1_inkShare_12 : decode cX1_inkShare 12 = .ok (.i2d, 1) := dk_135 (dk_at dksX1_inkShare_0 12 rfl rfl)
theorem dX1_inkShare_13 : decode cX1_inkShare 13 = .ok (.ddiv, 1) := dk_111 (dk_at dksX1_inkShare_0 13 rfl rfl)
theorem dX1_inkShare_14 : decode cX1_inkShare 14 = .ok (.dreturn, 1) := dk_175 (dk_at dksX1_inkShare_0 14 rfl rfl)
abbrev cX1_meanRun : ByteArray := prog_1_method_38_code
def yX1_meanRun : MethodName := ⟨RX1, "meanRun", "()F"⟩
def dkwX1_meanRun_0 : List UInt8 := [42, 182, 0, 185, 154, 0, 7, 11, 167, 0, 14, 42, 182, 0, 116, 134, 42, 182, 0, 185, 134, 110, 174]
abbrev dktX1_meanRun_0 : List UInt8 := dkwX1_meanRun_0 ++ []
theorem dksX1_meanRun_0 : cX1_meanRun.data.toList.drop 0 = dktX1_meanRun_0 := by decide +kernel
theorem dX1_meanRun_0 : decode cX1_meanRun 0 = .ok (.aload_n 0, 1) := dk_42 (dk_at dksX1_meanRun_0 0 rfl rfl)
theorem dX1_meanRun_1 : decode cX1_meanRun 1 = .ok (.invokevirtual 185, 3) := dk_182 0 185 (dk_at dksX1_meanRun_0 1 rfl rfl)
theorem dX1_meanRun_4 : decode cX1_meanRun 4 = .ok (.ifCond .ne 7, 3) := dk_154 0 7 (dk_at dksX1_meanRun_0 4 rfl rfl)
theorem dX1_meanRun_7 : decode cX1_meanRun 7 = .ok (.fconst 0, 1) := dk_11 (dk_at dksX1_meanRun_0 7 rfl rfl)
theorem dX1_meanRun_8 : decode cX1_meanRun 8 = .ok (.goto 14, 3) := dk_167 0 14 (dk_at dksX1_meanRun_0 8 rfl rfl)
theorem dX1_meanRun_11 : decode cX1_meanRun 11 = .ok (.aload_n 0, 1) := dk_42 (dk_at dksX1_meanRun_0 11 rfl rfl)
theorem dX1_meanRun_12 : decode cX1_meanRun 12 = .ok (.invokevirtual 116, 3) := dk_182 0 116 (dk_at dksX1_meanRun_0 12 rfl rfl)
theorem dX1_meanRun_15 : decode cX1_meanRun 15 = .ok (.i2f, 1) := dk_134 (dk_at dksX1_meanRun_0 15 rfl rfl)
theorem dX1_meanRun_16 : decode cX1_meanRun 16 = .ok (.aload_n 0, 1) := dk_42 (dk_at dksX1_meanRun_0 16 rfl rfl)
theorem dX1_meanRun_17 : decode cX1_meanRun 17 = .ok (.invokevirtual 185, 3) := dk_182 0 185 (dk_at dksX1_meanRun_0 17 rfl rfl)
theorem dX1_meanRun_20 : decode cX1_meanRun 20 = .ok (.i2f, 1) := dk_134 (dk_at dksX1_meanRun_0 20 rfl rfl)
theorem dX1_meanRun_21 : decode cX1_meanRun 21 = .ok (.fdiv, 1) := dk_110 (dk_at dksX1_meanRun_0 21 rfl rfl)
theorem dX1_meanRun_22 : decode cX1_meanRun 22 = .ok (.freturn, 1) := dk_174 (dk_at dksX1_meanRun_0 22 rfl rfl)
abbrev cX1_tufaErrors : ByteArray := prog_1_method_39_code
def yX1_tufaErrors : MethodName := ⟨RX1, "tufaErrors", "()I"⟩
def dkwX1_tufaErrors_7 : List UInt8 := [132, 5, 1, 167, 255, 117, 29, 21, 4, 42, 182, 0, 116, 100, 184, 0, 206, 96, 172]
abbrev dktX1_tufaErrors_7 : List UInt8 := dkwX1_tufaErrors_7 ++ []
def dkwX1_tufaErrors_6 : List UInt8 := [185, 0, 202, 1, 0, 192, 0, 163, 58, 7, 21, 4, 25, 7, 180, 0, 168, 96, 54, 4, 167, 255, 224]
abbrev dktX1_tufaErrors_6 : List UInt8 := dkwX1_tufaErrors_6 ++ dktX1_tufaErrors_7
def dkwX1_tufaErrors_5 : List UInt8 := [21, 5, 182, 0, 148, 182, 0, 192, 58, 6, 25, 6, 185, 0, 196, 1, 0, 153, 0, 28, 25, 6]
abbrev dktX1_tufaErrors_5 : List UInt8 := dkwX1_tufaErrors_5 ++ dktX1_tufaErrors_6
def dkwX1_tufaErrors_4 : List UInt8 := [182, 0, 188, 160, 0, 7, 3, 167, 0, 4, 4, 96, 62, 132, 6, 1, 167, 255, 184, 42, 180, 0, 31]
abbrev dktX1_tufaErrors_4 : List UInt8 := dkwX1_tufaErrors_4 ++ dktX1_tufaErrors_5
def dkwX1_tufaErrors_3 : List UInt8 := [160, 0, 33, 44, 21, 5, 4, 96, 50, 21, 6, 4, 96, 53, 42, 180, 0, 31, 21, 6, 21, 5, 4]
abbrev dktX1_tufaErrors_3 : List UInt8 := dkwX1_tufaErrors_3 ++ dktX1_tufaErrors_4
def dkwX1_tufaErrors_2 : List UInt8 := [43, 21, 5, 4, 96, 50, 21, 6, 4, 96, 53, 42, 180, 0, 31, 21, 6, 21, 5, 3, 182, 0, 188]
abbrev dktX1_tufaErrors_2 : List UInt8 := dkwX1_tufaErrors_2 ++ dktX1_tufaErrors_3
def dkwX1_tufaErrors_1 : List UInt8 := [54, 5, 21, 5, 42, 182, 0, 50, 162, 0, 136, 3, 54, 6, 21, 6, 42, 182, 0, 46, 162, 0, 69, 29]
abbrev dktX1_tufaErrors_1 : List UInt8 := dkwX1_tufaErrors_1 ++ dktX1_tufaErrors_2
def dkwX1_tufaErrors_0 : List UInt8 := [42, 180, 0, 31, 3, 182, 0, 136, 76, 42, 180, 0, 31, 4, 182, 0, 136, 77, 3, 62, 3, 54, 4, 3]
abbrev dktX1_tufaErrors_0 : List UInt8 := dkwX1_tufaErrors_0 ++ dktX1_tufaErrors_1
theorem dksX1_tufaErrors_0 : cX1_tufaErrors.data.toList.drop 0 = dktX1_tufaErrors_0 := by decide +kernel
theorem dksX1_tufaErrors_1 : cX1_tufaErrors.data.toList.drop 24 = dktX1_tufaErrors_1 := dk_seg dksX1_tufaErrors_0 24 rfl rfl
theorem dksX1_tufaErrors_2 : cX1_tufaErrors.data.toList.drop 48 = dktX1_tufaErrors_2 := dk_seg dksX1_tufaErrors_1 24 rfl rfl
theorem dksX1_tufaErrors_3 : cX1_tufaErrors.data.toList.drop 71 = dktX1_tufaErrors_3 := dk_seg dksX1_tufaErrors_2 23 rfl rfl
theorem dksX1_tufaErrors_4 : cX1_tufaErrors.data.toList.drop 94 = dktX1_tufaErrors_4 := dk_seg dksX1_tufaErrors_3 23 rfl rfl
theorem dksX1_tufaErrors_5 : cX1_tufaErrors.data.toList.drop 117 = dktX1_tufaErrors_5 := dk_seg dksX1_tufaErrors_4 23 rfl rfl
theorem dksX1_tufaErrors_6 : cX1_tufaErrors.data.toList.drop 139 = dktX1_tufaErrors_6 := dk_seg dksX1_tufaErrors_5 22 rfl rfl
theorem dksX1_tufaErrors_7 : cX1_tufaErrors.data.toList.drop 162 = dktX1_tufaErrors_7 := dk_seg dksX1_tufaErrors_6 23 rfl rfl
theorem dX1_tufaErrors_0 : decode cX1_tufaErrors 0 = .ok (.aload_n 0, 1) := dk_42 (dk_at dksX1_tufaErrors_0 0 rfl rfl)
theorem dX1_tufaErrors_1 : decode cX1_tufaErrors 1 = .ok (.getfield 31, 3) := dk_180 0 31 (dk_at dksX1_tufaErrors_0 1 rfl rfl)
theorem dX1_tufaErrors_4 : decode cX1_tufaErrors 4 = .ok (.iconst 0, 1) := dk_3 (dk_at dksX1_tufaErrors_0 4 rfl rfl)
theorem dX1_tufaErrors_5 : decode cX1_tufaErrors 5 = .ok (.invokevirtual 136, 3) := dk_182 0 136 (dk_at dksX1_tufaErrors_0 5 rfl rfl)
theorem dX1_tufaErrors_8 : decode cX1_tufaErrors 8 = .ok (.astore_n 1, 1) := dk_76 (dk_at dksX1_tufaErrors_0 8 rfl rfl)
theorem dX1_tufaErrors_9 : decode cX1_tufaErrors 9 = .ok (.aload_n 0, 1) := dk_42 (dk_at dksX1_tufaErrors_0 9 rfl rfl)
theorem dX1_tufaErrors_10 : decode cX1_tufaErrors 10 = .ok (.getfield 31, 3) := dk_180 0 31 (dk_at dksX1_tufaErrors_0 10 rfl rfl)
theorem dX1_tufaErrors_13 : decode cX1_tufaErrors 13 = .ok (.iconst 1, 1) := dk_4 (dk_at dksX1_tufaErrors_0 13 rfl rfl)
theorem dX1_tufaErrors_14 : decode cX1_tufaErrors 14 = .ok (.invokevirtual 136, 3) := dk_182 0 136 (dk_at dksX1_tufaErrors_0 14 rfl rfl)
theorem dX1_tufaErrors_17 : decode cX1_tufaErrors 17 = .ok (.astore_n 2, 1) := dk_77 (dk_at dksX1_tufaErrors_0 17 rfl rfl)
theorem dX1_tufaErrors_18 : decode cX1_tufaErrors 18 = .ok (.iconst 0, 1) := dk_3 (dk_at dksX1_tufaErrors_0 18 rfl rfl)
theorem dX1_tufaErrors_19 : decode cX1_tufaErrors 19 = .ok (.istore_n 3, 1) := dk_62 (dk_at dksX1_tufaErrors_0 19 rfl rfl)
theorem dX1_tufaErrors_20 : decode cX1_tufaErrors 20 = .ok (.iconst 0, 1) := dk_3 (dk_at dksX1_tufaErrors_0 20 rfl rfl)
theorem dX1_tufaErrors_21 : decode cX1_tufaErrors 21 = .ok (.istore 4, 2) := dk_54 4 (dk_at dksX1_tufaErrors_0 21 rfl rfl)
theorem dX1_tufaErrors_23 : decode cX1_tufaErrors 23 = .ok (.iconst 0, 1) := dk_3 (dk_at dksX1_tufaErrors_0 23 rfl rfl)
theorem dX1_tufaErrors_24 : decode cX1_tufaErrors 24 = .ok (.istore 5, 2) := dk_54 5 (dk_at dksX1_tufaErrors_1 0 rfl rfl)
theorem dX1_tufaErrors_26 : decode cX1_tufaErrors 26 = .ok (.iload 5, 2) := dk_21 5 (dk_at dksX1_tufaErrors_1 2 rfl rfl)
theorem dX1_tufaErrors_28 : decode cX1_tufaErrors 28 = .ok (.aload_n 0, 1) := dk_42 (dk_at dksX1_tufaErrors_1 4 rfl rfl)
theorem dX1_tufaErrors_29 : decode cX1_tufaErrors 29 = .ok (.invokevirtual 50, 3) := dk_182 0 50 (dk_at dksX1_tufaErrors_1 5 rfl rfl)
theorem dX1_tufaErrors_32 : decode cX1_tufaErrors 32 = .ok (.if_icmp .ge 136, 3) := dk_162 0 136 (dk_at dksX1_tufaErrors_1 8 rfl rfl)
theorem dX1_tufaErrors_35 : decode cX1_tufaErrors 35 = .ok (.iconst 0, 1) := dk_3 (dk_at dksX1_tufaErrors_1 11 rfl rfl)
theorem dX1_tufaErrors_36 : decode cX1_tufaErrors 36 = .ok (.istore 6, 2) := dk_54 6 (dk_at dksX1_tufaErrors_1 12 rfl rfl)
theorem dX1_tufaErrors_38 : decode cX1_tufaErrors 38 = .ok (.iload 6, 2) := dk_21 6 (dk_at dksX1_tufaErrors_1 14 rfl rfl)
theorem dX1_tufaErrors_40 : decode cX1_tufaErrors 40 = .ok (.aload_n 0, 1) := dk_42 (dk_at dksX1_tufaErrors_1 16 rfl rfl)
theorem dX1_tufaErrors_41 : decode cX1_tufaErrors 41 = .ok (.invokevirtual 46, 3) := dk_182 0 46 (dk_at dksX1_tufaErrors_1 17 rfl rfl)
theorem dX1_tufaErrors_44 : decode cX1_tufaErrors 44 = .ok (.if_icmp .ge 69, 3) := dk_162 0 69 (dk_at dksX1_tufaErrors_1 20 rfl rfl)
theorem dX1_tufaErrors_47 : decode cX1_tufaErrors 47 = .ok (.iload_n 3, 1) := dk_29 (dk_at dksX1_tufaErrors_1 23 rfl rfl)
theorem dX1_tufaErrors_48 : decode cX1_tufaErrors 48 = .ok (.aload_n 1, 1) := dk_43 (dk_at dksX1_tufaErrors_2 0 rfl rfl)
theorem dX1_tufaErrors_49 : decode cX1_tufaErrors 49 = .ok (.iload 5, 2) := dk_21 5 (dk_at dksX1_tufaErrors_2 1 rfl rfl)
theorem dX1_tufaErrors_51 : decode cX1_tufaErrors 51 = .ok (.iconst 1, 1) := dk_4 (dk_at dksX1_tufaErrors_2 3 rfl rfl)
theorem dX1_tufaErrors_52 : decode cX1_tufaErrors 52 = .ok (.iadd, 1) := dk_96 (dk_at dksX1_tufaErrors_2 4 rfl rfl)
theorem dX1_tufaErrors_53 : decode cX1_tufaErrors 53 = .ok (.aaload, 1) := dk_50 (dk_at dksX1_tufaErrors_2 5 rfl rfl)
theorem dX1_tufaErrors_54 : decode cX1_tufaErrors 54 = .ok (.iload 6, 2) := dk_21 6 (dk_at dksX1_tufaErrors_2 6 rfl rfl)
theorem dX1_tufaErrors_56 : decode cX1_tufaErrors 56 = .ok (.iconst 1, 1) := dk_4 (dk_at dksX1_tufaErrors_2 8 rfl rfl)
theorem dX1_tufaErrors_57 : decode cX1_tufaErrors 57 = .ok (.iadd, 1) := dk_96 (dk_at dksX1_tufaErrors_2 9 rfl rfl)
theorem dX1_tufaErrors_58 : decode cX1_tufaErrors 58 = .ok (.saload, 1) := dk_53 (dk_at dksX1_tufaErrors_2 10 rfl rfl)
theorem dX1_tufaErrors_59 : decode cX1_tufaErrors 59 = .ok (.aload_n 0, 1) := dk_42 (dk_at dksX1_tufaErrors_2 11 rfl rfl)
theorem dX1_tufaErrors_60 : decode cX1_tufaErrors 60 = .ok (.getfield 31, 3) := dk_180 0 31 (dk_at dksX1_tufaErrors_2 12 rfl rfl)
theorem dX1_tufaErrors_63 : decode cX1_tufaErrors 63 = .ok (.iload 6, 2) := dk_21 6 (dk_at dksX1_tufaErrors_2 15 rfl rfl)
theorem dX1_tufaErrors_65 : decode cX1_tufaErrors 65 = .ok (.iload 5, 2) := dk_21 5 (dk_at dksX1_tufaErrors_2 17 rfl rfl)
theorem dX1_tufaErrors_67 : decode cX1_tufaErrors 67 = .ok (.iconst 0, 1) := dk_3 (dk_at dksX1_tufaErrors_2 19 rfl rfl)
theorem dX1_tufaErrors_68 : decode cX1_tufaErrors 68 = .ok (.invokevirtual 188, 3) := dk_182 0 188 (dk_at dksX1_tufaErrors_2 20 rfl rfl)
theorem dX1_tufaErrors_71 : decode cX1_tufaErrors 71 = .ok (.if_icmp .ne 33, 3) := dk_160 0 33 (dk_at dksX1_tufaErrors_3 0 rfl rfl)
theorem dX1_tufaErrors_74 : decode cX1_tufaErrors 74 = .ok (.aload_n 2, 1) := dk_44 (dk_at dksX1_tufaErrors_3 3 rfl rfl)
theorem dX1_tufaErrors_75 : decode cX1_tufaErrors 75 = .ok (.iload 5, 2) := dk_21 5 (dk_at dksX1_tufaErrors_3 4 rfl rfl)
theorem dX1_tufaErrors_77 : decode cX1_tufaErrors 77 = .ok (.iconst 1, 1) := dk_4 (dk_at dksX1_tufaErrors_3 6 rfl rfl)
theorem dX1_tufaErrors_78 : decode cX1_tufaErrors 78 = .ok (.iadd, 1) := dk_96 (dk_at dksX1_tufaErrors_3 7 rfl rfl)
theorem dX1_tufaErrors_79 : decode cX1_tufaErrors 79 = .ok (.aaload, 1) := dk_50 (dk_at dksX1_tufaErrors_3 8 rfl rfl)
theorem dX1_tufaErrors_80 : decode cX1_tufaErrors 80 = .ok (.iload 6, 2) := dk_21 6 (dk_at dksX1_tufaErrors_3 9 rfl rfl)
theorem dX1_tufaErrors_82 : decode cX1_tufaErrors 82 = .ok (.iconst 1, 1) := dk_4 (dk_at dksX1_tufaErrors_3 11 rfl rfl)
theorem dX1_tufaErrors_83 : decode cX1_tufaErrors 83 = .ok (.iadd, 1) := dk_96 (dk_at dksX1_tufaErrors_3 12 rfl rfl)
theorem dX1_tufaErrors_84 : decode cX1_tufaErrors 84 = .ok (.saload, 1) := dk_53 (dk_at dksX1_tufaErrors_3 13 rfl rfl)
theorem dX1_tufaErrors_85 : decode cX1_tufaErrors 85 = .ok (.aload_n 0, 1) := dk_42 (dk_at dksX1_tufaErrors_3 14 rfl rfl)
theorem dX1_tufaErrors_86 : decode cX1_tufaErrors 86 = .ok (.getfield 31, 3) := dk_180 0 31 (dk_at dksX1_tufaErrors_3 15 rfl rfl)
theorem dX1_tufaErrors_89 : decode cX1_tufaErrors 89 = .ok (.iload 6, 2) := dk_21 6 (dk_at dksX1_tufaErrors_3 18 rfl rfl)
theorem dX1_tufaErrors_91 : decode cX1_tufaErrors 91 = .ok (.iload 5, 2) := dk_21 5 (dk_at dksX1_tufaErrors_3 20 rfl rfl)
theorem dX1_tufaErrors_93 : decode cX1_tufaErrors 93 = .ok (.iconst 1, 1) := dk_4 (dk_at dksX1_tufaErrors_3 22 rfl rfl)
theorem dX1_tufaErrors_94 : decode cX1_tufaErrors 94 = .ok (.invokevirtual 188, 3) := dk_182 0 188 (dk_at dksX1_tufaErrors_4 0 rfl rfl)
theorem dX1_tufaErrors_97 : decode cX1_tufaErrors 97 = .ok (.if_icmp .ne 7, 3) := dk_160 0 7 (dk_at dksX1_tufaErrors_4 3 rfl rfl)
theorem dX1_tufaErrors_100 : decode cX1_tufaErrors 100 = .ok (.iconst 0, 1) := dk_3 (dk_at dksX1_tufaErrors_4 6 rfl rfl)
theorem dX1_tufaErrors_101 : decode cX1_tufaErrors 101 = .ok (.goto 4, 3) := dk_167 0 4 (dk_at dksX1_tufaErrors_4 7 rfl rfl)
theorem dX1_tufaErrors_104 : decode cX1_tufaErrors 104 = .ok (.iconst 1, 1) := dk_4 (dk_at dksX1_tufaErrors_4 10 rfl rfl)
theorem dX1_tufaErrors_105 : decode cX1_tufaErrors 105 = .ok (.iadd, 1) := dk_96 (dk_at dksX1_tufaErrors_4 11 rfl rfl)
theorem dX1_tufaErrors_106 : decode cX1_tufaErrors 106 = .ok (.istore_n 3, 1) := dk_62 (dk_at dksX1_tufaErrors_4 12 rfl rfl)
theorem dX1_tufaErrors_107 : decode cX1_tufaErrors 107 = .ok (.iinc 6 1, 3) := dk_132 6 1 (dk_at dksX1_tufaErrors_4 13 rfl rfl)
theorem dX1_tufaErrors_110 : decode cX1_tufaErrors 110 = .ok (.goto (-72), 3) := dk_167 255 184 (dk_at dksX1_tufaErrors_4 16 rfl rfl)
theorem dX1_tufaErrors_113 : decode cX1_tufaErrors 113 = .ok (.aload_n 0, 1) := dk_42 (dk_at dksX1_tufaErrors_4 19 rfl rfl)
theorem dX1_tufaErrors_114 : decode cX1_tufaErrors 114 = .ok (.getfield 31, 3) := dk_180 0 31 (dk_at dksX1_tufaErrors_4 20 rfl rfl)
theorem dX1_tufaErrors_117 : decode cX1_tufaErrors 117 = .ok (.iload 5, 2) := dk_21 5 (dk_at dksX1_tufaErrors_5 0 rfl rfl)
theorem dX1_tufaErrors_119 : decode cX1_tufaErrors 119 = .ok (.invokevirtual 148, 3) := dk_182 0 148 (dk_at dksX1_tufaErrors_5 2 rfl rfl)
theorem dX1_tufaErrors_122 : decode cX1_tufaErrors 122 = .ok (.invokevirtual 192, 3) := dk_182 0 192 (dk_at dksX1_tufaErrors_5 5 rfl rfl)
theorem dX1_tufaErrors_125 : decode cX1_tufaErrors 125 = .ok (.astore 6, 2) := dk_58 6 (dk_at dksX1_tufaErrors_5 8 rfl rfl)
theorem dX1_tufaErrors_127 : decode cX1_tufaErrors 127 = .ok (.aload 6, 2) := dk_25 6 (dk_at dksX1_tufaErrors_5 10 rfl rfl)
theorem dX1_tufaErrors_129 : decode cX1_tufaErrors 129 = .ok (.invokeinterface 196 1, 5) := by decide +kernel
theorem dX1_tufaErrors_134 : decode cX1_tufaErrors 134 = .ok (.ifCond .eq 28, 3) := dk_153 0 28 (dk_at dksX1_tufaErrors_5 17 rfl rfl)
theorem dX1_tufaErrors_137 : decode cX1_tufaErrors 137 = .ok (.aload 6, 2) := dk_25 6 (dk_at dksX1_tufaErrors_5 20 rfl rfl)
theorem dX1_tufaErrors_139 : decode cX1_tufaErrors 139 = .ok (.invokeinterface 202 1, 5) := by decide +kernel
theorem dX1_tufaErrors_144 : decode cX1_tufaErrors 144 = .ok (.checkcast 163, 3) := dk_192 0 163 (dk_at dksX1_tufaErrors_6 5 rfl rfl)
theorem dX1_tufaErrors_147 : decode cX1_tufaErrors 147 = .ok (.astore 7, 2) := dk_58 7 (dk_at dksX1_tufaErrors_6 8 rfl rfl)
theorem dX1_tufaErrors_149 : decode cX1_tufaErrors 149 = .ok (.iload 4, 2) := dk_21 4 (dk_at dksX1_tufaErrors_6 10 rfl rfl)
theorem dX1_tufaErrors_151 : decode cX1_tufaErrors 151 = .ok (.aload 7, 2) := dk_25 7 (dk_at dksX1_tufaErrors_6 12 rfl rfl)
theorem dX1_tufaErrors_153 : decode cX1_tufaErrors 153 = .ok (.getfield 168, 3) := dk_180 0 168 (dk_at dksX1_tufaErrors_6 14 rfl rfl)
theorem dX1_tufaErrors_156 : decode cX1_tufaErrors 156 = .ok (.iadd, 1) := dk_96 (dk_at dksX1_tufaErrors_6 17 rfl rfl)
theorem dX1_tufaErrors_157 : decode cX1_tufaErrors 157 = .ok (.istore 4, 2) := dk_54 4 (dk_at dksX1_tufaErrors_6 18 rfl rfl)
theorem dX1_tufaErrors_159 : decode cX1_tufaErrors 159 = .ok (.goto (-32), 3) := dk_167 255 224 (dk_at dksX1_tufaErrors_6 20 rfl rfl)
theorem dX1_tufaErrors_162 : decode cX1_tufaErrors 162 = .ok (.iinc 5 1, 3) := dk_132 5 1 (dk_at dksX1_tufaErrors_7 0 rfl rfl)
theorem dX1_tufaErrors_165 : decode cX1_tufaErrors 165 = .ok (.goto (-139), 3) := dk_167 255 117 (dk_at dksX1_tufaErrors_7 3 rfl rfl)
theorem dX1_tufaErrors_168 : decode cX1_tufaErrors 168 = .ok (.iload_n 3, 1) := dk_29 (dk_at dksX1_tufaErrors_7 6 rfl rfl)
theorem dX1_tufaErrors_169 : decode cX1_tufaErrors 169 = .ok (.iload 4, 2) := dk_21 4 (dk_at dksX1_tufaErrors_7 7 rfl rfl)
theorem dX1_tufaErrors_171 : decode cX1_tufaErrors 171 = .ok (.aload_n 0, 1) := dk_42 (dk_at dksX1_tufaErrors_7 9 rfl rfl)
theorem dX1_tufaErrors_172 : decode cX1_tufaErrors 172 = .ok (.invokevirtual 116, 3) := dk_182 0 116 (dk_at dksX1_tufaErrors_7 10 rfl rfl)
theorem dX1_tufaErrors_175 : decode cX1_tufaErrors 175 = .ok (.isub, 1) := dk_100 (dk_at dksX1_tufaErrors_7 13 rfl rfl)
theorem dX1_tufaErrors_176 : decode cX1_tufaErrors 176 = .ok (.invokestatic 206, 3) := dk_184 0 206 (dk_at dksX1_tufaErrors_7 14 rfl rfl)
theorem dX1_tufaErrors_179 : decode cX1_tufaErrors 179 = .ok (.iadd, 1) := dk_96 (dk_at dksX1_tufaErrors_7 17 rfl rfl)
theorem dX1_tufaErrors_180 : decode cX1_tufaErrors 180 = .ok (.ireturn, 1) := dk_172 (dk_at dksX1_tufaErrors_7 18 rfl rfl)
abbrev cX1_checksum : ByteArray := prog_1_method_40_code
def yX1_checksum : MethodName := ⟨RX1, "checksum", "()J"⟩
def dkwX1_checksum_7 : List UInt8 := [133, 97, 66, 132, 5, 1, 167, 255, 142, 33, 173]
abbrev dktX1_checksum_7 : List UInt8 := dkwX1_checksum_7 ++ []
def dkwX1_checksum_6 : List UInt8 := [50, 21, 6, 53, 133, 97, 105, 42, 180, 0, 38, 21, 5, 182, 0, 67, 153, 0, 7, 4, 167, 0, 4, 3]
abbrev dktX1_checksum_6 : List UInt8 := dkwX1_checksum_6 ++ dktX1_checksum_7
def dkwX1_checksum_5 : List UInt8 := [153, 0, 7, 4, 167, 0, 4, 3, 133, 97, 105, 43, 21, 7, 50, 21, 6, 53, 133, 97, 105, 44, 21, 7]
abbrev dktX1_checksum_5 : List UInt8 := dkwX1_checksum_5 ++ dktX1_checksum_6
def dkwX1_checksum_4 : List UInt8 := [20, 0, 209, 20, 0, 209, 20, 0, 209, 33, 105, 42, 180, 0, 31, 180, 0, 64, 21, 5, 182, 0, 67]
abbrev dktX1_checksum_4 : List UInt8 := dkwX1_checksum_4 ++ dktX1_checksum_5
def dkwX1_checksum_3 : List UInt8 := [182, 0, 46, 112, 4, 96, 54, 6, 21, 5, 42, 182, 0, 46, 108, 4, 96, 54, 7, 20, 0, 209]
abbrev dktX1_checksum_3 : List UInt8 := dkwX1_checksum_3 ++ dktX1_checksum_4
def dkwX1_checksum_2 : List UInt8 := [182, 0, 212, 133, 97, 66, 3, 54, 5, 21, 5, 42, 180, 0, 31, 182, 0, 110, 162, 0, 108, 21, 5, 42]
abbrev dktX1_checksum_2 : List UInt8 := dkwX1_checksum_2 ++ dktX1_checksum_3
def dkwX1_checksum_1 : List UInt8 := [20, 0, 209, 42, 182, 0, 46, 133, 105, 42, 182, 0, 50, 133, 97, 105, 42, 182, 0, 211, 133, 97, 105, 42]
abbrev dktX1_checksum_1 : List UInt8 := dkwX1_checksum_1 ++ dktX1_checksum_2
def dkwX1_checksum_0 : List UInt8 := [42, 180, 0, 31, 3, 182, 0, 136, 76, 42, 180, 0, 31, 4, 182, 0, 136, 77, 20, 0, 209, 20, 0, 209]
abbrev dktX1_checksum_0 : List UInt8 := dkwX1_checksum_0 ++ dktX1_checksum_1
theorem dksX1_checksum_0 : cX1_checksum.data.toList.drop 0 = dktX1_checksum_0 := by decide +kernel
theorem dksX1_checksum_1 : cX1_checksum.data.toList.drop 24 = dktX1_checksum_1 := dk_seg dksX1_checksum_0 24 rfl rfl
theorem dksX1_checksum_2 : cX1_checksum.data.toList.drop 48 = dktX1_checksum_2 := dk_seg dksX1_checksum_1 24 rfl rfl
theorem dksX1_checksum_3 : cX1_checksum.data.toList.drop 72 = dktX1_checksum_3 := dk_seg dksX1_checksum_2 24 rfl rfl
theorem dksX1_checksum_4 : cX1_checksum.data.toList.drop 94 = dktX1_checksum_4 := dk_seg dksX1_checksum_3 22 rfl rfl
theorem dksX1_checksum_5 : cX1_checksum.data.toList.drop 117 = dktX1_checksum_5 := dk_seg dksX1_checksum_4 23 rfl rfl
theorem dksX1_checksum_6 : cX1_checksum.data.toList.drop 141 = dktX1_checksum_6 := dk_seg dksX1_checksum_5 24 rfl rfl
theorem dksX1_checksum_7 : cX1_checksum.data.toList.drop 165 = dktX1_checksum_7 := dk_seg dksX1_checksum_6 24 rfl rfl
theorem dX1_checksum_0 : decode cX1_checksum 0 = .ok (.aload_n 0, 1) := dk_42 (dk_at dksX1_checksum_0 0 rfl rfl)
theorem dX1_checksum_1 : decode cX1_checksum 1 = .ok (.getfield 31, 3) := dk_180 0 31 (dk_at dksX1_checksum_0 1 rfl rfl)
theorem dX1_checksum_4 : decode cX1_checksum 4 = .ok (.iconst 0, 1) := dk_3 (dk_at dksX1_checksum_0 4 rfl rfl)
theorem dX1_checksum_5 : decode cX1_checksum 5 = .ok (.invokevirtual 136, 3) := dk_182 0 136 (dk_at dksX1_checksum_0 5 rfl rfl)
theorem dX1_checksum_8 : decode cX1_checksum 8 = .ok (.astore_n 1, 1) := dk_76 (dk_at dksX1_checksum_0 8 rfl rfl)
theorem dX1_checksum_9 : decode cX1_checksum 9 = .ok (.aload_n 0, 1) := dk_42 (dk_at dksX1_checksum_0 9 rfl rfl)
theorem dX1_checksum_10 : decode cX1_checksum 10 = .ok (.getfield 31, 3) := dk_180 0 31 (dk_at dksX1_checksum_0 10 rfl rfl)
theorem dX1_checksum_13 : decode cX1_checksum 13 = .ok (.iconst 1, 1) := dk_4 (dk_at dksX1_checksum_0 13 rfl rfl)
theorem dX1_checksum_14 : decode cX1_checksum 14 = .ok (.invokevirtual 136, 3) := dk_182 0 136 (dk_at dksX1_checksum_0 14 rfl rfl)
theorem dX1_checksum_17 : decode cX1_checksum 17 = .ok (.astore_n 2, 1) := dk_77 (dk_at dksX1_checksum_0 17 rfl rfl)
theorem dX1_checksum_18 : decode cX1_checksum 18 = .ok (.ldc2_w 209, 3) := dk_20 0 209 (dk_at dksX1_checksum_0 18 rfl rfl)
theorem dX1_checksum_21 : decode cX1_checksum 21 = .ok (.ldc2_w 209, 3) := dk_20 0 209 (dk_at dksX1_checksum_0 21 rfl rfl)
theorem dX1_checksum_24 : decode cX1_checksum 24 = .ok (.ldc2_w 209, 3) := dk_20 0 209 (dk_at dksX1_checksum_1 0 rfl rfl)
theorem dX1_checksum_27 : decode cX1_checksum 27 = .ok (.aload_n 0, 1) := dk_42 (dk_at dksX1_checksum_1 3 rfl rfl)
theorem dX1_checksum_28 : decode cX1_checksum 28 = .ok (.invokevirtual 46, 3) := dk_182 0 46 (dk_at dksX1_checksum_1 4 rfl rfl)
theorem dX1_checksum_31 : decode cX1_checksum 31 = .ok (.i2l, 1) := dk_133 (dk_at dksX1_checksum_1 7 rfl rfl)
theorem dX1_checksum_32 : decode cX1_checksum 32 = .ok (.lmul, 1) := dk_105 (dk_at dksX1_checksum_1 8 rfl rfl)
theorem dX1_checksum_33 : decode cX1_checksum 33 = .ok (.aload_n 0, 1) := dk_42 (dk_at dksX1_checksum_1 9 rfl rfl)
theorem dX1_checksum_34 : decode cX1_checksum 34 = .ok (.invokevirtual 50, 3) := dk_182 0 50 (dk_at dksX1_checksum_1 10 rfl rfl)
theorem dX1_checksum_37 : decode cX1_checksum 37 = .ok (.i2l, 1) := dk_133 (dk_at dksX1_checksum_1 13 rfl rfl)
theorem dX1_checksum_38 : decode cX1_checksum 38 = .ok (.ladd, 1) := dk_97 (dk_at dksX1_checksum_1 14 rfl rfl)
theorem dX1_checksum_39 : decode cX1_checksum 39 = .ok (.lmul, 1) := dk_105 (dk_at dksX1_checksum_1 15 rfl rfl)
theorem dX1_checksum_40 : decode cX1_checksum 40 = .ok (.aload_n 0, 1) := dk_42 (dk_at dksX1_checksum_1 16 rfl rfl)
theorem dX1_checksum_41 : decode cX1_checksum 41 = .ok (.invokevirtual 211, 3) := dk_182 0 211 (dk_at dksX1_checksum_1 17 rfl rfl)
theorem dX1_checksum_44 : decode cX1_checksum 44 = .ok (.i2l, 1) := dk_133 (dk_at dksX1_checksum_1 20 rfl rfl)
theorem dX1_checksum_45 : decode cX1_checksum 45 = .ok (.ladd, 1) := dk_97 (dk_at dksX1_checksum_1 21 rfl rfl)
theorem dX1_checksum_46 : decode cX1_checksum 46 = .ok (.lmul, 1) := dk_105 (dk_at dksX1_checksum_1 22 rfl rfl)
theorem dX1_checksum_47 : decode cX1_checksum 47 = .ok (.aload_n 0, 1) := dk_42 (dk_at dksX1_checksum_1 23 rfl rfl)
theorem dX1_checksum_48 : decode cX1_checksum 48 = .ok (.invokevirtual 212, 3) := dk_182 0 212 (dk_at dksX1_checksum_2 0 rfl rfl)
theorem dX1_checksum_51 : decode cX1_checksum 51 = .ok (.i2l, 1) := dk_133 (dk_at dksX1_checksum_2 3 rfl rfl)
theorem dX1_checksum_52 : decode cX1_checksum 52 = .ok (.ladd, 1) := dk_97 (dk_at dksX1_checksum_2 4 rfl rfl)
theorem dX1_checksum_53 : decode cX1_checksum 53 = .ok (.lstore_n 3, 1) := dk_66 (dk_at dksX1_checksum_2 5 rfl rfl)
theorem dX1_checksum_54 : decode cX1_checksum 54 = .ok (.iconst 0, 1) := dk_3 (dk_at dksX1_checksum_2 6 rfl rfl)
theorem dX1_checksum_55 : decode cX1_checksum 55 = .ok (.istore 5, 2) := dk_54 5 (dk_at dksX1_checksum_2 7 rfl rfl)
theorem dX1_checksum_57 : decode cX1_checksum 57 = .ok (.iload 5, 2) := dk_21 5 (dk_at dksX1_checksum_2 9 rfl rfl)
theorem dX1_checksum_59 : decode cX1_checksum 59 = .ok (.aload_n 0, 1) := dk_42 (dk_at dksX1_checksum_2 11 rfl rfl)
theorem dX1_checksum_60 : decode cX1_checksum 60 = .ok (.getfield 31, 3) := dk_180 0 31 (dk_at dksX1_checksum_2 12 rfl rfl)
theorem dX1_checksum_63 : decode cX1_checksum 63 = .ok (.invokevirtual 110, 3) := dk_182 0 110 (dk_at dksX1_checksum_2 15 rfl rfl)
theorem dX1_checksum_66 : decode cX1_checksum 66 = .ok (.if_icmp .ge 108, 3) := dk_162 0 108 (dk_at dksX1_checksum_2 18 rfl rfl)
theorem dX1_checksum_69 : decode cX1_checksum 69 = .ok (.iload 5, 2) := dk_21 5 (dk_at dksX1_checksum_2 21 rfl rfl)
theorem dX1_checksum_71 : decode cX1_checksum 71 = .ok (.aload_n 0, 1) := dk_42 (dk_at dksX1_checksum_2 23 rfl rfl)
theorem dX1_checksum_72 : decode cX1_checksum 72 = .ok (.invokevirtual 46, 3) := dk_182 0 46 (dk_at dksX1_checksum_3 0 rfl rfl)
theorem dX1_checksum_75 : decode cX1_checksum 75 = .ok (.irem, 1) := dk_112 (dk_at dksX1_checksum_3 3 rfl rfl)
theorem dX1_checksum_76 : decode cX1_checksum 76 = .ok (.iconst 1, 1) := dk_4 (dk_at dksX1_checksum_3 4 rfl rfl)
theorem dX1_checksum_77 : decode cX1_checksum 77 = .ok (.iadd, 1) := dk_96 (dk_at dksX1_checksum_3 5 rfl rfl)
theorem dX1_checksum_78 : decode cX1_checksum 78 = .ok (.istore 6, 2) := dk_54 6 (dk_at dksX1_checksum_3 6 rfl rfl)
theorem dX1_checksum_80 : decode cX1_checksum 80 = .ok (.iload 5, 2) := dk_21 5 (dk_at dksX1_checksum_3 8 rfl rfl)
theorem dX1_checksum_82 : decode cX1_checksum 82 = .ok (.aload_n 0, 1) := dk_42 (dk_at dksX1_checksum_3 10 rfl rfl)
theorem dX1_checksum_83 : decode cX1_checksum 83 = .ok (.invokevirtual 46, 3) := dk_182 0 46 (dk_at dksX1_checksum_3 11 rfl rfl)
theorem dX1_checksum_86 : decode cX1_checksum 86 = .ok (.idiv, 1) := dk_108 (dk_at dksX1_checksum_3 14 rfl rfl)
theorem dX1_checksum_87 : decode cX1_checksum 87 = .ok (.iconst 1, 1) := dk_4 (dk_at dksX1_checksum_3 15 rfl rfl)
theorem dX1_checksum_88 : decode cX1_checksum 88 = .ok (.iadd, 1) := dk_96 (dk_at dksX1_checksum_3 16 rfl rfl)
theorem dX1_checksum_89 : decode cX1_checksum 89 = .ok (.istore 7, 2) := dk_54 7 (dk_at dksX1_checksum_3 17 rfl rfl)
theorem dX1_checksum_91 : decode cX1_checksum 91 = .ok (.ldc2_w 209, 3) := dk_20 0 209 (dk_at dksX1_checksum_3 19 rfl rfl)
theorem dX1_checksum_94 : decode cX1_checksum 94 = .ok (.ldc2_w 209, 3) := dk_20 0 209 (dk_at dksX1_checksum_4 0 rfl rfl)
theorem dX1_checksum_97 : decode cX1_checksum 97 = .ok (.ldc2_w 209, 3) := dk_20 0 209 (dk_at dksX1_checksum_4 3 rfl rfl)
theorem dX1_checksum_100 : decode cX1_checksum 100 = .ok (.ldc2_w 209, 3) := dk_20 0 209 (dk_at dksX1_checksum_4 6 rfl rfl)
theorem dX1_checksum_103 : decode cX1_checksum 103 = .ok (.lload_n 3, 1) := dk_33 (dk_at dksX1_checksum_4 9 rfl rfl)
theorem dX1_checksum_104 : decode cX1_checksum 104 = .ok (.lmul, 1) := dk_105 (dk_at dksX1_checksum_4 10 rfl rfl)
theorem dX1_checksum_105 : decode cX1_checksum 105 = .ok (.aload_n 0, 1) := dk_42 (dk_at dksX1_checksum_4 11 rfl rfl)
theorem dX1_checksum_106 : decode cX1_checksum 106 = .ok (.getfield 31, 3) := dk_180 0 31 (dk_at dksX1_checksum_4 12 rfl rfl)
theorem dX1_checksum_109 : decode cX1_checksum 109 = .ok (.getfield 64, 3) := dk_180 0 64 (dk_at dksX1_checksum_4 15 rfl rfl)
theorem dX1_checksum_112 : decode cX1_checksum 112 = .ok (.iload 5, 2) := dk_21 5 (dk_at dksX1_checksum_4 18 rfl rfl)
theorem dX1_checksum_114 : decode cX1_checksum 114 = .ok (.invokevirtual 67, 3) := dk_182 0 67 (dk_at dksX1_checksum_4 20 rfl rfl)
theorem dX1_checksum_117 : decode cX1_checksum 117 = .ok (.ifCond .eq 7, 3) := dk_153 0 7 (dk_at dksX1_checksum_5 0 rfl rfl)
theorem dX1_checksum_120 : decode cX1_checksum 120 = .ok (.iconst 1, 1) := dk_4 (dk_at dksX1_checksum_5 3 rfl rfl)
theorem dX1_checksum_121 : decode cX1_checksum 121 = .ok (.goto 4, 3) := dk_167 0 4 (dk_at dksX1_checksum_5 4 rfl rfl)
theorem dX1_checksum_124 : decode cX1_checksum 124 = .ok (.iconst 0, 1) := dk_3 (dk_at dksX1_checksum_5 7 rfl rfl)
theorem dX1_checksum_125 : decode cX1_checksum 125 = .ok (.i2l, 1) := dk_133 (dk_at dksX1_checksum_5 8 rfl rfl)
theorem dX1_checksum_126 : decode cX1_checksum 126 = .ok (.ladd, 1) := dk_97 (dk_at dksX1_checksum_5 9 rfl rfl)
theorem dX1_checksum_127 : decode cX1_checksum 127 = .ok (.lmul, 1) := dk_105 (dk_at dksX1_checksum_5 10 rfl rfl)
theorem dX1_checksum_128 : decode cX1_checksum 128 = .ok (.aload_n 1, 1) := dk_43 (dk_at dksX1_checksum_5 11 rfl rfl)
theorem dX1_checksum_129 : decode cX1_checksum 129 = .ok (.iload 7, 2) := dk_21 7 (dk_at dksX1_checksum_5 12 rfl rfl)
theorem dX1_checksum_131 : decode cX1_checksum 131 = .ok (.aaload, 1) := dk_50 (dk_at dksX1_checksum_5 14 rfl rfl)
theorem dX1_checksum_132 : decode cX1_checksum 132 = .ok (.iload 6, 2) := dk_21 6 (dk_at dksX1_checksum_5 15 rfl rfl)
theorem dX1_checksum_134 : decode cX1_checksum 134 = .ok (.saload, 1) := dk_53 (dk_at dksX1_checksum_5 17 rfl rfl)
theorem dX1_checksum_135 : decode cX1_checksum 135 = .ok (.i2l, 1) := dk_133 (dk_at dksX1_checksum_5 18 rfl rfl)
theorem dX1_checksum_136 : decode cX1_checksum 136 = .ok (.ladd, 1) := dk_97 (dk_at dksX1_checksum_5 19 rfl rfl)
theorem dX1_checksum_137 : decode cX1_checksum 137 = .ok (.lmul, 1) := dk_105 (dk_at dksX1_checksum_5 20 rfl rfl)
theorem dX1_checksum_138 : decode cX1_checksum 138 = .ok (.aload_n 2, 1) := dk_44 (dk_at dksX1_checksum_5 21 rfl rfl)
theorem dX1_checksum_139 : decode cX1_checksum 139 = .ok (.iload 7, 2) := dk_21 7 (dk_at dksX1_checksum_5 22 rfl rfl)
theorem dX1_checksum_141 : decode cX1_checksum 141 = .ok (.aaload, 1) := dk_50 (dk_at dksX1_checksum_6 0 rfl rfl)
theorem dX1_checksum_142 : decode cX1_checksum 142 = .ok (.iload 6, 2) := dk_21 6 (dk_at dksX1_checksum_6 1 rfl rfl)
theorem dX1_checksum_144 : decode cX1_checksum 144 = .ok (.saload, 1) := dk_53 (dk_at dksX1_checksum_6 3 rfl rfl)
theorem dX1_checksum_145 : decode cX1_checksum 145 = .ok (.i2l, 1) := dk_133 (dk_at dksX1_checksum_6 4 rfl rfl)
theorem dX1_checksum_146 : decode cX1_checksum 146 = .ok (.ladd, 1) := dk_97 (dk_at dksX1_checksum_6 5 rfl rfl)
theorem dX1_checksum_147 : decode cX1_checksum 147 = .ok (.lmul, 1) := dk_105 (dk_at dksX1_checksum_6 6 rfl rfl)
theorem dX1_checksum_148 : decode cX1_checksum 148 = .ok (.aload_n 0, 1) := dk_42 (dk_at dksX1_checksum_6 7 rfl rfl)
theorem dX1_checksum_149 : decode cX1_checksum 149 = .ok (.getfield 38, 3) := dk_180 0 38 (dk_at dksX1_checksum_6 8 rfl rfl)
theorem dX1_checksum_152 : decode cX1_checksum 152 = .ok (.iload 5, 2) := dk_21 5 (dk_at dksX1_checksum_6 11 rfl rfl)
theorem dX1_checksum_154 : decode cX1_checksum 154 = .ok (.invokevirtual 67, 3) := dk_182 0 67 (dk_at dksX1_checksum_6 13 rfl rfl)
theorem dX1_checksum_157 : decode cX1_checksum 157 = .ok (.ifCond .eq 7, 3) := dk_153 0 7 (dk_at dksX1_checksum_6 16 rfl rfl)
theorem dX1_checksum_160 : decode cX1_checksum 160 = .ok (.iconst 1, 1) := dk_4 (dk_at dksX1_checksum_6 19 rfl rfl)
theorem dX1_checksum_161 : decode cX1_checksum 161 = .ok (.goto 4, 3) := dk_167 0 4 (dk_at dksX1_checksum_6 20 rfl rfl)
theorem dX1_checksum_164 : decode cX1_checksum 164 = .ok (.iconst 0, 1) := dk_3 (dk_at dksX1_checksum_6 23 rfl rfl)
theorem dX1_checksum_165 : decode cX1_checksum 165 = .ok (.i2l, 1) := dk_133 (dk_at dksX1_checksum_7 0 rfl rfl)
theorem dX1_checksum_166 : decode cX1_checksum 166 = .ok (.ladd, 1) := dk_97 (dk_at dksX1_checksum_7 1 rfl rfl)
theorem dX1_checksum_167 : decode cX1_checksum 167 = .ok (.lstore_n 3, 1) := dk_66 (dk_at dksX1_checksum_7 2 rfl rfl)
theorem dX1_checksum_168 : decode cX1_checksum 168 = .ok (.iinc 5 1, 3) := dk_132 5 1 (dk_at dksX1_checksum_7 3 rfl rfl)
theorem dX1_checksum_171 : decode cX1_checksum 171 = .ok (.goto (-114), 3) := dk_167 255 142 (dk_at dksX1_checksum_7 6 rfl rfl)
theorem dX1_checksum_174 : decode cX1_checksum 174 = .ok (.lload_n 3, 1) := dk_33 (dk_at dksX1_checksum_7 9 rfl rfl)
theorem dX1_checksum_175 : decode cX1_checksum 175 = .ok (.lreturn, 1) := dk_173 (dk_at dksX1_checksum_7 10 rfl rfl)
abbrev cX1_open : ByteArray := prog_1_method_9_code
def yX1_open : MethodName := ⟨RX1, "open", "(II)I"⟩
def dkwX1_open_2 : List UInt8 := [183, 0, 28, 181, 0, 31, 42, 187, 0, 35, 89, 183, 0, 37, 181, 0, 38, 29, 172]
abbrev dktX1_open_2 : List UInt8 := dkwX1_open_2 ++ []
def dkwX1_open_1 : List UInt8 := [3, 184, 0, 42, 16, 100, 42, 182, 0, 46, 104, 42, 182, 0, 50, 96, 62, 42, 187, 0, 26, 89, 27, 28]
abbrev dktX1_open_1 : List UInt8 := dkwX1_open_1 ++ dktX1_open_2
def dkwX1_open_0 : List UInt8 := [4, 16, 32, 27, 184, 0, 15, 153, 0, 17, 4, 16, 32, 28, 184, 0, 15, 153, 0, 7, 4, 167, 0, 4]
abbrev dktX1_open_0 : List UInt8 := dkwX1_open_0 ++ dktX1_open_1
theorem dksX1_open_0 : cX1_open.data.toList.drop 0 = dktX1_open_0 := by decide +kernel
theorem dksX1_open_1 : cX1_open.data.toList.drop 24 = dktX1_open_1 := dk_seg dksX1_open_0 24 rfl rfl
theorem dksX1_open_2 : cX1_open.data.toList.drop 48 = dktX1_open_2 := dk_seg dksX1_open_1 24 rfl rfl
theorem dX1_open_0 : decode cX1_open 0 = .ok (.iconst 1, 1) := dk_4 (dk_at dksX1_open_0 0 rfl rfl)
theorem dX1_open_1 : decode cX1_open 1 = .ok (.bipush 32, 2) := dk_16 32 (dk_at dksX1_open_0 1 rfl rfl)
theorem dX1_open_3 : decode cX1_open 3 = .ok (.iload_n 1, 1) := dk_27 (dk_at dksX1_open_0 3 rfl rfl)
theorem dX1_open_4 : decode cX1_open 4 = .ok (.invokestatic 15, 3) := dk_184 0 15 (dk_at dksX1_open_0 4 rfl rfl)
theorem dX1_open_7 : decode cX1_open 7 = .ok (.ifCond .eq 17, 3) := dk_153 0 17 (dk_at dksX1_open_0 7 rfl rfl)
theorem dX1_open_10 : decode cX1_open 10 = .ok (.iconst 1, 1) := dk_4 (dk_at dksX1_open_0 10 rfl rfl)
theorem dX1_open_11 : decode cX1_open 11 = .ok (.bipush 32, 2) := dk_16 32 (dk_at dksX1_open_0 11 rfl rfl)
theorem dX1_open_13 : decode cX1_open 13 = .ok (.iload_n 2, 1) := dk_28 (dk_at dksX1_open_0 13 rfl rfl)
theorem dX1_open_14 : decode cX1_open 14 = .ok (.invokestatic 15, 3) := dk_184 0 15 (dk_at dksX1_open_0 14 rfl rfl)
theorem dX1_open_17 : decode cX1_open 17 = .ok (.ifCond .eq 7, 3) := dk_153 0 7 (dk_at dksX1_open_0 17 rfl rfl)
theorem dX1_open_20 : decode cX1_open 20 = .ok (.iconst 1, 1) := dk_4 (dk_at dksX1_open_0 20 rfl rfl)
theorem dX1_open_21 : decode cX1_open 21 = .ok (.goto 4, 3) := dk_167 0 4 (dk_at dksX1_open_0 21 rfl rfl)
theorem dX1_open_24 : decode cX1_open 24 = .ok (.iconst 0, 1) := dk_3 (dk_at dksX1_open_1 0 rfl rfl)
theorem dX1_open_25 : decode cX1_open 25 = .ok (.invokestatic 42, 3) := dk_184 0 42 (dk_at dksX1_open_1 1 rfl rfl)
theorem dX1_open_28 : decode cX1_open 28 = .ok (.bipush 100, 2) := dk_16 100 (dk_at dksX1_open_1 4 rfl rfl)
theorem dX1_open_30 : decode cX1_open 30 = .ok (.aload_n 0, 1) := dk_42 (dk_at dksX1_open_1 6 rfl rfl)
theorem dX1_open_31 : decode cX1_open 31 = .ok (.invokevirtual 46, 3) := dk_182 0 46 (dk_at dksX1_open_1 7 rfl rfl)
theorem dX1_open_34 : decode cX1_open 34 = .ok (.imul, 1) := dk_104 (dk_at dksX1_open_1 10 rfl rfl)
theorem dX1_open_35 : decode cX1_open 35 = .ok (.aload_n 0, 1) := dk_42 (dk_at dksX1_open_1 11 rfl rfl)
theorem dX1_open_36 : decode cX1_open 36 = .ok (.invokevirtual 50, 3) := dk_182 0 50 (dk_at dksX1_open_1 12 rfl rfl)
theorem dX1_open_39 : decode cX1_open 39 = .ok (.iadd, 1) := dk_96 (dk_at dksX1_open_1 15 rfl rfl)
theorem dX1_open_40 : decode cX1_open 40 = .ok (.istore_n 3, 1) := dk_62 (dk_at dksX1_open_1 16 rfl rfl)
theorem dX1_open_41 : decode cX1_open 41 = .ok (.aload_n 0, 1) := dk_42 (dk_at dksX1_open_1 17 rfl rfl)
theorem dX1_open_42 : decode cX1_open 42 = .ok (.new 26, 3) := dk_187 0 26 (dk_at dksX1_open_1 18 rfl rfl)
theorem dX1_open_45 : decode cX1_open 45 = .ok (.dup, 1) := dk_89 (dk_at dksX1_open_1 21 rfl rfl)
theorem dX1_open_46 : decode cX1_open 46 = .ok (.iload_n 1, 1) := dk_27 (dk_at dksX1_open_1 22 rfl rfl)
theorem dX1_open_47 : decode cX1_open 47 = .ok (.iload_n 2, 1) := dk_28 (dk_at dksX1_open_1 23 rfl rfl)
theorem dX1_open_48 : decode cX1_open 48 = .ok (.invokespecial 28, 3) := dk_183 0 28 (dk_at dksX1_open_2 0 rfl rfl)
theorem dX1_open_51 : decode cX1_open 51 = .ok (.putfield 31, 3) := dk_181 0 31 (dk_at dksX1_open_2 3 rfl rfl)
theorem dX1_open_54 : decode cX1_open 54 = .ok (.aload_n 0, 1) := dk_42 (dk_at dksX1_open_2 6 rfl rfl)
theorem dX1_open_55 : decode cX1_open 55 = .ok (.new 35, 3) := dk_187 0 35 (dk_at dksX1_open_2 7 rfl rfl)
theorem dX1_open_58 : decode cX1_open 58 = .ok (.dup, 1) := dk_89 (dk_at dksX1_open_2 10 rfl rfl)
theorem dX1_open_59 : decode cX1_open 59 = .ok (.invokespecial 37, 3) := dk_183 0 37 (dk_at dksX1_open_2 11 rfl rfl)
theorem dX1_open_62 : decode cX1_open 62 = .ok (.putfield 38, 3) := dk_181 0 38 (dk_at dksX1_open_2 14 rfl rfl)
theorem dX1_open_65 : decode cX1_open 65 = .ok (.iload_n 3, 1) := dk_29 (dk_at dksX1_open_2 17 rfl rfl)
theorem dX1_open_66 : decode cX1_open 66 = .ok (.ireturn, 1) := dk_172 (dk_at dksX1_open_2 18 rfl rfl)
abbrev cX1_checkArgument : ByteArray := prog_1_method_3_code
def yX1_checkArgument : MethodName := ⟨RX1, "checkArgument", "(Z)V"⟩
def dkwX1_checkArgument_0 : List UInt8 := [26, 154, 0, 11, 187, 0, 7, 89, 183, 0, 9, 191, 177]
abbrev dktX1_checkArgument_0 : List UInt8 := dkwX1_checkArgument_0 ++ []
theorem dksX1_checkArgument_0 : cX1_checkArgument.data.toList.drop 0 = dktX1_checkArgument_0 := by decide +kernel
theorem dX1_checkArgument_0 : decode cX1_checkArgument 0 = .ok (.iload_n 0, 1) := dk_26 (dk_at dksX1_checkArgument_0 0 rfl rfl)
theorem dX1_checkArgument_1 : decode cX1_checkArgument 1 = .ok (.ifCond .ne 11, 3) := dk_154 0 11 (dk_at dksX1_checkArgument_0 1 rfl rfl)
theorem dX1_checkArgument_4 : decode cX1_checkArgument 4 = .ok (.new 7, 3) := dk_187 0 7 (dk_at dksX1_checkArgument_0 4 rfl rfl)
theorem dX1_checkArgument_7 : decode cX1_checkArgument 7 = .ok (.dup, 1) := dk_89 (dk_at dksX1_checkArgument_0 7 rfl rfl)
theorem dX1_checkArgument_8 : decode cX1_checkArgument 8 = .ok (.invokespecial 9, 3) := dk_183 0 9 (dk_at dksX1_checkArgument_0 8 rfl rfl)
theorem dX1_checkArgument_11 : decode cX1_checkArgument 11 = .ok (.athrow, 1) := dk_191 (dk_at dksX1_checkArgument_0 11 rfl rfl)
theorem dX1_checkArgument_12 : decode cX1_checkArgument 12 = .ok (.return_, 1) := dk_177 (dk_at dksX1_checkArgument_0 12 rfl rfl)
abbrev cX1_set : ByteArray := prog_1_method_12_code
def yX1_set : MethodName := ⟨RX1, "set", "(IIZ)Z"⟩
def dkwX1_set_1 : List UInt8 := [180, 0, 31, 180, 0, 64, 21, 4, 29, 182, 0, 71, 21, 5, 172]
abbrev dktX1_set_1 : List UInt8 := dkwX1_set_1 ++ []
def dkwX1_set_0 : List UInt8 := [42, 27, 28, 182, 0, 60, 54, 4, 42, 180, 0, 31, 180, 0, 64, 21, 4, 182, 0, 67, 54, 5, 42]
abbrev dktX1_set_0 : List UInt8 := dkwX1_set_0 ++ dktX1_set_1
theorem dksX1_set_0 : cX1_set.data.toList.drop 0 = dktX1_set_0 := by decide +kernel
theorem dksX1_set_1 : cX1_set.data.toList.drop 23 = dktX1_set_1 := dk_seg dksX1_set_0 23 rfl rfl
theorem dX1_set_0 : decode cX1_set 0 = .ok (.aload_n 0, 1) := dk_42 (dk_at dksX1_set_0 0 rfl rfl)
theorem dX1_set_1 : decode cX1_set 1 = .ok (.iload_n 1, 1) := dk_27 (dk_at dksX1_set_0 1 rfl rfl)
theorem dX1_set_2 : decode cX1_set 2 = .ok (.iload_n 2, 1) := dk_28 (dk_at dksX1_set_0 2 rfl rfl)
theorem dX1_set_3 : decode cX1_set 3 = .ok (.invokevirtual 60, 3) := dk_182 0 60 (dk_at dksX1_set_0 3 rfl rfl)
theorem dX1_set_6 : decode cX1_set 6 = .ok (.istore 4, 2) := dk_54 4 (dk_at dksX1_set_0 6 rfl rfl)
theorem dX1_set_8 : decode cX1_set 8 = .ok (.aload_n 0, 1) := dk_42 (dk_at dksX1_set_0 8 rfl rfl)
theorem dX1_set_9 : decode cX1_set 9 = .ok (.getfield 31, 3) := dk_180 0 31 (dk_at dksX1_set_0 9 rfl rfl)
theorem dX1_set_12 : decode cX1_set 12 = .ok (.getfield 64, 3) := dk_180 0 64 (dk_at dksX1_set_0 12 rfl rfl)
theorem dX1_set_15 : decode cX1_set 15 = .ok (.iload 4, 2) := dk_21 4 (dk_at dksX1_set_0 15 rfl rfl)
theorem dX1_set_17 : decode cX1_set 17 = .ok (.invokevirtual 67, 3) := dk_182 0 67 (dk_at dksX1_set_0 17 rfl rfl)
theorem dX1_set_20 : decode cX1_set 20 = .ok (.istore 5, 2) := dk_54 5 (dk_at dksX1_set_0 20 rfl rfl)
theorem dX1_set_22 : decode cX1_set 22 = .ok (.aload_n 0, 1) := dk_42 (dk_at dksX1_set_0 22 rfl rfl)
theorem dX1_set_23 : decode cX1_set 23 = .ok (.getfield 31, 3) := dk_180 0 31 (dk_at dksX1_set_1 0 rfl rfl)
theorem dX1_set_26 : decode cX1_set 26 = .ok (.getfield 64, 3) := dk_180 0 64 (dk_at dksX1_set_1 3 rfl rfl)
theorem dX1_set_29 : decode cX1_set 29 = .ok (.iload 4, 2) := dk_21 4 (dk_at dksX1_set_1 6 rfl rfl)
theorem dX1_set_31 : decode cX1_set 31 = .ok (.iload_n 3, 1) := dk_29 (dk_at dksX1_set_1 8 rfl rfl)
theorem dX1_set_32 : decode cX1_set 32 = .ok (.invokevirtual 71, 3) := dk_182 0 71 (dk_at dksX1_set_1 9 rfl rfl)
theorem dX1_set_35 : decode cX1_set 35 = .ok (.iload 5, 2) := dk_21 5 (dk_at dksX1_set_1 12 rfl rfl)
theorem dX1_set_37 : decode cX1_set 37 = .ok (.ireturn, 1) := dk_172 (dk_at dksX1_set_1 14 rfl rfl)
abbrev cX1_cellAt : ByteArray := prog_1_method_10_code
def yX1_cellAt : MethodName := ⟨RX1, "cellAt", "(II)I"⟩
def dkwX1_cellAt_0 : List UInt8 := [42, 180, 0, 31, 27, 28, 182, 0, 53, 184, 0, 57, 28, 42, 182, 0, 46, 104, 27, 96, 172]
abbrev dktX1_cellAt_0 : List UInt8 := dkwX1_cellAt_0 ++ []
theorem dksX1_cellAt_0 : cX1_cellAt.data.toList.drop 0 = dktX1_cellAt_0 := by decide +kernel
theorem dX1_cellAt_0 : decode cX1_cellAt 0 = .ok (.aload_n 0, 1) := dk_42 (dk_at dksX1_cellAt_0 0 rfl rfl)
theorem dX1_cellAt_1 : decode cX1_cellAt 1 = .ok (.getfield 31, 3) := dk_180 0 31 (dk_at dksX1_cellAt_0 1 rfl rfl)
theorem dX1_cellAt_4 : decode cX1_cellAt 4 = .ok (.iload_n 1, 1) := dk_27 (dk_at dksX1_cellAt_0 4 rfl rfl)
theorem dX1_cellAt_5 : decode cX1_cellAt 5 = .ok (.iload_n 2, 1) := dk_28 (dk_at dksX1_cellAt_0 5 rfl rfl)
theorem dX1_cellAt_6 : decode cX1_cellAt 6 = .ok (.invokevirtual 53, 3) := dk_182 0 53 (dk_at dksX1_cellAt_0 6 rfl rfl)
theorem dX1_cellAt_9 : decode cX1_cellAt 9 = .ok (.invokestatic 57, 3) := dk_184 0 57 (dk_at dksX1_cellAt_0 9 rfl rfl)
theorem dX1_cellAt_12 : decode cX1_cellAt 12 = .ok (.iload_n 2, 1) := dk_28 (dk_at dksX1_cellAt_0 12 rfl rfl)
theorem dX1_cellAt_13 : decode cX1_cellAt 13 = .ok (.aload_n 0, 1) := dk_42 (dk_at dksX1_cellAt_0 13 rfl rfl)
theorem dX1_cellAt_14 : decode cX1_cellAt 14 = .ok (.invokevirtual 46, 3) := dk_182 0 46 (dk_at dksX1_cellAt_0 14 rfl rfl)
theorem dX1_cellAt_17 : decode cX1_cellAt 17 = .ok (.imul, 1) := dk_104 (dk_at dksX1_cellAt_0 17 rfl rfl)
theorem dX1_cellAt_18 : decode cX1_cellAt 18 = .ok (.iload_n 1, 1) := dk_27 (dk_at dksX1_cellAt_0 18 rfl rfl)
theorem dX1_cellAt_19 : decode cX1_cellAt 19 = .ok (.iadd, 1) := dk_96 (dk_at dksX1_cellAt_0 19 rfl rfl)
theorem dX1_cellAt_20 : decode cX1_cellAt 20 = .ok (.ireturn, 1) := dk_172 (dk_at dksX1_cellAt_0 20 rfl rfl)
abbrev cX1_line : ByteArray := prog_1_method_13_code
def yX1_line : MethodName := ⟨RX1, "line", "(IIIIZ)I"⟩
def dkwX1_line_2 : List UInt8 := [180, 0, 31, 21, 5, 182, 0, 83, 182, 0, 87, 42, 180, 0, 31, 25, 6, 180, 0, 64, 182, 0, 91, 172]
abbrev dktX1_line_2 : List UInt8 := dkwX1_line_2 ++ []
def dkwX1_line_1 : List UInt8 := [184, 0, 42, 42, 180, 0, 31, 182, 0, 79, 58, 6, 42, 180, 0, 31, 27, 28, 29, 21, 4, 42]
abbrev dktX1_line_1 : List UInt8 := dkwX1_line_1 ++ dktX1_line_2
def dkwX1_line_0 : List UInt8 := [7, 188, 10, 89, 3, 27, 79, 89, 4, 28, 79, 89, 5, 29, 79, 89, 6, 21, 4, 79, 184, 0, 75]
abbrev dktX1_line_0 : List UInt8 := dkwX1_line_0 ++ dktX1_line_1
theorem dksX1_line_0 : cX1_line.data.toList.drop 0 = dktX1_line_0 := by decide +kernel
theorem dksX1_line_1 : cX1_line.data.toList.drop 23 = dktX1_line_1 := dk_seg dksX1_line_0 23 rfl rfl
theorem dksX1_line_2 : cX1_line.data.toList.drop 45 = dktX1_line_2 := dk_seg dksX1_line_1 22 rfl rfl
theorem dX1_line_0 : decode cX1_line 0 = .ok (.iconst 4, 1) := dk_7 (dk_at dksX1_line_0 0 rfl rfl)
theorem dX1_line_1 : decode cX1_line 1 = .ok (.newarray .int, 2) := dk_188_10 (dk_at dksX1_line_0 1 rfl rfl)
theorem dX1_line_3 : decode cX1_line 3 = .ok (.dup, 1) := dk_89 (dk_at dksX1_line_0 3 rfl rfl)
theorem dX1_line_4 : decode cX1_line 4 = .ok (.iconst 0, 1) := dk_3 (dk_at dksX1_line_0 4 rfl rfl)
theorem dX1_line_5 : decode cX1_line 5 = .ok (.iload_n 1, 1) := dk_27 (dk_at dksX1_line_0 5 rfl rfl)
theorem dX1_line_6 : decode cX1_line 6 = .ok (.iastore, 1) := dk_79 (dk_at dksX1_line_0 6 rfl rfl)
theorem dX1_line_7 : decode cX1_line 7 = .ok (.dup, 1) := dk_89 (dk_at dksX1_line_0 7 rfl rfl)
theorem dX1_line_8 : decode cX1_line 8 = .ok (.iconst 1, 1) := dk_4 (dk_at dksX1_line_0 8 rfl rfl)
theorem dX1_line_9 : decode cX1_line 9 = .ok (.iload_n 2, 1) := dk_28 (dk_at dksX1_line_0 9 rfl rfl)
theorem dX1_line_10 : decode cX1_line 10 = .ok (.iastore, 1) := dk_79 (dk_at dksX1_line_0 10 rfl rfl)
theorem dX1_line_11 : decode cX1_line 11 = .ok (.dup, 1) := dk_89 (dk_at dksX1_line_0 11 rfl rfl)
theorem dX1_line_12 : decode cX1_line 12 = .ok (.iconst 2, 1) := dk_5 (dk_at dksX1_line_0 12 rfl rfl)
theorem dX1_line_13 : decode cX1_line 13 = .ok (.iload_n 3, 1) := dk_29 (dk_at dksX1_line_0 13 rfl rfl)
theorem dX1_line_14 : decode cX1_line 14 = .ok (.iastore, 1) := dk_79 (dk_at dksX1_line_0 14 rfl rfl)
theorem dX1_line_15 : decode cX1_line 15 = .ok (.dup, 1) := dk_89 (dk_at dksX1_line_0 15 rfl rfl)
theorem dX1_line_16 : decode cX1_line 16 = .ok (.iconst 3, 1) := dk_6 (dk_at dksX1_line_0 16 rfl rfl)
theorem dX1_line_17 : decode cX1_line 17 = .ok (.iload 4, 2) := dk_21 4 (dk_at dksX1_line_0 17 rfl rfl)
theorem dX1_line_19 : decode cX1_line 19 = .ok (.iastore, 1) := dk_79 (dk_at dksX1_line_0 19 rfl rfl)
theorem dX1_line_20 : decode cX1_line 20 = .ok (.invokestatic 75, 3) := dk_184 0 75 (dk_at dksX1_line_0 20 rfl rfl)
theorem dX1_line_23 : decode cX1_line 23 = .ok (.invokestatic 42, 3) := dk_184 0 42 (dk_at dksX1_line_1 0 rfl rfl)
theorem dX1_line_26 : decode cX1_line 26 = .ok (.aload_n 0, 1) := dk_42 (dk_at dksX1_line_1 3 rfl rfl)
theorem dX1_line_27 : decode cX1_line 27 = .ok (.getfield 31, 3) := dk_180 0 31 (dk_at dksX1_line_1 4 rfl rfl)
theorem dX1_line_30 : decode cX1_line 30 = .ok (.invokevirtual 79, 3) := dk_182 0 79 (dk_at dksX1_line_1 7 rfl rfl)
theorem dX1_line_33 : decode cX1_line 33 = .ok (.astore 6, 2) := dk_58 6 (dk_at dksX1_line_1 10 rfl rfl)
theorem dX1_line_35 : decode cX1_line 35 = .ok (.aload_n 0, 1) := dk_42 (dk_at dksX1_line_1 12 rfl rfl)
theorem dX1_line_36 : decode cX1_line 36 = .ok (.getfield 31, 3) := dk_180 0 31 (dk_at dksX1_line_1 13 rfl rfl)
theorem dX1_line_39 : decode cX1_line 39 = .ok (.iload_n 1, 1) := dk_27 (dk_at dksX1_line_1 16 rfl rfl)
theorem dX1_line_40 : decode cX1_line 40 = .ok (.iload_n 2, 1) := dk_28 (dk_at dksX1_line_1 17 rfl rfl)
theorem dX1_line_41 : decode cX1_line 41 = .ok (.iload_n 3, 1) := dk_29 (dk_at dksX1_line_1 18 rfl rfl)
theorem dX1_line_42 : decode cX1_line 42 = .ok (.iload 4, 2) := dk_21 4 (dk_at dksX1_line_1 19 rfl rfl)
theorem dX1_line_44 : decode cX1_line 44 = .ok (.aload_n 0, 1) := dk_42 (dk_at dksX1_line_1 21 rfl rfl)
theorem dX1_line_45 : decode cX1_line 45 = .ok (.getfield 31, 3) := dk_180 0 31 (dk_at dksX1_line_2 0 rfl rfl)
theorem dX1_line_48 : decode cX1_line 48 = .ok (.iload 5, 2) := dk_21 5 (dk_at dksX1_line_2 3 rfl rfl)
theorem dX1_line_50 : decode cX1_line 50 = .ok (.invokevirtual 83, 3) := dk_182 0 83 (dk_at dksX1_line_2 5 rfl rfl)
theorem dX1_line_53 : decode cX1_line 53 = .ok (.invokevirtual 87, 3) := dk_182 0 87 (dk_at dksX1_line_2 8 rfl rfl)
theorem dX1_line_56 : decode cX1_line 56 = .ok (.aload_n 0, 1) := dk_42 (dk_at dksX1_line_2 11 rfl rfl)
theorem dX1_line_57 : decode cX1_line 57 = .ok (.getfield 31, 3) := dk_180 0 31 (dk_at dksX1_line_2 12 rfl rfl)
theorem dX1_line_60 : decode cX1_line 60 = .ok (.aload 6, 2) := dk_25 6 (dk_at dksX1_line_2 15 rfl rfl)
theorem dX1_line_62 : decode cX1_line 62 = .ok (.getfield 64, 3) := dk_180 0 64 (dk_at dksX1_line_2 17 rfl rfl)
theorem dX1_line_65 : decode cX1_line 65 = .ok (.invokevirtual 91, 3) := dk_182 0 91 (dk_at dksX1_line_2 20 rfl rfl)
theorem dX1_line_68 : decode cX1_line 68 = .ok (.ireturn, 1) := dk_172 (dk_at dksX1_line_2 23 rfl rfl)
abbrev cX1_arePlaces : ByteArray := prog_1_method_5_code
def yX1_arePlaces : MethodName := ⟨RX1, "arePlaces", "([I)Z"⟩
def dkwX1_arePlaces_1 : List UInt8 := [16, 216, 16, 72, 21, 5, 184, 0, 15, 126, 60, 132, 4, 1, 167, 255, 229, 27, 172]
abbrev dktX1_arePlaces_1 : List UInt8 := dkwX1_arePlaces_1 ++ []
def dkwX1_arePlaces_0 : List UInt8 := [4, 60, 42, 77, 44, 190, 62, 3, 54, 4, 21, 4, 29, 162, 0, 27, 44, 21, 4, 46, 54, 5, 27]
abbrev dktX1_arePlaces_0 : List UInt8 := dkwX1_arePlaces_0 ++ dktX1_arePlaces_1
theorem dksX1_arePlaces_0 : cX1_arePlaces.data.toList.drop 0 = dktX1_arePlaces_0 := by decide +kernel
theorem dksX1_arePlaces_1 : cX1_arePlaces.data.toList.drop 23 = dktX1_arePlaces_1 := dk_seg dksX1_arePlaces_0 23 rfl rfl
theorem dX1_arePlaces_0 : decode cX1_arePlaces 0 = .ok (.iconst 1, 1) := dk_4 (dk_at dksX1_arePlaces_0 0 rfl rfl)
theorem dX1_arePlaces_1 : decode cX1_arePlaces 1 = .ok (.istore_n 1, 1) := dk_60 (dk_at dksX1_arePlaces_0 1 rfl rfl)
theorem dX1_arePlaces_2 : decode cX1_arePlaces 2 = .ok (.aload_n 0, 1) := dk_42 (dk_at dksX1_arePlaces_0 2 rfl rfl)
theorem dX1_arePlaces_3 : decode cX1_arePlaces 3 = .ok (.astore_n 2, 1) := dk_77 (dk_at dksX1_arePlaces_0 3 rfl rfl)
theorem dX1_arePlaces_4 : decode cX1_arePlaces 4 = .ok (.aload_n 2, 1) := dk_44 (dk_at dksX1_arePlaces_0 4 rfl rfl)
theorem dX1_arePlaces_5 : decode cX1_arePlaces 5 = .ok (.arraylength, 1) := dk_190 (dk_at dksX1_arePlaces_0 5 rfl rfl)
theorem dX1_arePlaces_6 : decode cX1_arePlaces 6 = .ok (.istore_n 3, 1) := dk_62 (dk_at dksX1_arePlaces_0 6 rfl rfl)
theorem dX1_arePlaces_7 : decode cX1_arePlaces 7 = .ok (.iconst 0, 1) := dk_3 (dk_at dksX1_arePlaces_0 7 rfl rfl)
theorem dX1_arePlaces_8 : decode cX1_arePlaces 8 = .ok (.istore 4, 2) := dk_54 4 (dk_at dksX1_arePlaces_0 8 rfl rfl)
theorem dX1_arePlaces_10 : decode cX1_arePlaces 10 = .ok (.iload 4, 2) := dk_21 4 (dk_at dksX1_arePlaces_0 10 rfl rfl)
theorem dX1_arePlaces_12 : decode cX1_arePlaces 12 = .ok (.iload_n 3, 1) := dk_29 (dk_at dksX1_arePlaces_0 12 rfl rfl)
theorem dX1_arePlaces_13 : decode cX1_arePlaces 13 = .ok (.if_icmp .ge 27, 3) := dk_162 0 27 (dk_at dksX1_arePlaces_0 13 rfl rfl)
theorem dX1_arePlaces_16 : decode cX1_arePlaces 16 = .ok (.aload_n 2, 1) := dk_44 (dk_at dksX1_arePlaces_0 16 rfl rfl)
theorem dX1_arePlaces_17 : decode cX1_arePlaces 17 = .ok (.iload 4, 2) := dk_21 4 (dk_at dksX1_arePlaces_0 17 rfl rfl)
theorem dX1_arePlaces_19 : decode cX1_arePlaces 19 = .ok (.iaload, 1) := dk_46 (dk_at dksX1_arePlaces_0 19 rfl rfl)
theorem dX1_arePlaces_20 : decode cX1_arePlaces 20 = .ok (.istore 5, 2) := dk_54 5 (dk_at dksX1_arePlaces_0 20 rfl rfl)
theorem dX1_arePlaces_22 : decode cX1_arePlaces 22 = .ok (.iload_n 1, 1) := dk_27 (dk_at dksX1_arePlaces_0 22 rfl rfl)
theorem dX1_arePlaces_23 : decode cX1_arePlaces 23 = .ok (.bipush (-40), 2) := dk_16 216 (dk_at dksX1_arePlaces_1 0 rfl rfl)
theorem dX1_arePlaces_25 : decode cX1_arePlaces 25 = .ok (.bipush 72, 2) := dk_16 72 (dk_at dksX1_arePlaces_1 2 rfl rfl)
theorem dX1_arePlaces_27 : decode cX1_arePlaces 27 = .ok (.iload 5, 2) := dk_21 5 (dk_at dksX1_arePlaces_1 4 rfl rfl)
theorem dX1_arePlaces_29 : decode cX1_arePlaces 29 = .ok (.invokestatic 15, 3) := dk_184 0 15 (dk_at dksX1_arePlaces_1 6 rfl rfl)
theorem dX1_arePlaces_32 : decode cX1_arePlaces 32 = .ok (.iand, 1) := dk_126 (dk_at dksX1_arePlaces_1 9 rfl rfl)
theorem dX1_arePlaces_33 : decode cX1_arePlaces 33 = .ok (.istore_n 1, 1) := dk_60 (dk_at dksX1_arePlaces_1 10 rfl rfl)
theorem dX1_arePlaces_34 : decode cX1_arePlaces 34 = .ok (.iinc 4 1, 3) := dk_132 4 1 (dk_at dksX1_arePlaces_1 11 rfl rfl)
theorem dX1_arePlaces_37 : decode cX1_arePlaces 37 = .ok (.goto (-27), 3) := dk_167 255 229 (dk_at dksX1_arePlaces_1 14 rfl rfl)
theorem dX1_arePlaces_40 : decode cX1_arePlaces 40 = .ok (.iload_n 1, 1) := dk_27 (dk_at dksX1_arePlaces_1 17 rfl rfl)
theorem dX1_arePlaces_41 : decode cX1_arePlaces 41 = .ok (.ireturn, 1) := dk_172 (dk_at dksX1_arePlaces_1 18 rfl rfl)
abbrev cX1_circle : ByteArray := prog_1_method_14_code
def yX1_circle : MethodName := ⟨RX1, "circle", "(IIIZ)I"⟩
def dkwX1_circle_3 : List UInt8 := [182, 0, 91, 172]
abbrev dktX1_circle_3 : List UInt8 := dkwX1_circle_3 ++ []
def dkwX1_circle_2 : List UInt8 := [27, 28, 29, 42, 180, 0, 31, 21, 4, 182, 0, 83, 182, 0, 95, 42, 180, 0, 31, 25, 5, 180, 0, 64]
abbrev dktX1_circle_2 : List UInt8 := dkwX1_circle_2 ++ dktX1_circle_3
def dkwX1_circle_1 : List UInt8 := [153, 0, 7, 4, 167, 0, 4, 3, 184, 0, 42, 42, 180, 0, 31, 182, 0, 79, 58, 5, 42, 180, 0, 31]
abbrev dktX1_circle_1 : List UInt8 := dkwX1_circle_1 ++ dktX1_circle_2
def dkwX1_circle_0 : List UInt8 := [5, 188, 10, 89, 3, 27, 79, 89, 4, 28, 79, 184, 0, 75, 153, 0, 17, 3, 16, 40, 29, 184, 0, 15]
abbrev dktX1_circle_0 : List UInt8 := dkwX1_circle_0 ++ dktX1_circle_1
theorem dksX1_circle_0 : cX1_circle.data.toList.drop 0 = dktX1_circle_0 := by decide +kernel
theorem dksX1_circle_1 : cX1_circle.data.toList.drop 24 = dktX1_circle_1 := dk_seg dksX1_circle_0 24 rfl rfl
theorem dksX1_circle_2 : cX1_circle.data.toList.drop 48 = dktX1_circle_2 := dk_seg dksX1_circle_1 24 rfl rfl
theorem dksX1_circle_3 : cX1_circle.data.toList.drop 72 = dktX1_circle_3 := dk_seg dksX1_circle_2 24 rfl rfl
theorem dX1_circle_0 : decode cX1_circle 0 = .ok (.iconst 2, 1) := dk_5 (dk_at dksX1_circle_0 0 rfl rfl)
theorem dX1_circle_1 : decode cX1_circle 1 = .ok (.newarray .int, 2) := dk_188_10 (dk_at dksX1_circle_0 1 rfl rfl)
theorem dX1_circle_3 : decode cX1_circle 3 = .ok (.dup, 1) := dk_89 (dk_at dksX1_circle_0 3 rfl rfl)
theorem dX1_circle_4 : decode cX1_circle 4 = .ok (.iconst 0, 1) := dk_3 (dk_at dksX1_circle_0 4 rfl rfl)
theorem dX1_circle_5 : decode cX1_circle 5 = .ok (.iload_n 1, 1) := dk_27 (dk_at dksX1_circle_0 5 rfl rfl)
theorem dX1_circle_6 : decode cX1_circle 6 = .ok (.iastore, 1) := dk_79 (dk_at dksX1_circle_0 6 rfl rfl)
theorem dX1_circle_7 : decode cX1_circle 7 = .ok (.dup, 1) := dk_89 (dk_at dksX1_circle_0 7 rfl rfl)
theorem dX1_circle_8 : decode cX1_circle 8 = .ok (.iconst 1, 1) := dk_4 (dk_at dksX1_circle_0 8 rfl rfl)
theorem dX1_circle_9 : decode cX1_circle 9 = .ok (.iload_n 2, 1) := dk_28 (dk_at dksX1_circle_0 9 rfl rfl)
theorem dX1_circle_10 : decode cX1_circle 10 = .ok (.iastore, 1) := dk_79 (dk_at dksX1_circle_0 10 rfl rfl)
theorem dX1_circle_11 : decode cX1_circle 11 = .ok (.invokestatic 75, 3) := dk_184 0 75 (dk_at dksX1_circle_0 11 rfl rfl)
theorem dX1_circle_14 : decode cX1_circle 14 = .ok (.ifCond .eq 17, 3) := dk_153 0 17 (dk_at dksX1_circle_0 14 rfl rfl)
theorem dX1_circle_17 : decode cX1_circle 17 = .ok (.iconst 0, 1) := dk_3 (dk_at dksX1_circle_0 17 rfl rfl)
theorem dX1_circle_18 : decode cX1_circle 18 = .ok (.bipush 40, 2) := dk_16 40 (dk_at dksX1_circle_0 18 rfl rfl)
theorem dX1_circle_20 : decode cX1_circle 20 = .ok (.iload_n 3, 1) := dk_29 (dk_at dksX1_circle_0 20 rfl rfl)
theorem dX1_circle_21 : decode cX1_circle 21 = .ok (.invokestatic 15, 3) := dk_184 0 15 (dk_at dksX1_circle_0 21 rfl rfl)
theorem dX1_circle_24 : decode cX1_circle 24 = .ok (.ifCond .eq 7, 3) := dk_153 0 7 (dk_at dksX1_circle_1 0 rfl rfl)
theorem dX1_circle_27 : decode cX1_circle 27 = .ok (.iconst 1, 1) := dk_4 (dk_at dksX1_circle_1 3 rfl rfl)
theorem dX1_circle_28 : decode cX1_circle 28 = .ok (.goto 4, 3) := dk_167 0 4 (dk_at dksX1_circle_1 4 rfl rfl)
theorem dX1_circle_31 : decode cX1_circle 31 = .ok (.iconst 0, 1) := dk_3 (dk_at dksX1_circle_1 7 rfl rfl)
theorem dX1_circle_32 : decode cX1_circle 32 = .ok (.invokestatic 42, 3) := dk_184 0 42 (dk_at dksX1_circle_1 8 rfl rfl)
theorem dX1_circle_35 : decode cX1_circle 35 = .ok (.aload_n 0, 1) := dk_42 (dk_at dksX1_circle_1 11 rfl rfl)
theorem dX1_circle_36 : decode cX1_circle 36 = .ok (.getfield 31, 3) := dk_180 0 31 (dk_at dksX1_circle_1 12 rfl rfl)
theorem dX1_circle_39 : decode cX1_circle 39 = .ok (.invokevirtual 79, 3) := dk_182 0 79 (dk_at dksX1_circle_1 15 rfl rfl)
theorem dX1_circle_42 : decode cX1_circle 42 = .ok (.astore 5, 2) := dk_58 5 (dk_at dksX1_circle_1 18 rfl rfl)
theorem dX1_circle_44 : decode cX1_circle 44 = .ok (.aload_n 0, 1) := dk_42 (dk_at dksX1_circle_1 20 rfl rfl)
theorem dX1_circle_45 : decode cX1_circle 45 = .ok (.getfield 31, 3) := dk_180 0 31 (dk_at dksX1_circle_1 21 rfl rfl)
theorem dX1_circle_48 : decode cX1_circle 48 = .ok (.iload_n 1, 1) := dk_27 (dk_at dksX1_circle_2 0 rfl rfl)
theorem dX1_circle_49 : decode cX1_circle 49 = .ok (.iload_n 2, 1) := dk_28 (dk_at dksX1_circle_2 1 rfl rfl)
theorem dX1_circle_50 : decode cX1_circle 50 = .ok (.iload_n 3, 1) := dk_29 (dk_at dksX1_circle_2 2 rfl rfl)
theorem dX1_circle_51 : decode cX1_circle 51 = .ok (.aload_n 0, 1) := dk_42 (dk_at dksX1_circle_2 3 rfl rfl)
theorem dX1_circle_52 : decode cX1_circle 52 = .ok (.getfield 31, 3) := dk_180 0 31 (dk_at dksX1_circle_2 4 rfl rfl)
theorem dX1_circle_55 : decode cX1_circle 55 = .ok (.iload 4, 2) := dk_21 4 (dk_at dksX1_circle_2 7 rfl rfl)
theorem dX1_circle_57 : decode cX1_circle 57 = .ok (.invokevirtual 83, 3) := dk_182 0 83 (dk_at dksX1_circle_2 9 rfl rfl)
theorem dX1_circle_60 : decode cX1_circle 60 = .ok (.invokevirtual 95, 3) := dk_182 0 95 (dk_at dksX1_circle_2 12 rfl rfl)
theorem dX1_circle_63 : decode cX1_circle 63 = .ok (.aload_n 0, 1) := dk_42 (dk_at dksX1_circle_2 15 rfl rfl)
theorem dX1_circle_64 : decode cX1_circle 64 = .ok (.getfield 31, 3) := dk_180 0 31 (dk_at dksX1_circle_2 16 rfl rfl)
theorem dX1_circle_67 : decode cX1_circle 67 = .ok (.aload 5, 2) := dk_25 5 (dk_at dksX1_circle_2 19 rfl rfl)
theorem dX1_circle_69 : decode cX1_circle 69 = .ok (.getfield 64, 3) := dk_180 0 64 (dk_at dksX1_circle_2 21 rfl rfl)
theorem dX1_circle_72 : decode cX1_circle 72 = .ok (.invokevirtual 91, 3) := dk_182 0 91 (dk_at dksX1_circle_3 0 rfl rfl)
theorem dX1_circle_75 : decode cX1_circle 75 = .ok (.ireturn, 1) := dk_172 (dk_at dksX1_circle_3 3 rfl rfl)
abbrev cX1_fill : ByteArray := prog_1_method_15_code
def yX1_fill : MethodName := ⟨RX1, "fill", "(II)I"⟩
def dkwX1_fill_2 : List UInt8 := [182, 0, 107, 172]
abbrev dktX1_fill_2 : List UInt8 := dkwX1_fill_2 ++ []
def dkwX1_fill_1 : List UInt8 := [180, 0, 31, 29, 5, 182, 0, 99, 58, 4, 42, 180, 0, 31, 180, 0, 64, 25, 4, 182, 0, 103, 25, 4]
abbrev dktX1_fill_1 : List UInt8 := dkwX1_fill_1 ++ dktX1_fill_2
def dkwX1_fill_0 : List UInt8 := [42, 27, 28, 182, 0, 60, 62, 42, 180, 0, 31, 180, 0, 64, 29, 182, 0, 67, 153, 0, 5, 3, 172, 42]
abbrev dktX1_fill_0 : List UInt8 := dkwX1_fill_0 ++ dktX1_fill_1
theorem dksX1_fill_0 : cX1_fill.data.toList.drop 0 = dktX1_fill_0 := by decide +kernel
theorem dksX1_fill_1 : cX1_fill.data.toList.drop 24 = dktX1_fill_1 := dk_seg dksX1_fill_0 24 rfl rfl
theorem dksX1_fill_2 : cX1_fill.data.toList.drop 48 = dktX1_fill_2 := dk_seg dksX1_fill_1 24 rfl rfl
theorem dX1_fill_0 : decode cX1_fill 0 = .ok (.aload_n 0, 1) := dk_42 (dk_at dksX1_fill_0 0 rfl rfl)
theorem dX1_fill_1 : decode cX1_fill 1 = .ok (.iload_n 1, 1) := dk_27 (dk_at dksX1_fill_0 1 rfl rfl)
theorem dX1_fill_2 : decode cX1_fill 2 = .ok (.iload_n 2, 1) := dk_28 (dk_at dksX1_fill_0 2 rfl rfl)
theorem dX1_fill_3 : decode cX1_fill 3 = .ok (.invokevirtual 60, 3) := dk_182 0 60 (dk_at dksX1_fill_0 3 rfl rfl)
theorem dX1_fill_6 : decode cX1_fill 6 = .ok (.istore_n 3, 1) := dk_62 (dk_at dksX1_fill_0 6 rfl rfl)
theorem dX1_fill_7 : decode cX1_fill 7 = .ok (.aload_n 0, 1) := dk_42 (dk_at dksX1_fill_0 7 rfl rfl)
theorem dX1_fill_8 : decode cX1_fill 8 = .ok (.getfield 31, 3) := dk_180 0 31 (dk_at dksX1_fill_0 8 rfl rfl)
theorem dX1_fill_11 : decode cX1_fill 11 = .ok (.getfield 64, 3) := dk_180 0 64 (dk_at dksX1_fill_0 11 rfl rfl)
theorem dX1_fill_14 : decode cX1_fill 14 = .ok (.iload_n 3, 1) := dk_29 (dk_at dksX1_fill_0 14 rfl rfl)
theorem dX1_fill_15 : decode cX1_fill 15 = .ok (.invokevirtual 67, 3) := dk_182 0 67 (dk_at dksX1_fill_0 15 rfl rfl)
theorem dX1_fill_18 : decode cX1_fill 18 = .ok (.ifCond .eq 5, 3) := dk_153 0 5 (dk_at dksX1_fill_0 18 rfl rfl)
theorem dX1_fill_21 : decode cX1_fill 21 = .ok (.iconst 0, 1) := dk_3 (dk_at dksX1_fill_0 21 rfl rfl)
theorem dX1_fill_22 : decode cX1_fill 22 = .ok (.ireturn, 1) := dk_172 (dk_at dksX1_fill_0 22 rfl rfl)
theorem dX1_fill_23 : decode cX1_fill 23 = .ok (.aload_n 0, 1) := dk_42 (dk_at dksX1_fill_0 23 rfl rfl)
theorem dX1_fill_24 : decode cX1_fill 24 = .ok (.getfield 31, 3) := dk_180 0 31 (dk_at dksX1_fill_1 0 rfl rfl)
theorem dX1_fill_27 : decode cX1_fill 27 = .ok (.iload_n 3, 1) := dk_29 (dk_at dksX1_fill_1 3 rfl rfl)
theorem dX1_fill_28 : decode cX1_fill 28 = .ok (.iconst 2, 1) := dk_5 (dk_at dksX1_fill_1 4 rfl rfl)
theorem dX1_fill_29 : decode cX1_fill 29 = .ok (.invokevirtual 99, 3) := dk_182 0 99 (dk_at dksX1_fill_1 5 rfl rfl)
theorem dX1_fill_32 : decode cX1_fill 32 = .ok (.astore 4, 2) := dk_58 4 (dk_at dksX1_fill_1 8 rfl rfl)
theorem dX1_fill_34 : decode cX1_fill 34 = .ok (.aload_n 0, 1) := dk_42 (dk_at dksX1_fill_1 10 rfl rfl)
theorem dX1_fill_35 : decode cX1_fill 35 = .ok (.getfield 31, 3) := dk_180 0 31 (dk_at dksX1_fill_1 11 rfl rfl)
theorem dX1_fill_38 : decode cX1_fill 38 = .ok (.getfield 64, 3) := dk_180 0 64 (dk_at dksX1_fill_1 14 rfl rfl)
theorem dX1_fill_41 : decode cX1_fill 41 = .ok (.aload 4, 2) := dk_25 4 (dk_at dksX1_fill_1 17 rfl rfl)
theorem dX1_fill_43 : decode cX1_fill 43 = .ok (.invokevirtual 103, 3) := dk_182 0 103 (dk_at dksX1_fill_1 19 rfl rfl)
theorem dX1_fill_46 : decode cX1_fill 46 = .ok (.aload 4, 2) := dk_25 4 (dk_at dksX1_fill_1 22 rfl rfl)
theorem dX1_fill_48 : decode cX1_fill 48 = .ok (.invokevirtual 107, 3) := dk_182 0 107 (dk_at dksX1_fill_2 0 rfl rfl)
theorem dX1_fill_51 : decode cX1_fill 51 = .ok (.ireturn, 1) := dk_172 (dk_at dksX1_fill_2 3 rfl rfl)
abbrev cX1_join : ByteArray := prog_1_method_18_code
def yX1_join : MethodName := ⟨RX1, "join", "(I)I"⟩
def dkwX1_join_1 : List UInt8 := [180, 0, 38, 182, 0, 124, 42, 182, 0, 116, 172]
abbrev dktX1_join_1 : List UInt8 := dkwX1_join_1 ++ []
def dkwX1_join_0 : List UInt8 := [3, 6, 27, 184, 0, 15, 184, 0, 42, 184, 0, 118, 27, 50, 42, 180, 0, 31, 180, 0, 64, 42]
abbrev dktX1_join_0 : List UInt8 := dkwX1_join_0 ++ dktX1_join_1
theorem dksX1_join_0 : cX1_join.data.toList.drop 0 = dktX1_join_0 := by decide +kernel
theorem dksX1_join_1 : cX1_join.data.toList.drop 22 = dktX1_join_1 := dk_seg dksX1_join_0 22 rfl rfl
theorem dX1_join_0 : decode cX1_join 0 = .ok (.iconst 0, 1) := dk_3 (dk_at dksX1_join_0 0 rfl rfl)
theorem dX1_join_1 : decode cX1_join 1 = .ok (.iconst 3, 1) := dk_6 (dk_at dksX1_join_0 1 rfl rfl)
theorem dX1_join_2 : decode cX1_join 2 = .ok (.iload_n 1, 1) := dk_27 (dk_at dksX1_join_0 2 rfl rfl)
theorem dX1_join_3 : decode cX1_join 3 = .ok (.invokestatic 15, 3) := dk_184 0 15 (dk_at dksX1_join_0 3 rfl rfl)
theorem dX1_join_6 : decode cX1_join 6 = .ok (.invokestatic 42, 3) := dk_184 0 42 (dk_at dksX1_join_0 6 rfl rfl)
theorem dX1_join_9 : decode cX1_join 9 = .ok (.invokestatic 118, 3) := dk_184 0 118 (dk_at dksX1_join_0 9 rfl rfl)
theorem dX1_join_12 : decode cX1_join 12 = .ok (.iload_n 1, 1) := dk_27 (dk_at dksX1_join_0 12 rfl rfl)
theorem dX1_join_13 : decode cX1_join 13 = .ok (.aaload, 1) := dk_50 (dk_at dksX1_join_0 13 rfl rfl)
theorem dX1_join_14 : decode cX1_join 14 = .ok (.aload_n 0, 1) := dk_42 (dk_at dksX1_join_0 14 rfl rfl)
theorem dX1_join_15 : decode cX1_join 15 = .ok (.getfield 31, 3) := dk_180 0 31 (dk_at dksX1_join_0 15 rfl rfl)
theorem dX1_join_18 : decode cX1_join 18 = .ok (.getfield 64, 3) := dk_180 0 64 (dk_at dksX1_join_0 18 rfl rfl)
theorem dX1_join_21 : decode cX1_join 21 = .ok (.aload_n 0, 1) := dk_42 (dk_at dksX1_join_0 21 rfl rfl)
theorem dX1_join_22 : decode cX1_join 22 = .ok (.getfield 38, 3) := dk_180 0 38 (dk_at dksX1_join_1 0 rfl rfl)
theorem dX1_join_25 : decode cX1_join 25 = .ok (.invokevirtual 124, 3) := dk_182 0 124 (dk_at dksX1_join_1 3 rfl rfl)
theorem dX1_join_28 : decode cX1_join 28 = .ok (.aload_n 0, 1) := dk_42 (dk_at dksX1_join_1 6 rfl rfl)
theorem dX1_join_29 : decode cX1_join 29 = .ok (.invokevirtual 116, 3) := dk_182 0 116 (dk_at dksX1_join_1 7 rfl rfl)
theorem dX1_join_32 : decode cX1_join 32 = .ok (.ireturn, 1) := dk_172 (dk_at dksX1_join_1 10 rfl rfl)
abbrev cX1_at : ByteArray := prog_1_method_22_code
def yX1_at : MethodName := ⟨RX1, "at", "(II)Z"⟩
def dkwX1_at_0 : List UInt8 := [42, 180, 0, 31, 180, 0, 64, 42, 27, 28, 182, 0, 60, 182, 0, 67, 172]
abbrev dktX1_at_0 : List UInt8 := dkwX1_at_0 ++ []
theorem dksX1_at_0 : cX1_at.data.toList.drop 0 = dktX1_at_0 := by decide +kernel
theorem dX1_at_0 : decode cX1_at 0 = .ok (.aload_n 0, 1) := dk_42 (dk_at dksX1_at_0 0 rfl rfl)
theorem dX1_at_1 : decode cX1_at 1 = .ok (.getfield 31, 3) := dk_180 0 31 (dk_at dksX1_at_0 1 rfl rfl)
theorem dX1_at_4 : decode cX1_at 4 = .ok (.getfield 64, 3) := dk_180 0 64 (dk_at dksX1_at_0 4 rfl rfl)
theorem dX1_at_7 : decode cX1_at 7 = .ok (.aload_n 0, 1) := dk_42 (dk_at dksX1_at_0 7 rfl rfl)
theorem dX1_at_8 : decode cX1_at 8 = .ok (.iload_n 1, 1) := dk_27 (dk_at dksX1_at_0 8 rfl rfl)
theorem dX1_at_9 : decode cX1_at 9 = .ok (.iload_n 2, 1) := dk_28 (dk_at dksX1_at_0 9 rfl rfl)
theorem dX1_at_10 : decode cX1_at 10 = .ok (.invokevirtual 60, 3) := dk_182 0 60 (dk_at dksX1_at_0 10 rfl rfl)
theorem dX1_at_13 : decode cX1_at 13 = .ok (.invokevirtual 67, 3) := dk_182 0 67 (dk_at dksX1_at_0 13 rfl rfl)
theorem dX1_at_16 : decode cX1_at 16 = .ok (.ireturn, 1) := dk_172 (dk_at dksX1_at_0 16 rfl rfl)
abbrev cX1_depthAt : ByteArray := prog_1_method_24_code
def yX1_depthAt : MethodName := ⟨RX1, "depthAt", "(IIZ)I"⟩
def dkwX1_depthAt_1 : List UInt8 := [172]
abbrev dktX1_depthAt_1 : List UInt8 := dkwX1_depthAt_1 ++ []
def dkwX1_depthAt_0 : List UInt8 := [42, 27, 28, 182, 0, 60, 54, 4, 42, 180, 0, 31, 29, 182, 0, 136, 28, 4, 96, 50, 27, 4, 96, 53]
abbrev dktX1_depthAt_0 : List UInt8 := dkwX1_depthAt_0 ++ dktX1_depthAt_1
theorem dksX1_depthAt_0 : cX1_depthAt.data.toList.drop 0 = dktX1_depthAt_0 := by decide +kernel
theorem dksX1_depthAt_1 : cX1_depthAt.data.toList.drop 24 = dktX1_depthAt_1 := dk_seg dksX1_depthAt_0 24 rfl rfl
theorem dX1_depthAt_0 : decode cX1_depthAt 0 = .ok (.aload_n 0, 1) := dk_42 (dk_at dksX1_depthAt_0 0 rfl rfl)
theorem dX1_depthAt_1 : decode cX1_depthAt 1 = .ok (.iload_n 1, 1) := dk_27 (dk_at dksX1_depthAt_0 1 rfl rfl)
theorem dX1_depthAt_2 : decode cX1_depthAt 2 = .ok (.iload_n 2, 1) := dk_28 (dk_at dksX1_depthAt_0 2 rfl rfl)
theorem dX1_depthAt_3 : decode cX1_depthAt 3 = .ok (.invokevirtual 60, 3) := dk_182 0 60 (dk_at dksX1_depthAt_0 3 rfl rfl)
theorem dX1_depthAt_6 : decode cX1_depthAt 6 = .ok (.istore 4, 2) := dk_54 4 (dk_at dksX1_depthAt_0 6 rfl rfl)
theorem dX1_depthAt_8 : decode cX1_depthAt 8 = .ok (.aload_n 0, 1) := dk_42 (dk_at dksX1_depthAt_0 8 rfl rfl)
theorem dX1_depthAt_9 : decode cX1_depthAt 9 = .ok (.getfield 31, 3) := dk_180 0 31 (dk_at dksX1_depthAt_0 9 rfl rfl)
theorem dX1_depthAt_12 : decode cX1_depthAt 12 = .ok (.iload_n 3, 1) := dk_29 (dk_at dksX1_depthAt_0 12 rfl rfl)
theorem dX1_depthAt_13 : decode cX1_depthAt 13 = .ok (.invokevirtual 136, 3) := dk_182 0 136 (dk_at dksX1_depthAt_0 13 rfl rfl)
theorem dX1_depthAt_16 : decode cX1_depthAt 16 = .ok (.iload_n 2, 1) := dk_28 (dk_at dksX1_depthAt_0 16 rfl rfl)
theorem dX1_depthAt_17 : decode cX1_depthAt 17 = .ok (.iconst 1, 1) := dk_4 (dk_at dksX1_depthAt_0 17 rfl rfl)
theorem dX1_depthAt_18 : decode cX1_depthAt 18 = .ok (.iadd, 1) := dk_96 (dk_at dksX1_depthAt_0 18 rfl rfl)
theorem dX1_depthAt_19 : decode cX1_depthAt 19 = .ok (.aaload, 1) := dk_50 (dk_at dksX1_depthAt_0 19 rfl rfl)
theorem dX1_depthAt_20 : decode cX1_depthAt 20 = .ok (.iload_n 1, 1) := dk_27 (dk_at dksX1_depthAt_0 20 rfl rfl)
theorem dX1_depthAt_21 : decode cX1_depthAt 21 = .ok (.iconst 1, 1) := dk_4 (dk_at dksX1_depthAt_0 21 rfl rfl)
theorem dX1_depthAt_22 : decode cX1_depthAt 22 = .ok (.iadd, 1) := dk_96 (dk_at dksX1_depthAt_0 22 rfl rfl)
theorem dX1_depthAt_23 : decode cX1_depthAt 23 = .ok (.saload, 1) := dk_53 (dk_at dksX1_depthAt_0 23 rfl rfl)
theorem dX1_depthAt_24 : decode cX1_depthAt 24 = .ok (.ireturn, 1) := dk_172 (dk_at dksX1_depthAt_1 0 rfl rfl)
abbrev cX1_runAt : ByteArray := prog_1_method_28_code
def yX1_runAt : MethodName := ⟨RX1, "runAt", "(II)I"⟩
def dkwX1_runAt_2 : List UInt8 := [180, 0, 168, 96, 172]
abbrev dktX1_runAt_2 : List UInt8 := dkwX1_runAt_2 ++ []
def dkwX1_runAt_1 : List UInt8 := [184, 0, 157, 45, 28, 182, 0, 160, 192, 0, 163, 58, 4, 16, 100, 25, 4, 180, 0, 165, 104, 25, 4]
abbrev dktX1_runAt_1 : List UInt8 := dkwX1_runAt_1 ++ dktX1_runAt_2
def dkwX1_runAt_0 : List UInt8 := [42, 180, 0, 31, 42, 27, 182, 0, 145, 182, 0, 148, 78, 3, 45, 182, 0, 152, 4, 100, 28, 184, 0, 15]
abbrev dktX1_runAt_0 : List UInt8 := dkwX1_runAt_0 ++ dktX1_runAt_1
theorem dksX1_runAt_0 : cX1_runAt.data.toList.drop 0 = dktX1_runAt_0 := by decide +kernel
theorem dksX1_runAt_1 : cX1_runAt.data.toList.drop 24 = dktX1_runAt_1 := dk_seg dksX1_runAt_0 24 rfl rfl
theorem dksX1_runAt_2 : cX1_runAt.data.toList.drop 47 = dktX1_runAt_2 := dk_seg dksX1_runAt_1 23 rfl rfl
theorem dX1_runAt_0 : decode cX1_runAt 0 = .ok (.aload_n 0, 1) := dk_42 (dk_at dksX1_runAt_0 0 rfl rfl)
theorem dX1_runAt_1 : decode cX1_runAt 1 = .ok (.getfield 31, 3) := dk_180 0 31 (dk_at dksX1_runAt_0 1 rfl rfl)
theorem dX1_runAt_4 : decode cX1_runAt 4 = .ok (.aload_n 0, 1) := dk_42 (dk_at dksX1_runAt_0 4 rfl rfl)
theorem dX1_runAt_5 : decode cX1_runAt 5 = .ok (.iload_n 1, 1) := dk_27 (dk_at dksX1_runAt_0 5 rfl rfl)
theorem dX1_runAt_6 : decode cX1_runAt 6 = .ok (.invokevirtual 145, 3) := dk_182 0 145 (dk_at dksX1_runAt_0 6 rfl rfl)
theorem dX1_runAt_9 : decode cX1_runAt 9 = .ok (.invokevirtual 148, 3) := dk_182 0 148 (dk_at dksX1_runAt_0 9 rfl rfl)
theorem dX1_runAt_12 : decode cX1_runAt 12 = .ok (.astore_n 3, 1) := dk_78 (dk_at dksX1_runAt_0 12 rfl rfl)
theorem dX1_runAt_13 : decode cX1_runAt 13 = .ok (.iconst 0, 1) := dk_3 (dk_at dksX1_runAt_0 13 rfl rfl)
theorem dX1_runAt_14 : decode cX1_runAt 14 = .ok (.aload_n 3, 1) := dk_45 (dk_at dksX1_runAt_0 14 rfl rfl)
theorem dX1_runAt_15 : decode cX1_runAt 15 = .ok (.invokevirtual 152, 3) := dk_182 0 152 (dk_at dksX1_runAt_0 15 rfl rfl)
theorem dX1_runAt_18 : decode cX1_runAt 18 = .ok (.iconst 1, 1) := dk_4 (dk_at dksX1_runAt_0 18 rfl rfl)
theorem dX1_runAt_19 : decode cX1_runAt 19 = .ok (.isub, 1) := dk_100 (dk_at dksX1_runAt_0 19 rfl rfl)
theorem dX1_runAt_20 : decode cX1_runAt 20 = .ok (.iload_n 2, 1) := dk_28 (dk_at dksX1_runAt_0 20 rfl rfl)
theorem dX1_runAt_21 : decode cX1_runAt 21 = .ok (.invokestatic 15, 3) := dk_184 0 15 (dk_at dksX1_runAt_0 21 rfl rfl)
theorem dX1_runAt_24 : decode cX1_runAt 24 = .ok (.invokestatic 157, 3) := dk_184 0 157 (dk_at dksX1_runAt_1 0 rfl rfl)
theorem dX1_runAt_27 : decode cX1_runAt 27 = .ok (.aload_n 3, 1) := dk_45 (dk_at dksX1_runAt_1 3 rfl rfl)
theorem dX1_runAt_28 : decode cX1_runAt 28 = .ok (.iload_n 2, 1) := dk_28 (dk_at dksX1_runAt_1 4 rfl rfl)
theorem dX1_runAt_29 : decode cX1_runAt 29 = .ok (.invokevirtual 160, 3) := dk_182 0 160 (dk_at dksX1_runAt_1 5 rfl rfl)
theorem dX1_runAt_32 : decode cX1_runAt 32 = .ok (.checkcast 163, 3) := dk_192 0 163 (dk_at dksX1_runAt_1 8 rfl rfl)
theorem dX1_runAt_35 : decode cX1_runAt 35 = .ok (.astore 4, 2) := dk_58 4 (dk_at dksX1_runAt_1 11 rfl rfl)
theorem dX1_runAt_37 : decode cX1_runAt 37 = .ok (.bipush 100, 2) := dk_16 100 (dk_at dksX1_runAt_1 13 rfl rfl)
theorem dX1_runAt_39 : decode cX1_runAt 39 = .ok (.aload 4, 2) := dk_25 4 (dk_at dksX1_runAt_1 15 rfl rfl)
theorem dX1_runAt_41 : decode cX1_runAt 41 = .ok (.getfield 165, 3) := dk_180 0 165 (dk_at dksX1_runAt_1 17 rfl rfl)
theorem dX1_runAt_44 : decode cX1_runAt 44 = .ok (.imul, 1) := dk_104 (dk_at dksX1_runAt_1 20 rfl rfl)
theorem dX1_runAt_45 : decode cX1_runAt 45 = .ok (.aload 4, 2) := dk_25 4 (dk_at dksX1_runAt_1 21 rfl rfl)
theorem dX1_runAt_47 : decode cX1_runAt 47 = .ok (.getfield 168, 3) := dk_180 0 168 (dk_at dksX1_runAt_2 0 rfl rfl)
theorem dX1_runAt_50 : decode cX1_runAt 50 = .ok (.iadd, 1) := dk_96 (dk_at dksX1_runAt_2 3 rfl rfl)
theorem dX1_runAt_51 : decode cX1_runAt 51 = .ok (.ireturn, 1) := dk_172 (dk_at dksX1_runAt_2 4 rfl rfl)
abbrev cX1_checkElement : ByteArray := prog_1_method_4_code
def yX1_checkElement : MethodName := ⟨RX1, "checkElement", "(Z)V"⟩
def dkwX1_checkElement_0 : List UInt8 := [26, 154, 0, 11, 187, 0, 10, 89, 183, 0, 12, 191, 177]
abbrev dktX1_checkElement_0 : List UInt8 := dkwX1_checkElement_0 ++ []
theorem dksX1_checkElement_0 : cX1_checkElement.data.toList.drop 0 = dktX1_checkElement_0 := by decide +kernel
theorem dX1_checkElement_0 : decode cX1_checkElement 0 = .ok (.iload_n 0, 1) := dk_26 (dk_at dksX1_checkElement_0 0 rfl rfl)
theorem dX1_checkElement_1 : decode cX1_checkElement 1 = .ok (.ifCond .ne 11, 3) := dk_154 0 11 (dk_at dksX1_checkElement_0 1 rfl rfl)
theorem dX1_checkElement_4 : decode cX1_checkElement 4 = .ok (.new 10, 3) := dk_187 0 10 (dk_at dksX1_checkElement_0 4 rfl rfl)
theorem dX1_checkElement_7 : decode cX1_checkElement 7 = .ok (.dup, 1) := dk_89 (dk_at dksX1_checkElement_0 7 rfl rfl)
theorem dX1_checkElement_8 : decode cX1_checkElement 8 = .ok (.invokespecial 12, 3) := dk_183 0 12 (dk_at dksX1_checkElement_0 8 rfl rfl)
theorem dX1_checkElement_11 : decode cX1_checkElement 11 = .ok (.athrow, 1) := dk_191 (dk_at dksX1_checkElement_0 11 rfl rfl)
theorem dX1_checkElement_12 : decode cX1_checkElement 12 = .ok (.return_, 1) := dk_177 (dk_at dksX1_checkElement_0 12 rfl rfl)
abbrev cX1_partOf : ByteArray := prog_1_method_31_code
def yX1_partOf : MethodName := ⟨RX1, "partOf", "(II)I"⟩
def dkwX1_partOf_1 : List UInt8 := [180, 0, 31, 29, 4, 182, 0, 99, 3, 182, 0, 176, 167, 0, 4, 2, 172]
abbrev dktX1_partOf_1 : List UInt8 := dkwX1_partOf_1 ++ []
def dkwX1_partOf_0 : List UInt8 := [42, 27, 28, 182, 0, 60, 62, 42, 180, 0, 31, 180, 0, 64, 29, 182, 0, 67, 153, 0, 19, 42]
abbrev dktX1_partOf_0 : List UInt8 := dkwX1_partOf_0 ++ dktX1_partOf_1
theorem dksX1_partOf_0 : cX1_partOf.data.toList.drop 0 = dktX1_partOf_0 := by decide +kernel
theorem dksX1_partOf_1 : cX1_partOf.data.toList.drop 22 = dktX1_partOf_1 := dk_seg dksX1_partOf_0 22 rfl rfl
theorem dX1_partOf_0 : decode cX1_partOf 0 = .ok (.aload_n 0, 1) := dk_42 (dk_at dksX1_partOf_0 0 rfl rfl)
theorem dX1_partOf_1 : decode cX1_partOf 1 = .ok (.iload_n 1, 1) := dk_27 (dk_at dksX1_partOf_0 1 rfl rfl)
theorem dX1_partOf_2 : decode cX1_partOf 2 = .ok (.iload_n 2, 1) := dk_28 (dk_at dksX1_partOf_0 2 rfl rfl)
theorem dX1_partOf_3 : decode cX1_partOf 3 = .ok (.invokevirtual 60, 3) := dk_182 0 60 (dk_at dksX1_partOf_0 3 rfl rfl)
theorem dX1_partOf_6 : decode cX1_partOf 6 = .ok (.istore_n 3, 1) := dk_62 (dk_at dksX1_partOf_0 6 rfl rfl)
theorem dX1_partOf_7 : decode cX1_partOf 7 = .ok (.aload_n 0, 1) := dk_42 (dk_at dksX1_partOf_0 7 rfl rfl)
theorem dX1_partOf_8 : decode cX1_partOf 8 = .ok (.getfield 31, 3) := dk_180 0 31 (dk_at dksX1_partOf_0 8 rfl rfl)
theorem dX1_partOf_11 : decode cX1_partOf 11 = .ok (.getfield 64, 3) := dk_180 0 64 (dk_at dksX1_partOf_0 11 rfl rfl)
theorem dX1_partOf_14 : decode cX1_partOf 14 = .ok (.iload_n 3, 1) := dk_29 (dk_at dksX1_partOf_0 14 rfl rfl)
theorem dX1_partOf_15 : decode cX1_partOf 15 = .ok (.invokevirtual 67, 3) := dk_182 0 67 (dk_at dksX1_partOf_0 15 rfl rfl)
theorem dX1_partOf_18 : decode cX1_partOf 18 = .ok (.ifCond .eq 19, 3) := dk_153 0 19 (dk_at dksX1_partOf_0 18 rfl rfl)
theorem dX1_partOf_21 : decode cX1_partOf 21 = .ok (.aload_n 0, 1) := dk_42 (dk_at dksX1_partOf_0 21 rfl rfl)
theorem dX1_partOf_22 : decode cX1_partOf 22 = .ok (.getfield 31, 3) := dk_180 0 31 (dk_at dksX1_partOf_1 0 rfl rfl)
theorem dX1_partOf_25 : decode cX1_partOf 25 = .ok (.iload_n 3, 1) := dk_29 (dk_at dksX1_partOf_1 3 rfl rfl)
theorem dX1_partOf_26 : decode cX1_partOf 26 = .ok (.iconst 1, 1) := dk_4 (dk_at dksX1_partOf_1 4 rfl rfl)
theorem dX1_partOf_27 : decode cX1_partOf 27 = .ok (.invokevirtual 99, 3) := dk_182 0 99 (dk_at dksX1_partOf_1 5 rfl rfl)
theorem dX1_partOf_30 : decode cX1_partOf 30 = .ok (.iconst 0, 1) := dk_3 (dk_at dksX1_partOf_1 8 rfl rfl)
theorem dX1_partOf_31 : decode cX1_partOf 31 = .ok (.invokevirtual 176, 3) := dk_182 0 176 (dk_at dksX1_partOf_1 9 rfl rfl)
theorem dX1_partOf_34 : decode cX1_partOf 34 = .ok (.goto 4, 3) := dk_167 0 4 (dk_at dksX1_partOf_1 12 rfl rfl)
theorem dX1_partOf_37 : decode cX1_partOf 37 = .ok (.iconst (-1), 1) := dk_2 (dk_at dksX1_partOf_1 15 rfl rfl)
theorem dX1_partOf_38 : decode cX1_partOf 38 = .ok (.ireturn, 1) := dk_172 (dk_at dksX1_partOf_1 16 rfl rfl)
abbrev cX1_partSize : ByteArray := prog_1_method_32_code
def yX1_partSize : MethodName := ⟨RX1, "partSize", "(II)I"⟩
def dkwX1_partSize_1 : List UInt8 := [180, 0, 31, 29, 4, 182, 0, 99, 182, 0, 107, 167, 0, 4, 3, 172]
abbrev dktX1_partSize_1 : List UInt8 := dkwX1_partSize_1 ++ []
def dkwX1_partSize_0 : List UInt8 := [42, 27, 28, 182, 0, 60, 62, 42, 180, 0, 31, 180, 0, 64, 29, 182, 0, 67, 153, 0, 18, 42]
abbrev dktX1_partSize_0 : List UInt8 := dkwX1_partSize_0 ++ dktX1_partSize_1
theorem dksX1_partSize_0 : cX1_partSize.data.toList.drop 0 = dktX1_partSize_0 := by decide +kernel
theorem dksX1_partSize_1 : cX1_partSize.data.toList.drop 22 = dktX1_partSize_1 := dk_seg dksX1_partSize_0 22 rfl rfl
theorem dX1_partSize_0 : decode cX1_partSize 0 = .ok (.aload_n 0, 1) := dk_42 (dk_at dksX1_partSize_0 0 rfl rfl)
theorem dX1_partSize_1 : decode cX1_partSize 1 = .ok (.iload_n 1, 1) := dk_27 (dk_at dksX1_partSize_0 1 rfl rfl)
theorem dX1_partSize_2 : decode cX1_partSize 2 = .ok (.iload_n 2, 1) := dk_28 (dk_at dksX1_partSize_0 2 rfl rfl)
theorem dX1_partSize_3 : decode cX1_partSize 3 = .ok (.invokevirtual 60, 3) := dk_182 0 60 (dk_at dksX1_partSize_0 3 rfl rfl)
theorem dX1_partSize_6 : decode cX1_partSize 6 = .ok (.istore_n 3, 1) := dk_62 (dk_at dksX1_partSize_0 6 rfl rfl)
theorem dX1_partSize_7 : decode cX1_partSize 7 = .ok (.aload_n 0, 1) := dk_42 (dk_at dksX1_partSize_0 7 rfl rfl)
theorem dX1_partSize_8 : decode cX1_partSize 8 = .ok (.getfield 31, 3) := dk_180 0 31 (dk_at dksX1_partSize_0 8 rfl rfl)
theorem dX1_partSize_11 : decode cX1_partSize 11 = .ok (.getfield 64, 3) := dk_180 0 64 (dk_at dksX1_partSize_0 11 rfl rfl)
theorem dX1_partSize_14 : decode cX1_partSize 14 = .ok (.iload_n 3, 1) := dk_29 (dk_at dksX1_partSize_0 14 rfl rfl)
theorem dX1_partSize_15 : decode cX1_partSize 15 = .ok (.invokevirtual 67, 3) := dk_182 0 67 (dk_at dksX1_partSize_0 15 rfl rfl)
theorem dX1_partSize_18 : decode cX1_partSize 18 = .ok (.ifCond .eq 18, 3) := dk_153 0 18 (dk_at dksX1_partSize_0 18 rfl rfl)
theorem dX1_partSize_21 : decode cX1_partSize 21 = .ok (.aload_n 0, 1) := dk_42 (dk_at dksX1_partSize_0 21 rfl rfl)
theorem dX1_partSize_22 : decode cX1_partSize 22 = .ok (.getfield 31, 3) := dk_180 0 31 (dk_at dksX1_partSize_1 0 rfl rfl)
theorem dX1_partSize_25 : decode cX1_partSize 25 = .ok (.iload_n 3, 1) := dk_29 (dk_at dksX1_partSize_1 3 rfl rfl)
theorem dX1_partSize_26 : decode cX1_partSize 26 = .ok (.iconst 1, 1) := dk_4 (dk_at dksX1_partSize_1 4 rfl rfl)
theorem dX1_partSize_27 : decode cX1_partSize 27 = .ok (.invokevirtual 99, 3) := dk_182 0 99 (dk_at dksX1_partSize_1 5 rfl rfl)
theorem dX1_partSize_30 : decode cX1_partSize 30 = .ok (.invokevirtual 107, 3) := dk_182 0 107 (dk_at dksX1_partSize_1 8 rfl rfl)
theorem dX1_partSize_33 : decode cX1_partSize 33 = .ok (.goto 4, 3) := dk_167 0 4 (dk_at dksX1_partSize_1 11 rfl rfl)
theorem dX1_partSize_36 : decode cX1_partSize 36 = .ok (.iconst 0, 1) := dk_3 (dk_at dksX1_partSize_1 14 rfl rfl)
theorem dX1_partSize_37 : decode cX1_partSize 37 = .ok (.ireturn, 1) := dk_172 (dk_at dksX1_partSize_1 15 rfl rfl)
theorem q59 : (Jvm.Cond.initialized "TufaSteps") ∈ lw_all := lw_g (lw_at lw_m1 1 rfl) rfl
theorem q97 : (Jvm.Cond.instantiable "TufaSteps" (2 : Nat)) ∈ lw_all := lw_g (lw_at lw_m1 39 rfl) rfl
theorem q99 : (Jvm.Cond.instanceMethod ({ cls := "TufaSteps", name := "<init>", desc := "()V" } : Jvm.MethodName)) ∈ lw_all := lw_g (lw_at lw_m1 41 rfl) rfl
theorem q100 : (Jvm.Cond.code ({ cls := "TufaSteps", name := "<init>", desc := "()V" } : Jvm.MethodName) prog_1_method_8_code (1 : Nat) (Option.none : Option Jvm.ClassFile.FieldType)) ∈ lw_all := lw_g (lw_at lw_m1 42 rfl) rfl
theorem q101 : (Jvm.Cond.methodLink "TufaSteps" (23 : Nat) ({ cls := "java/lang/Object", name := "<init>", desc := "()V" } : Jvm.MethodName)) ∈ lw_all := lw_g (lw_at lw_m1 43 rfl) rfl
theorem q104 : (Jvm.Cond.classLink "TufaSteps" (26 : Nat) "TufaSteps$Picture") ∈ lw_all := lw_g (lw_at lw_m1 46 rfl) rfl
theorem q106 : (Jvm.Cond.methodLink "TufaSteps" (28 : Nat) ({ cls := "TufaSteps$Picture", name := "<init>", desc := "(II)V" } : Jvm.MethodName)) ∈ lw_all := lw_g (lw_at lw_m1 48 rfl) rfl
theorem q138 : (Jvm.Cond.fieldLinkNest "TufaSteps" (131 : Nat) "TufaSteps$Picture" "width" "I" "TufaSteps") ∈ lw_tbl := lw_at lw_m1 80 rfl
theorem q140 : (Jvm.Cond.fieldLinkNest "TufaSteps" (134 : Nat) "TufaSteps$Picture" "height" "I" "TufaSteps") ∈ lw_tbl := lw_at lw_m1 82 rfl
theorem q142 : (Jvm.Cond.fieldLinkNest "TufaSteps" (64 : Nat) "TufaSteps$Picture" "ink" "Ljava/util/BitSet;" "TufaSteps") ∈ lw_tbl := lw_at lw_m1 84 rfl
theorem q150 : (Jvm.Cond.classLink "TufaSteps" (35 : Nat) "java/util/BitSet") ∈ lw_all := lw_g (lw_at lw_m1 92 rfl) rfl
theorem q151 : (Jvm.Cond.methodLink "TufaSteps" (37 : Nat) ({ cls := "java/util/BitSet", name := "<init>", desc := "()V" } : Jvm.MethodName)) ∈ lw_all := lw_g (lw_at lw_m1 93 rfl) rfl
theorem q152 : (Jvm.Cond.fieldLink "TufaSteps" (31 : Nat) "TufaSteps" "board" "LTufaSteps$Picture;") ∈ lw_all := lw_g (lw_at lw_m1 94 rfl) rfl
theorem q153 : (Jvm.Cond.fieldLink "TufaSteps" (38 : Nat) "TufaSteps" "stored" "Ljava/util/BitSet;") ∈ lw_all := lw_g (lw_at lw_m1 95 rfl) rfl
theorem q154 : (Jvm.Cond.lays "TufaSteps" "TufaSteps" "board" "LTufaSteps$Picture;") ∈ lw_all := lw_g (lw_at lw_m1 96 rfl) rfl
theorem q155 : (Jvm.Cond.soleField "TufaSteps" "board") ∈ lw_all := lw_g (lw_at lw_m1 97 rfl) rfl
theorem q156 : (Jvm.Cond.lays "TufaSteps" "TufaSteps" "stored" "Ljava/util/BitSet;") ∈ lw_all := lw_g (lw_at lw_m1 98 rfl) rfl
theorem q157 : (Jvm.Cond.soleField "TufaSteps" "stored") ∈ lw_all := lw_g (lw_at lw_m1 99 rfl) rfl
theorem q158 : (Jvm.Cond.superclass "TufaSteps" "java/lang/Object") ∈ lw_all := lw_g (lw_at lw_m1 100 rfl) rfl
theorem q160 : (Jvm.Cond.instanceMethod ({ cls := "TufaSteps", name := "invert", desc := "()I" } : Jvm.MethodName)) ∈ lw_all := lw_g (lw_at lw_m1 102 rfl) rfl
theorem q161 : (Jvm.Cond.selects "TufaSteps" ({ cls := "TufaSteps", name := "invert", desc := "()I" } : Jvm.MethodName) ({ cls := "TufaSteps", name := "invert", desc := "()I" } : Jvm.MethodName)) ∈ lw_all := lw_g (lw_at lw_m1 103 rfl) rfl
theorem q162 : (Jvm.Cond.code ({ cls := "TufaSteps", name := "invert", desc := "()I" } : Jvm.MethodName) prog_1_method_16_code (1 : Nat) (Option.some Jvm.ClassFile.FieldType.int)) ∈ lw_all := lw_g (lw_at lw_m1 104 rfl) rfl
theorem q163 : (Jvm.Cond.methodLink "TufaSteps" (110 : Nat) ({ cls := "TufaSteps$Picture", name := "cells", desc := "()I" } : Jvm.MethodName)) ∈ lw_all := lw_g (lw_at lw_m1 105 rfl) rfl
theorem q167 : (Jvm.Cond.methodLink "TufaSteps" (113 : Nat) ({ cls := "java/util/BitSet", name := "flip", desc := "(II)V" } : Jvm.MethodName)) ∈ lw_all := lw_g (lw_at lw_m1 109 rfl) rfl
theorem q531 : (Jvm.Cond.methodLink "TufaSteps" (116 : Nat) ({ cls := "TufaSteps", name := "ink", desc := "()I" } : Jvm.MethodName)) ∈ lw_all := lw_g (lw_at lw_m2 233 rfl) rfl
theorem q532 : (Jvm.Cond.instanceMethod ({ cls := "TufaSteps", name := "ink", desc := "()I" } : Jvm.MethodName)) ∈ lw_all := lw_g (lw_at lw_m2 234 rfl) rfl
theorem q533 : (Jvm.Cond.selects "TufaSteps" ({ cls := "TufaSteps", name := "ink", desc := "()I" } : Jvm.MethodName) ({ cls := "TufaSteps", name := "ink", desc := "()I" } : Jvm.MethodName)) ∈ lw_all := lw_g (lw_at lw_m2 235 rfl) rfl
theorem q534 : (Jvm.Cond.code ({ cls := "TufaSteps", name := "ink", desc := "()I" } : Jvm.MethodName) prog_1_method_23_code (1 : Nat) (Option.some Jvm.ClassFile.FieldType.int)) ∈ lw_all := lw_g (lw_at lw_m2 236 rfl) rfl
theorem q535 : (Jvm.Cond.methodLink "TufaSteps" (107 : Nat) ({ cls := "java/util/BitSet", name := "cardinality", desc := "()I" } : Jvm.MethodName)) ∈ lw_all := lw_g (lw_at lw_m2 237 rfl) rfl
theorem q546 : (Jvm.Cond.instanceMethod ({ cls := "TufaSteps", name := "store", desc := "()I" } : Jvm.MethodName)) ∈ lw_all := lw_g (lw_at lw_m3 8 rfl) rfl
theorem q547 : (Jvm.Cond.selects "TufaSteps" ({ cls := "TufaSteps", name := "store", desc := "()I" } : Jvm.MethodName) ({ cls := "TufaSteps", name := "store", desc := "()I" } : Jvm.MethodName)) ∈ lw_all := lw_g (lw_at lw_m3 9 rfl) rfl
theorem q548 : (Jvm.Cond.code ({ cls := "TufaSteps", name := "store", desc := "()I" } : Jvm.MethodName) prog_1_method_17_code (2 : Nat) (Option.some Jvm.ClassFile.FieldType.int)) ∈ lw_all := lw_g (lw_at lw_m3 10 rfl) rfl
theorem q549 : (Jvm.Cond.methodLink "TufaSteps" (91 : Nat) ({ cls := "TufaSteps$Picture", name := "changes", desc := "(Ljava/util/BitSet;)I" } : Jvm.MethodName)) ∈ lw_all := lw_g (lw_at lw_m3 11 rfl) rfl
theorem q569 : (Jvm.Cond.methodLink "TufaSteps" (79 : Nat) ({ cls := "TufaSteps$Picture", name := "like", desc := "()LTufaSteps$Picture;" } : Jvm.MethodName)) ∈ lw_all := lw_g (lw_at lw_m3 31 rfl) rfl
theorem q571 : (Jvm.Cond.instanceMethod ({ cls := "TufaSteps", name := "thin", desc := "()I" } : Jvm.MethodName)) ∈ lw_all := lw_g (lw_at lw_m3 33 rfl) rfl
theorem q572 : (Jvm.Cond.selects "TufaSteps" ({ cls := "TufaSteps", name := "thin", desc := "()I" } : Jvm.MethodName) ({ cls := "TufaSteps", name := "thin", desc := "()I" } : Jvm.MethodName)) ∈ lw_all := lw_g (lw_at lw_m3 34 rfl) rfl
theorem q573 : (Jvm.Cond.code ({ cls := "TufaSteps", name := "thin", desc := "()I" } : Jvm.MethodName) prog_1_method_19_code (1 : Nat) (Option.some Jvm.ClassFile.FieldType.int)) ∈ lw_all := lw_g (lw_at lw_m3 35 rfl) rfl
theorem q574 : (Jvm.Cond.methodLink "TufaSteps" (128 : Nat) ({ cls := "TufaSteps$Picture", name := "thin", desc := "()I" } : Jvm.MethodName)) ∈ lw_all := lw_g (lw_at lw_m3 36 rfl) rfl
theorem q602 : (Jvm.Cond.static ({ cls := "TufaSteps", name := "right", desc := "(I)I" } : Jvm.MethodName)) ∈ lw_all := lw_g (lw_at lw_m3 64 rfl) rfl
theorem q603 : (Jvm.Cond.code ({ cls := "TufaSteps", name := "right", desc := "(I)I" } : Jvm.MethodName) prog_1_method_6_code (1 : Nat) (Option.some Jvm.ClassFile.FieldType.int)) ∈ lw_all := lw_g (lw_at lw_m3 65 rfl) rfl
theorem q605 : (Jvm.Cond.static ({ cls := "TufaSteps", name := "down", desc := "(I)I" } : Jvm.MethodName)) ∈ lw_all := lw_g (lw_at lw_m3 67 rfl) rfl
theorem q606 : (Jvm.Cond.code ({ cls := "TufaSteps", name := "down", desc := "(I)I" } : Jvm.MethodName) prog_1_method_7_code (1 : Nat) (Option.some Jvm.ClassFile.FieldType.int)) ∈ lw_all := lw_g (lw_at lw_m3 68 rfl) rfl
theorem q607 : (Jvm.Cond.methodLink "TufaSteps" (19 : Nat) ({ cls := "TufaSteps", name := "right", desc := "(I)I" } : Jvm.MethodName)) ∈ lw_all := lw_g (lw_at lw_m3 69 rfl) rfl
theorem q617 : (Jvm.Cond.static ({ cls := "TufaSteps", name := "isIn", desc := "(III)Z" } : Jvm.MethodName)) ∈ lw_all := lw_g (lw_at lw_m3 79 rfl) rfl
theorem q618 : (Jvm.Cond.code ({ cls := "TufaSteps", name := "isIn", desc := "(III)Z" } : Jvm.MethodName) prog_1_method_1_code (3 : Nat) (Option.some Jvm.ClassFile.FieldType.boolean)) ∈ lw_all := lw_g (lw_at lw_m3 80 rfl) rfl
theorem q649 : (Jvm.Cond.instanceMethod ({ cls := "TufaSteps", name := "width", desc := "()I" } : Jvm.MethodName)) ∈ lw_all := lw_g (lw_at lw_m3 111 rfl) rfl
theorem q650 : (Jvm.Cond.selects "TufaSteps" ({ cls := "TufaSteps", name := "width", desc := "()I" } : Jvm.MethodName) ({ cls := "TufaSteps", name := "width", desc := "()I" } : Jvm.MethodName)) ∈ lw_all := lw_g (lw_at lw_m3 112 rfl) rfl
theorem q651 : (Jvm.Cond.code ({ cls := "TufaSteps", name := "width", desc := "()I" } : Jvm.MethodName) prog_1_method_20_code (1 : Nat) (Option.some Jvm.ClassFile.FieldType.int)) ∈ lw_all := lw_g (lw_at lw_m3 113 rfl) rfl
theorem q653 : (Jvm.Cond.instanceMethod ({ cls := "TufaSteps", name := "height", desc := "()I" } : Jvm.MethodName)) ∈ lw_all := lw_g (lw_at lw_m3 115 rfl) rfl
theorem q654 : (Jvm.Cond.selects "TufaSteps" ({ cls := "TufaSteps", name := "height", desc := "()I" } : Jvm.MethodName) ({ cls := "TufaSteps", name := "height", desc := "()I" } : Jvm.MethodName)) ∈ lw_all := lw_g (lw_at lw_m3 116 rfl) rfl
theorem q655 : (Jvm.Cond.code ({ cls := "TufaSteps", name := "height", desc := "()I" } : Jvm.MethodName) prog_1_method_21_code (1 : Nat) (Option.some Jvm.ClassFile.FieldType.int)) ∈ lw_all := lw_g (lw_at lw_m3 117 rfl) rfl
theorem q658 : (Jvm.Cond.instanceMethod ({ cls := "TufaSteps", name := "greatestDepth", desc := "(Z)I" } : Jvm.MethodName)) ∈ lw_all := lw_g (lw_at lw_m3 120 rfl) rfl
theorem q659 : (Jvm.Cond.selects "TufaSteps" ({ cls := "TufaSteps", name := "greatestDepth", desc := "(Z)I" } : Jvm.MethodName) ({ cls := "TufaSteps", name := "greatestDepth", desc := "(Z)I" } : Jvm.MethodName)) ∈ lw_all := lw_g (lw_at lw_m3 121 rfl) rfl
theorem q660 : (Jvm.Cond.code ({ cls := "TufaSteps", name := "greatestDepth", desc := "(Z)I" } : Jvm.MethodName) prog_1_method_25_code (11 : Nat) (Option.some Jvm.ClassFile.FieldType.int)) ∈ lw_all := lw_g (lw_at lw_m3 122 rfl) rfl
theorem q661 : (Jvm.Cond.methodLink "TufaSteps" (136 : Nat) ({ cls := "TufaSteps$Picture", name := "depths", desc := "(Z)[[S" } : Jvm.MethodName)) ∈ lw_all := lw_g (lw_at lw_m3 123 rfl) rfl
theorem q671 : (Jvm.Cond.methodLink "TufaSteps" (140 : Nat) ({ cls := "java/lang/Math", name := "max", desc := "(II)I" } : Jvm.MethodName)) ∈ lw_all := lw_g (lw_at lw_m3 133 rfl) rfl
theorem q674 : (Jvm.Cond.instanceMethod ({ cls := "TufaSteps", name := "depthSum", desc := "(Z)I" } : Jvm.MethodName)) ∈ lw_all := lw_g (lw_at lw_m3 136 rfl) rfl
theorem q675 : (Jvm.Cond.selects "TufaSteps" ({ cls := "TufaSteps", name := "depthSum", desc := "(Z)I" } : Jvm.MethodName) ({ cls := "TufaSteps", name := "depthSum", desc := "(Z)I" } : Jvm.MethodName)) ∈ lw_all := lw_g (lw_at lw_m3 137 rfl) rfl
theorem q676 : (Jvm.Cond.code ({ cls := "TufaSteps", name := "depthSum", desc := "(Z)I" } : Jvm.MethodName) prog_1_method_26_code (11 : Nat) (Option.some Jvm.ClassFile.FieldType.int)) ∈ lw_all := lw_g (lw_at lw_m3 138 rfl) rfl
theorem q678 : (Jvm.Cond.instanceMethod ({ cls := "TufaSteps", name := "allRuns", desc := "()I" } : Jvm.MethodName)) ∈ lw_all := lw_g (lw_at lw_m3 140 rfl) rfl
theorem q679 : (Jvm.Cond.selects "TufaSteps" ({ cls := "TufaSteps", name := "allRuns", desc := "()I" } : Jvm.MethodName) ({ cls := "TufaSteps", name := "allRuns", desc := "()I" } : Jvm.MethodName)) ∈ lw_all := lw_g (lw_at lw_m3 141 rfl) rfl
theorem q680 : (Jvm.Cond.code ({ cls := "TufaSteps", name := "allRuns", desc := "()I" } : Jvm.MethodName) prog_1_method_29_code (3 : Nat) (Option.some Jvm.ClassFile.FieldType.int)) ∈ lw_all := lw_g (lw_at lw_m3 142 rfl) rfl
theorem q681 : (Jvm.Cond.methodLink "TufaSteps" (50 : Nat) ({ cls := "TufaSteps", name := "height", desc := "()I" } : Jvm.MethodName)) ∈ lw_all := lw_g (lw_at lw_m3 143 rfl) rfl
theorem q682 : (Jvm.Cond.methodLink "TufaSteps" (171 : Nat) ({ cls := "TufaSteps", name := "runs", desc := "(I)I" } : Jvm.MethodName)) ∈ lw_all := lw_g (lw_at lw_m3 144 rfl) rfl
theorem q683 : (Jvm.Cond.instanceMethod ({ cls := "TufaSteps", name := "runs", desc := "(I)I" } : Jvm.MethodName)) ∈ lw_all := lw_g (lw_at lw_m3 145 rfl) rfl
theorem q684 : (Jvm.Cond.selects "TufaSteps" ({ cls := "TufaSteps", name := "runs", desc := "(I)I" } : Jvm.MethodName) ({ cls := "TufaSteps", name := "runs", desc := "(I)I" } : Jvm.MethodName)) ∈ lw_all := lw_g (lw_at lw_m3 146 rfl) rfl
theorem q685 : (Jvm.Cond.code ({ cls := "TufaSteps", name := "runs", desc := "(I)I" } : Jvm.MethodName) prog_1_method_27_code (2 : Nat) (Option.some Jvm.ClassFile.FieldType.int)) ∈ lw_all := lw_g (lw_at lw_m3 147 rfl) rfl
theorem q686 : (Jvm.Cond.methodLink "TufaSteps" (145 : Nat) ({ cls := "TufaSteps", name := "checkedRow", desc := "(I)I" } : Jvm.MethodName)) ∈ lw_all := lw_g (lw_at lw_m3 148 rfl) rfl
theorem q687 : (Jvm.Cond.privateMethod ({ cls := "TufaSteps", name := "checkedRow", desc := "(I)I" } : Jvm.MethodName)) ∈ lw_tbl := lw_at lw_m3 149 rfl
theorem q688 : (Jvm.Cond.instanceMethod ({ cls := "TufaSteps", name := "checkedRow", desc := "(I)I" } : Jvm.MethodName)) ∈ lw_all := lw_g (lw_at lw_m3 150 rfl) rfl
theorem q689 : (Jvm.Cond.code ({ cls := "TufaSteps", name := "checkedRow", desc := "(I)I" } : Jvm.MethodName) prog_1_method_11_code (2 : Nat) (Option.some Jvm.ClassFile.FieldType.int)) ∈ lw_all := lw_g (lw_at lw_m3 151 rfl) rfl
theorem q690 : (Jvm.Cond.methodLink "TufaSteps" (15 : Nat) ({ cls := "TufaSteps", name := "isIn", desc := "(III)Z" } : Jvm.MethodName)) ∈ lw_all := lw_g (lw_at lw_m3 152 rfl) rfl
theorem q691 : (Jvm.Cond.methodLink "TufaSteps" (57 : Nat) ({ cls := "TufaSteps", name := "checkIndex", desc := "(Z)V" } : Jvm.MethodName)) ∈ lw_all := lw_g (lw_at lw_m3 153 rfl) rfl
theorem q692 : (Jvm.Cond.static ({ cls := "TufaSteps", name := "checkIndex", desc := "(Z)V" } : Jvm.MethodName)) ∈ lw_all := lw_g (lw_at lw_m3 154 rfl) rfl
theorem q693 : (Jvm.Cond.code ({ cls := "TufaSteps", name := "checkIndex", desc := "(Z)V" } : Jvm.MethodName) prog_1_method_2_code (1 : Nat) (Option.none : Option Jvm.ClassFile.FieldType)) ∈ lw_all := lw_g (lw_at lw_m3 155 rfl) rfl
theorem q694 : (Jvm.Cond.classLink "TufaSteps" (1 : Nat) "java/lang/IndexOutOfBoundsException") ∈ lw_all := lw_g (lw_at lw_m3 156 rfl) rfl
theorem q695 : (Jvm.Cond.methodLink "TufaSteps" (3 : Nat) ({ cls := "java/lang/IndexOutOfBoundsException", name := "<init>", desc := "()V" } : Jvm.MethodName)) ∈ lw_all := lw_g (lw_at lw_m3 157 rfl) rfl
theorem q705 : (Jvm.Cond.methodLink "TufaSteps" (148 : Nat) ({ cls := "TufaSteps$Picture", name := "runs", desc := "(I)Ljava/util/LinkedList;" } : Jvm.MethodName)) ∈ lw_all := lw_g (lw_at lw_m3 167 rfl) rfl
theorem q768 : (Jvm.Cond.fieldLinkNest "TufaSteps" (165 : Nat) "TufaSteps$Run" "start" "I" "TufaSteps") ∈ lw_tbl := lw_at lw_m3 230 rfl
theorem q771 : (Jvm.Cond.fieldLinkNest "TufaSteps" (168 : Nat) "TufaSteps$Run" "length" "I" "TufaSteps") ∈ lw_tbl := lw_at lw_m3 233 rfl
theorem q806 : (Jvm.Cond.methodLink "TufaSteps" (152 : Nat) ({ cls := "java/util/LinkedList", name := "size", desc := "()I" } : Jvm.MethodName)) ∈ lw_all := lw_g (lw_at lw_m4 28 rfl) rfl
theorem q811 : (Jvm.Cond.instanceMethod ({ cls := "TufaSteps", name := "parts", desc := "()I" } : Jvm.MethodName)) ∈ lw_all := lw_g (lw_at lw_m4 33 rfl) rfl
theorem q812 : (Jvm.Cond.selects "TufaSteps" ({ cls := "TufaSteps", name := "parts", desc := "()I" } : Jvm.MethodName) ({ cls := "TufaSteps", name := "parts", desc := "()I" } : Jvm.MethodName)) ∈ lw_all := lw_g (lw_at lw_m4 34 rfl) rfl
theorem q813 : (Jvm.Cond.code ({ cls := "TufaSteps", name := "parts", desc := "()I" } : Jvm.MethodName) prog_1_method_30_code (1 : Nat) (Option.some Jvm.ClassFile.FieldType.int)) ∈ lw_all := lw_g (lw_at lw_m4 35 rfl) rfl
theorem q814 : (Jvm.Cond.methodLink "TufaSteps" (173 : Nat) ({ cls := "TufaSteps$Picture", name := "parts", desc := "()I" } : Jvm.MethodName)) ∈ lw_all := lw_g (lw_at lw_m4 36 rfl) rfl
theorem q888 : (Jvm.Cond.selects "TufaSteps" ({ cls := "java/lang/Object", name := "getClass", desc := "()Ljava/lang/Class;" } : Jvm.MethodName) ({ cls := "java/lang/Object", name := "getClass", desc := "()Ljava/lang/Class;" } : Jvm.MethodName)) ∈ lw_all := lw_g (lw_at lw_m4 110 rfl) rfl
theorem q948 : (Jvm.Cond.instanceMethod ({ cls := "TufaSteps", name := "holes", desc := "()I" } : Jvm.MethodName)) ∈ lw_all := lw_g (lw_at lw_m4 170 rfl) rfl
theorem q949 : (Jvm.Cond.selects "TufaSteps" ({ cls := "TufaSteps", name := "holes", desc := "()I" } : Jvm.MethodName) ({ cls := "TufaSteps", name := "holes", desc := "()I" } : Jvm.MethodName)) ∈ lw_all := lw_g (lw_at lw_m4 171 rfl) rfl
theorem q950 : (Jvm.Cond.code ({ cls := "TufaSteps", name := "holes", desc := "()I" } : Jvm.MethodName) prog_1_method_33_code (1 : Nat) (Option.some Jvm.ClassFile.FieldType.int)) ∈ lw_all := lw_g (lw_at lw_m4 172 rfl) rfl
theorem q951 : (Jvm.Cond.methodLink "TufaSteps" (179 : Nat) ({ cls := "TufaSteps$Picture", name := "holes", desc := "()I" } : Jvm.MethodName)) ∈ lw_all := lw_g (lw_at lw_m4 173 rfl) rfl
theorem q961 : (Jvm.Cond.instanceMethod ({ cls := "TufaSteps", name := "edges", desc := "()I" } : Jvm.MethodName)) ∈ lw_all := lw_g (lw_at lw_m4 183 rfl) rfl
theorem q962 : (Jvm.Cond.selects "TufaSteps" ({ cls := "TufaSteps", name := "edges", desc := "()I" } : Jvm.MethodName) ({ cls := "TufaSteps", name := "edges", desc := "()I" } : Jvm.MethodName)) ∈ lw_all := lw_g (lw_at lw_m4 184 rfl) rfl
theorem q963 : (Jvm.Cond.code ({ cls := "TufaSteps", name := "edges", desc := "()I" } : Jvm.MethodName) prog_1_method_34_code (1 : Nat) (Option.some Jvm.ClassFile.FieldType.int)) ∈ lw_all := lw_g (lw_at lw_m4 185 rfl) rfl
theorem q964 : (Jvm.Cond.methodLink "TufaSteps" (182 : Nat) ({ cls := "TufaSteps$Picture", name := "edges", desc := "()I" } : Jvm.MethodName)) ∈ lw_all := lw_g (lw_at lw_m4 186 rfl) rfl
theorem q969 : (Jvm.Cond.instanceMethod ({ cls := "TufaSteps", name := "stepsToThin", desc := "()I" } : Jvm.MethodName)) ∈ lw_all := lw_g (lw_at lw_m4 191 rfl) rfl
theorem q970 : (Jvm.Cond.selects "TufaSteps" ({ cls := "TufaSteps", name := "stepsToThin", desc := "()I" } : Jvm.MethodName) ({ cls := "TufaSteps", name := "stepsToThin", desc := "()I" } : Jvm.MethodName)) ∈ lw_all := lw_g (lw_at lw_m4 192 rfl) rfl
theorem q971 : (Jvm.Cond.code ({ cls := "TufaSteps", name := "stepsToThin", desc := "()I" } : Jvm.MethodName) prog_1_method_35_code (1 : Nat) (Option.some Jvm.ClassFile.FieldType.int)) ∈ lw_all := lw_g (lw_at lw_m4 193 rfl) rfl
theorem q973 : (Jvm.Cond.instanceMethod ({ cls := "TufaSteps", name := "thinned", desc := "()I" } : Jvm.MethodName)) ∈ lw_all := lw_g (lw_at lw_m4 195 rfl) rfl
theorem q974 : (Jvm.Cond.selects "TufaSteps" ({ cls := "TufaSteps", name := "thinned", desc := "()I" } : Jvm.MethodName) ({ cls := "TufaSteps", name := "thinned", desc := "()I" } : Jvm.MethodName)) ∈ lw_all := lw_g (lw_at lw_m4 196 rfl) rfl
theorem q975 : (Jvm.Cond.code ({ cls := "TufaSteps", name := "thinned", desc := "()I" } : Jvm.MethodName) prog_1_method_36_code (3 : Nat) (Option.some Jvm.ClassFile.FieldType.int)) ∈ lw_all := lw_g (lw_at lw_m4 197 rfl) rfl
theorem q977 : (Jvm.Cond.instanceMethod ({ cls := "TufaSteps", name := "inkShare", desc := "()D" } : Jvm.MethodName)) ∈ lw_all := lw_g (lw_at lw_m4 199 rfl) rfl
theorem q978 : (Jvm.Cond.selects "TufaSteps" ({ cls := "TufaSteps", name := "inkShare", desc := "()D" } : Jvm.MethodName) ({ cls := "TufaSteps", name := "inkShare", desc := "()D" } : Jvm.MethodName)) ∈ lw_all := lw_g (lw_at lw_m4 200 rfl) rfl
theorem q979 : (Jvm.Cond.code ({ cls := "TufaSteps", name := "inkShare", desc := "()D" } : Jvm.MethodName) prog_1_method_37_code (1 : Nat) (Option.some Jvm.ClassFile.FieldType.double)) ∈ lw_all := lw_g (lw_at lw_m4 201 rfl) rfl
theorem q981 : (Jvm.Cond.instanceMethod ({ cls := "TufaSteps", name := "meanRun", desc := "()F" } : Jvm.MethodName)) ∈ lw_all := lw_g (lw_at lw_m4 203 rfl) rfl
theorem q982 : (Jvm.Cond.selects "TufaSteps" ({ cls := "TufaSteps", name := "meanRun", desc := "()F" } : Jvm.MethodName) ({ cls := "TufaSteps", name := "meanRun", desc := "()F" } : Jvm.MethodName)) ∈ lw_all := lw_g (lw_at lw_m4 204 rfl) rfl
theorem q983 : (Jvm.Cond.code ({ cls := "TufaSteps", name := "meanRun", desc := "()F" } : Jvm.MethodName) prog_1_method_38_code (1 : Nat) (Option.some Jvm.ClassFile.FieldType.float)) ∈ lw_all := lw_g (lw_at lw_m4 205 rfl) rfl
theorem q984 : (Jvm.Cond.methodLink "TufaSteps" (185 : Nat) ({ cls := "TufaSteps", name := "allRuns", desc := "()I" } : Jvm.MethodName)) ∈ lw_all := lw_g (lw_at lw_m4 206 rfl) rfl
theorem q986 : (Jvm.Cond.instanceMethod ({ cls := "TufaSteps", name := "tufaErrors", desc := "()I" } : Jvm.MethodName)) ∈ lw_all := lw_g (lw_at lw_m4 208 rfl) rfl
theorem q987 : (Jvm.Cond.selects "TufaSteps" ({ cls := "TufaSteps", name := "tufaErrors", desc := "()I" } : Jvm.MethodName) ({ cls := "TufaSteps", name := "tufaErrors", desc := "()I" } : Jvm.MethodName)) ∈ lw_all := lw_g (lw_at lw_m4 209 rfl) rfl
theorem q988 : (Jvm.Cond.code ({ cls := "TufaSteps", name := "tufaErrors", desc := "()I" } : Jvm.MethodName) prog_1_method_39_code (8 : Nat) (Option.some Jvm.ClassFile.FieldType.int)) ∈ lw_all := lw_g (lw_at lw_m4 210 rfl) rfl
theorem q989 : (Jvm.Cond.methodLink "TufaSteps" (46 : Nat) ({ cls := "TufaSteps", name := "width", desc := "()I" } : Jvm.MethodName)) ∈ lw_all := lw_g (lw_at lw_m4 211 rfl) rfl
theorem q990 : (Jvm.Cond.methodLink "TufaSteps" (188 : Nat) ({ cls := "TufaSteps$Picture", name := "seen", desc := "(IIZ)I" } : Jvm.MethodName)) ∈ lw_all := lw_g (lw_at lw_m4 212 rfl) rfl
theorem q999 : (Jvm.Cond.methodLink "TufaSteps" (192 : Nat) ({ cls := "java/util/LinkedList", name := "iterator", desc := "()Ljava/util/Iterator;" } : Jvm.MethodName)) ∈ lw_all := lw_g (lw_at lw_m4 221 rfl) rfl
theorem q1065 : (Jvm.Cond.interfaceEntry "TufaSteps" (196 : Nat)) ∈ lw_tbl := lw_at lw_m5 47 rfl
theorem q1066 : (Jvm.Cond.methodLink "TufaSteps" (196 : Nat) ({ cls := "java/util/Iterator", name := "hasNext", desc := "()Z" } : Jvm.MethodName)) ∈ lw_all := lw_g (lw_at lw_m5 48 rfl) rfl
theorem q1085 : (Jvm.Cond.interfaceEntry "TufaSteps" (202 : Nat)) ∈ lw_tbl := lw_at lw_m5 67 rfl
theorem q1086 : (Jvm.Cond.methodLink "TufaSteps" (202 : Nat) ({ cls := "java/util/Iterator", name := "next", desc := "()Ljava/lang/Object;" } : Jvm.MethodName)) ∈ lw_all := lw_g (lw_at lw_m5 68 rfl) rfl
theorem q1169 : (Jvm.Cond.classLink "TufaSteps" (163 : Nat) "TufaSteps$Run") ∈ lw_all := lw_g (lw_at lw_m5 151 rfl) rfl
theorem q1170 : (Jvm.Cond.methodLink "TufaSteps" (206 : Nat) ({ cls := "java/lang/Math", name := "abs", desc := "(I)I" } : Jvm.MethodName)) ∈ lw_all := lw_g (lw_at lw_m5 152 rfl) rfl
theorem q1172 : (Jvm.Cond.instanceMethod ({ cls := "TufaSteps", name := "checksum", desc := "()J" } : Jvm.MethodName)) ∈ lw_all := lw_g (lw_at lw_m5 154 rfl) rfl
theorem q1173 : (Jvm.Cond.selects "TufaSteps" ({ cls := "TufaSteps", name := "checksum", desc := "()J" } : Jvm.MethodName) ({ cls := "TufaSteps", name := "checksum", desc := "()J" } : Jvm.MethodName)) ∈ lw_all := lw_g (lw_at lw_m5 155 rfl) rfl
theorem q1174 : (Jvm.Cond.code ({ cls := "TufaSteps", name := "checksum", desc := "()J" } : Jvm.MethodName) prog_1_method_40_code (8 : Nat) (Option.some Jvm.ClassFile.FieldType.long)) ∈ lw_all := lw_g (lw_at lw_m5 156 rfl) rfl
theorem q1175 : (Jvm.Cond.constantLong "TufaSteps" (209 : Nat) (31 : Int64)) ∈ lw_all := lw_g (lw_at lw_m5 157 rfl) rfl
theorem q1176 : (Jvm.Cond.methodLink "TufaSteps" (211 : Nat) ({ cls := "TufaSteps", name := "parts", desc := "()I" } : Jvm.MethodName)) ∈ lw_all := lw_g (lw_at lw_m5 158 rfl) rfl
theorem q1177 : (Jvm.Cond.methodLink "TufaSteps" (212 : Nat) ({ cls := "TufaSteps", name := "holes", desc := "()I" } : Jvm.MethodName)) ∈ lw_all := lw_g (lw_at lw_m5 159 rfl) rfl
theorem q1178 : (Jvm.Cond.methodLink "TufaSteps" (67 : Nat) ({ cls := "java/util/BitSet", name := "get", desc := "(I)Z" } : Jvm.MethodName)) ∈ lw_all := lw_g (lw_at lw_m5 160 rfl) rfl
theorem q1184 : (Jvm.Cond.instanceMethod ({ cls := "TufaSteps", name := "open", desc := "(II)I" } : Jvm.MethodName)) ∈ lw_all := lw_g (lw_at lw_m5 166 rfl) rfl
theorem q1185 : (Jvm.Cond.selects "TufaSteps" ({ cls := "TufaSteps", name := "open", desc := "(II)I" } : Jvm.MethodName) ({ cls := "TufaSteps", name := "open", desc := "(II)I" } : Jvm.MethodName)) ∈ lw_all := lw_g (lw_at lw_m5 167 rfl) rfl
theorem q1186 : (Jvm.Cond.code ({ cls := "TufaSteps", name := "open", desc := "(II)I" } : Jvm.MethodName) prog_1_method_9_code (4 : Nat) (Option.some Jvm.ClassFile.FieldType.int)) ∈ lw_all := lw_g (lw_at lw_m5 168 rfl) rfl
theorem q1187 : (Jvm.Cond.methodLink "TufaSteps" (42 : Nat) ({ cls := "TufaSteps", name := "checkArgument", desc := "(Z)V" } : Jvm.MethodName)) ∈ lw_all := lw_g (lw_at lw_m5 169 rfl) rfl
theorem q1188 : (Jvm.Cond.static ({ cls := "TufaSteps", name := "checkArgument", desc := "(Z)V" } : Jvm.MethodName)) ∈ lw_all := lw_g (lw_at lw_m5 170 rfl) rfl
theorem q1189 : (Jvm.Cond.code ({ cls := "TufaSteps", name := "checkArgument", desc := "(Z)V" } : Jvm.MethodName) prog_1_method_3_code (1 : Nat) (Option.none : Option Jvm.ClassFile.FieldType)) ∈ lw_all := lw_g (lw_at lw_m5 171 rfl) rfl
theorem q1190 : (Jvm.Cond.classLink "TufaSteps" (7 : Nat) "java/lang/IllegalArgumentException") ∈ lw_all := lw_g (lw_at lw_m5 172 rfl) rfl
theorem q1191 : (Jvm.Cond.methodLink "TufaSteps" (9 : Nat) ({ cls := "java/lang/IllegalArgumentException", name := "<init>", desc := "()V" } : Jvm.MethodName)) ∈ lw_all := lw_g (lw_at lw_m5 173 rfl) rfl
theorem q1215 : (Jvm.Cond.instanceMethod ({ cls := "TufaSteps", name := "set", desc := "(IIZ)Z" } : Jvm.MethodName)) ∈ lw_all := lw_g (lw_at lw_m5 197 rfl) rfl
theorem q1216 : (Jvm.Cond.selects "TufaSteps" ({ cls := "TufaSteps", name := "set", desc := "(IIZ)Z" } : Jvm.MethodName) ({ cls := "TufaSteps", name := "set", desc := "(IIZ)Z" } : Jvm.MethodName)) ∈ lw_all := lw_g (lw_at lw_m5 198 rfl) rfl
theorem q1217 : (Jvm.Cond.code ({ cls := "TufaSteps", name := "set", desc := "(IIZ)Z" } : Jvm.MethodName) prog_1_method_12_code (6 : Nat) (Option.some Jvm.ClassFile.FieldType.boolean)) ∈ lw_all := lw_g (lw_at lw_m5 199 rfl) rfl
theorem q1218 : (Jvm.Cond.methodLink "TufaSteps" (60 : Nat) ({ cls := "TufaSteps", name := "cellAt", desc := "(II)I" } : Jvm.MethodName)) ∈ lw_all := lw_g (lw_at lw_m5 200 rfl) rfl
theorem q1219 : (Jvm.Cond.privateMethod ({ cls := "TufaSteps", name := "cellAt", desc := "(II)I" } : Jvm.MethodName)) ∈ lw_tbl := lw_at lw_m5 201 rfl
theorem q1220 : (Jvm.Cond.instanceMethod ({ cls := "TufaSteps", name := "cellAt", desc := "(II)I" } : Jvm.MethodName)) ∈ lw_all := lw_g (lw_at lw_m5 202 rfl) rfl
theorem q1221 : (Jvm.Cond.code ({ cls := "TufaSteps", name := "cellAt", desc := "(II)I" } : Jvm.MethodName) prog_1_method_10_code (3 : Nat) (Option.some Jvm.ClassFile.FieldType.int)) ∈ lw_all := lw_g (lw_at lw_m5 203 rfl) rfl
theorem q1222 : (Jvm.Cond.methodLink "TufaSteps" (53 : Nat) ({ cls := "TufaSteps$Picture", name := "isOn", desc := "(II)Z" } : Jvm.MethodName)) ∈ lw_all := lw_g (lw_at lw_m5 204 rfl) rfl
theorem q1223 : (Jvm.Cond.methodLink "TufaSteps" (71 : Nat) ({ cls := "java/util/BitSet", name := "set", desc := "(IZ)V" } : Jvm.MethodName)) ∈ lw_all := lw_g (lw_at lw_m5 205 rfl) rfl
theorem q1228 : (Jvm.Cond.instanceMethod ({ cls := "TufaSteps", name := "line", desc := "(IIIIZ)I" } : Jvm.MethodName)) ∈ lw_all := lw_g (lw_at lw_m5 210 rfl) rfl
theorem q1229 : (Jvm.Cond.selects "TufaSteps" ({ cls := "TufaSteps", name := "line", desc := "(IIIIZ)I" } : Jvm.MethodName) ({ cls := "TufaSteps", name := "line", desc := "(IIIIZ)I" } : Jvm.MethodName)) ∈ lw_all := lw_g (lw_at lw_m5 211 rfl) rfl
theorem q1230 : (Jvm.Cond.code ({ cls := "TufaSteps", name := "line", desc := "(IIIIZ)I" } : Jvm.MethodName) prog_1_method_13_code (7 : Nat) (Option.some Jvm.ClassFile.FieldType.int)) ∈ lw_all := lw_g (lw_at lw_m5 212 rfl) rfl
theorem q1231 : (Jvm.Cond.methodLink "TufaSteps" (75 : Nat) ({ cls := "TufaSteps", name := "arePlaces", desc := "([I)Z" } : Jvm.MethodName)) ∈ lw_all := lw_g (lw_at lw_m5 213 rfl) rfl
theorem q1232 : (Jvm.Cond.static ({ cls := "TufaSteps", name := "arePlaces", desc := "([I)Z" } : Jvm.MethodName)) ∈ lw_all := lw_g (lw_at lw_m5 214 rfl) rfl
theorem q1233 : (Jvm.Cond.code ({ cls := "TufaSteps", name := "arePlaces", desc := "([I)Z" } : Jvm.MethodName) prog_1_method_5_code (6 : Nat) (Option.some Jvm.ClassFile.FieldType.boolean)) ∈ lw_all := lw_g (lw_at lw_m5 215 rfl) rfl
theorem q1234 : (Jvm.Cond.methodLinkNest "TufaSteps" (83 : Nat) ({ cls := "TufaSteps$Picture", name := "pen", desc := "(Z)LTufaSteps$Pen;" } : Jvm.MethodName) "TufaSteps") ∈ lw_tbl := lw_at lw_m5 216 rfl
theorem q1241 : (Jvm.Cond.methodLinkNest "TufaSteps" (87 : Nat) ({ cls := "TufaSteps$Picture", name := "drawLine", desc := "(IIIILTufaSteps$Pen;)V" } : Jvm.MethodName) "TufaSteps") ∈ lw_tbl := lw_at lw_m5 223 rfl
theorem q1257 : (Jvm.Cond.instanceMethod ({ cls := "TufaSteps", name := "circle", desc := "(IIIZ)I" } : Jvm.MethodName)) ∈ lw_all := lw_g (lw_at lw_m5 239 rfl) rfl
theorem q1258 : (Jvm.Cond.selects "TufaSteps" ({ cls := "TufaSteps", name := "circle", desc := "(IIIZ)I" } : Jvm.MethodName) ({ cls := "TufaSteps", name := "circle", desc := "(IIIZ)I" } : Jvm.MethodName)) ∈ lw_all := lw_g (lw_at lw_m6 0 rfl) rfl
theorem q1259 : (Jvm.Cond.code ({ cls := "TufaSteps", name := "circle", desc := "(IIIZ)I" } : Jvm.MethodName) prog_1_method_14_code (6 : Nat) (Option.some Jvm.ClassFile.FieldType.int)) ∈ lw_all := lw_g (lw_at lw_m6 1 rfl) rfl
theorem q1260 : (Jvm.Cond.methodLinkNest "TufaSteps" (95 : Nat) ({ cls := "TufaSteps$Picture", name := "drawCircle", desc := "(IIILTufaSteps$Pen;)V" } : Jvm.MethodName) "TufaSteps") ∈ lw_tbl := lw_at lw_m6 2 rfl
theorem q1268 : (Jvm.Cond.instanceMethod ({ cls := "TufaSteps", name := "fill", desc := "(II)I" } : Jvm.MethodName)) ∈ lw_all := lw_g (lw_at lw_m6 10 rfl) rfl
theorem q1269 : (Jvm.Cond.selects "TufaSteps" ({ cls := "TufaSteps", name := "fill", desc := "(II)I" } : Jvm.MethodName) ({ cls := "TufaSteps", name := "fill", desc := "(II)I" } : Jvm.MethodName)) ∈ lw_all := lw_g (lw_at lw_m6 11 rfl) rfl
theorem q1270 : (Jvm.Cond.code ({ cls := "TufaSteps", name := "fill", desc := "(II)I" } : Jvm.MethodName) prog_1_method_15_code (5 : Nat) (Option.some Jvm.ClassFile.FieldType.int)) ∈ lw_all := lw_g (lw_at lw_m6 12 rfl) rfl
theorem q1271 : (Jvm.Cond.methodLink "TufaSteps" (99 : Nat) ({ cls := "TufaSteps$Picture", name := "reached", desc := "(II)Ljava/util/BitSet;" } : Jvm.MethodName)) ∈ lw_all := lw_g (lw_at lw_m6 13 rfl) rfl
theorem q1272 : (Jvm.Cond.methodLink "TufaSteps" (103 : Nat) ({ cls := "java/util/BitSet", name := "or", desc := "(Ljava/util/BitSet;)V" } : Jvm.MethodName)) ∈ lw_all := lw_g (lw_at lw_m6 14 rfl) rfl
theorem q1277 : (Jvm.Cond.instanceMethod ({ cls := "TufaSteps", name := "join", desc := "(I)I" } : Jvm.MethodName)) ∈ lw_all := lw_g (lw_at lw_m6 19 rfl) rfl
theorem q1278 : (Jvm.Cond.selects "TufaSteps" ({ cls := "TufaSteps", name := "join", desc := "(I)I" } : Jvm.MethodName) ({ cls := "TufaSteps", name := "join", desc := "(I)I" } : Jvm.MethodName)) ∈ lw_all := lw_g (lw_at lw_m6 20 rfl) rfl
theorem q1279 : (Jvm.Cond.code ({ cls := "TufaSteps", name := "join", desc := "(I)I" } : Jvm.MethodName) prog_1_method_18_code (2 : Nat) (Option.some Jvm.ClassFile.FieldType.int)) ∈ lw_all := lw_g (lw_at lw_m6 21 rfl) rfl
theorem q1280 : (Jvm.Cond.methodLink "TufaSteps" (118 : Nat) ({ cls := "TufaSteps$Way", name := "values", desc := "()[LTufaSteps$Way;" } : Jvm.MethodName)) ∈ lw_all := lw_g (lw_at lw_m6 22 rfl) rfl
theorem q1291 : (Jvm.Cond.methodLink "TufaSteps" (124 : Nat) ({ cls := "TufaSteps$Way", name := "join", desc := "(Ljava/util/BitSet;Ljava/util/BitSet;)V" } : Jvm.MethodName)) ∈ lw_all := lw_g (lw_at lw_m6 33 rfl) rfl
theorem q1317 : (Jvm.Cond.instanceMethod ({ cls := "TufaSteps", name := "at", desc := "(II)Z" } : Jvm.MethodName)) ∈ lw_all := lw_g (lw_at lw_m6 59 rfl) rfl
theorem q1318 : (Jvm.Cond.selects "TufaSteps" ({ cls := "TufaSteps", name := "at", desc := "(II)Z" } : Jvm.MethodName) ({ cls := "TufaSteps", name := "at", desc := "(II)Z" } : Jvm.MethodName)) ∈ lw_all := lw_g (lw_at lw_m6 60 rfl) rfl
theorem q1319 : (Jvm.Cond.code ({ cls := "TufaSteps", name := "at", desc := "(II)Z" } : Jvm.MethodName) prog_1_method_22_code (3 : Nat) (Option.some Jvm.ClassFile.FieldType.boolean)) ∈ lw_all := lw_g (lw_at lw_m6 61 rfl) rfl
theorem q1324 : (Jvm.Cond.instanceMethod ({ cls := "TufaSteps", name := "depthAt", desc := "(IIZ)I" } : Jvm.MethodName)) ∈ lw_all := lw_g (lw_at lw_m6 66 rfl) rfl
theorem q1325 : (Jvm.Cond.selects "TufaSteps" ({ cls := "TufaSteps", name := "depthAt", desc := "(IIZ)I" } : Jvm.MethodName) ({ cls := "TufaSteps", name := "depthAt", desc := "(IIZ)I" } : Jvm.MethodName)) ∈ lw_all := lw_g (lw_at lw_m6 67 rfl) rfl
theorem q1326 : (Jvm.Cond.code ({ cls := "TufaSteps", name := "depthAt", desc := "(IIZ)I" } : Jvm.MethodName) prog_1_method_24_code (5 : Nat) (Option.some Jvm.ClassFile.FieldType.int)) ∈ lw_all := lw_g (lw_at lw_m6 68 rfl) rfl
theorem q1336 : (Jvm.Cond.instanceMethod ({ cls := "TufaSteps", name := "runAt", desc := "(II)I" } : Jvm.MethodName)) ∈ lw_all := lw_g (lw_at lw_m6 78 rfl) rfl
theorem q1337 : (Jvm.Cond.selects "TufaSteps" ({ cls := "TufaSteps", name := "runAt", desc := "(II)I" } : Jvm.MethodName) ({ cls := "TufaSteps", name := "runAt", desc := "(II)I" } : Jvm.MethodName)) ∈ lw_all := lw_g (lw_at lw_m6 79 rfl) rfl
theorem q1338 : (Jvm.Cond.code ({ cls := "TufaSteps", name := "runAt", desc := "(II)I" } : Jvm.MethodName) prog_1_method_28_code (5 : Nat) (Option.some Jvm.ClassFile.FieldType.int)) ∈ lw_all := lw_g (lw_at lw_m6 80 rfl) rfl
theorem q1339 : (Jvm.Cond.methodLink "TufaSteps" (157 : Nat) ({ cls := "TufaSteps", name := "checkElement", desc := "(Z)V" } : Jvm.MethodName)) ∈ lw_all := lw_g (lw_at lw_m6 81 rfl) rfl
theorem q1340 : (Jvm.Cond.static ({ cls := "TufaSteps", name := "checkElement", desc := "(Z)V" } : Jvm.MethodName)) ∈ lw_all := lw_g (lw_at lw_m6 82 rfl) rfl
theorem q1341 : (Jvm.Cond.code ({ cls := "TufaSteps", name := "checkElement", desc := "(Z)V" } : Jvm.MethodName) prog_1_method_4_code (1 : Nat) (Option.none : Option Jvm.ClassFile.FieldType)) ∈ lw_all := lw_g (lw_at lw_m6 83 rfl) rfl
theorem q1342 : (Jvm.Cond.classLink "TufaSteps" (10 : Nat) "java/util/NoSuchElementException") ∈ lw_all := lw_g (lw_at lw_m6 84 rfl) rfl
theorem q1343 : (Jvm.Cond.methodLink "TufaSteps" (12 : Nat) ({ cls := "java/util/NoSuchElementException", name := "<init>", desc := "()V" } : Jvm.MethodName)) ∈ lw_all := lw_g (lw_at lw_m6 85 rfl) rfl
theorem q1344 : (Jvm.Cond.methodLink "TufaSteps" (160 : Nat) ({ cls := "java/util/LinkedList", name := "get", desc := "(I)Ljava/lang/Object;" } : Jvm.MethodName)) ∈ lw_all := lw_g (lw_at lw_m6 86 rfl) rfl
theorem q1349 : (Jvm.Cond.instanceMethod ({ cls := "TufaSteps", name := "partOf", desc := "(II)I" } : Jvm.MethodName)) ∈ lw_all := lw_g (lw_at lw_m6 91 rfl) rfl
theorem q1350 : (Jvm.Cond.selects "TufaSteps" ({ cls := "TufaSteps", name := "partOf", desc := "(II)I" } : Jvm.MethodName) ({ cls := "TufaSteps", name := "partOf", desc := "(II)I" } : Jvm.MethodName)) ∈ lw_all := lw_g (lw_at lw_m6 92 rfl) rfl
theorem q1351 : (Jvm.Cond.code ({ cls := "TufaSteps", name := "partOf", desc := "(II)I" } : Jvm.MethodName) prog_1_method_31_code (4 : Nat) (Option.some Jvm.ClassFile.FieldType.int)) ∈ lw_all := lw_g (lw_at lw_m6 93 rfl) rfl
theorem q1352 : (Jvm.Cond.methodLink "TufaSteps" (176 : Nat) ({ cls := "java/util/BitSet", name := "nextSetBit", desc := "(I)I" } : Jvm.MethodName)) ∈ lw_all := lw_g (lw_at lw_m6 94 rfl) rfl
theorem q1357 : (Jvm.Cond.instanceMethod ({ cls := "TufaSteps", name := "partSize", desc := "(II)I" } : Jvm.MethodName)) ∈ lw_all := lw_g (lw_at lw_m6 99 rfl) rfl
theorem q1358 : (Jvm.Cond.selects "TufaSteps" ({ cls := "TufaSteps", name := "partSize", desc := "(II)I" } : Jvm.MethodName) ({ cls := "TufaSteps", name := "partSize", desc := "(II)I" } : Jvm.MethodName)) ∈ lw_all := lw_g (lw_at lw_m6 100 rfl) rfl
theorem q1359 : (Jvm.Cond.code ({ cls := "TufaSteps", name := "partSize", desc := "(II)I" } : Jvm.MethodName) prog_1_method_32_code (4 : Nat) (Option.some Jvm.ClassFile.FieldType.int)) ∈ lw_all := lw_g (lw_at lw_m6 101 rfl) rfl
theorem q1693 : (Jvm.Cond.castable "TufaSteps" "java/lang/Object") ∈ lw_tbl := lw_at lw_m7 195 rfl
theorem in_X1 : ∀ w ∈ wsX10, w ∈ lw_all := lw_in wsX10 [154, 156] (by decide +kernel) (by decide +kernel)
/-! TufaSteps$Picture -/
set_option maxRecDepth 100000
def RX2 : String := "TufaSteps$Picture"
def TX2 : u_T := fun k => match k with
  | 0 => ("TufaSteps$Picture", "width", "I", true)
  | 1 => ("TufaSteps$Picture", "height", "I", true)
  | _ => ("TufaSteps$Picture", "ink", "Ljava/util/BitSet;", true)
def tyX2 : Nat → FieldType := fun k => match k with
  | 0 => .int
  | 1 => .int
  | _ => .object "java/util/BitSet"
abbrev wsX20 : List Cond := u_ws RX2 TX2 3
theorem nmX2 : ∀ a, a < 3 → ∀ b, b < 3 → a ≠ b → (TX2 a).2.1 ≠ (TX2 b).2.1 := by decide +kernel
theorem tyX2_ok : ∀ k, k < 3 → parseFieldDescriptor (TX2 k).2.2.1 = some (tyX2 k) := by decide +kernel
abbrev cX2_init : ByteArray := prog_3_method_1_code
def yX2_init : MethodName := ⟨RX2, "<init>", "(II)V"⟩
def dkwX2_init_0 : List UInt8 := [42, 27, 28, 187, 0, 3, 89, 183, 0, 5, 183, 0, 9, 177]
abbrev dktX2_init_0 : List UInt8 := dkwX2_init_0 ++ []
theorem dksX2_init_0 : cX2_init.data.toList.drop 0 = dktX2_init_0 := by decide +kernel
theorem dX2_init_0 : decode cX2_init 0 = .ok (.aload_n 0, 1) := dk_42 (dk_at dksX2_init_0 0 rfl rfl)
theorem dX2_init_1 : decode cX2_init 1 = .ok (.iload_n 1, 1) := dk_27 (dk_at dksX2_init_0 1 rfl rfl)
theorem dX2_init_2 : decode cX2_init 2 = .ok (.iload_n 2, 1) := dk_28 (dk_at dksX2_init_0 2 rfl rfl)
theorem dX2_init_3 : decode cX2_init 3 = .ok (.new 3, 3) := dk_187 0 3 (dk_at dksX2_init_0 3 rfl rfl)
theorem dX2_init_6 : decode cX2_init 6 = .ok (.dup, 1) := dk_89 (dk_at dksX2_init_0 6 rfl rfl)
theorem dX2_init_7 : decode cX2_init 7 = .ok (.invokespecial 5, 3) := dk_183 0 5 (dk_at dksX2_init_0 7 rfl rfl)
theorem dX2_init_10 : decode cX2_init 10 = .ok (.invokespecial 9, 3) := dk_183 0 9 (dk_at dksX2_init_0 10 rfl rfl)
theorem dX2_init_13 : decode cX2_init 13 = .ok (.return_, 1) := dk_177 (dk_at dksX2_init_0 13 rfl rfl)
abbrev cX2_init_2 : ByteArray := prog_3_method_2_code
def yX2_init_2 : MethodName := ⟨RX2, "<init>", "(IILjava/util/BitSet;)V"⟩
def dkwX2_init_2_0 : List UInt8 := [42, 183, 0, 14, 42, 27, 181, 0, 17, 42, 28, 181, 0, 21, 42, 45, 181, 0, 24, 177]
abbrev dktX2_init_2_0 : List UInt8 := dkwX2_init_2_0 ++ []
theorem dksX2_init_2_0 : cX2_init_2.data.toList.drop 0 = dktX2_init_2_0 := by decide +kernel
theorem dX2_init_2_0 : decode cX2_init_2 0 = .ok (.aload_n 0, 1) := dk_42 (dk_at dksX2_init_2_0 0 rfl rfl)
theorem dX2_init_2_1 : decode cX2_init_2 1 = .ok (.invokespecial 14, 3) := dk_183 0 14 (dk_at dksX2_init_2_0 1 rfl rfl)
theorem dX2_init_2_4 : decode cX2_init_2 4 = .ok (.aload_n 0, 1) := dk_42 (dk_at dksX2_init_2_0 4 rfl rfl)
theorem dX2_init_2_5 : decode cX2_init_2 5 = .ok (.iload_n 1, 1) := dk_27 (dk_at dksX2_init_2_0 5 rfl rfl)
theorem dX2_init_2_6 : decode cX2_init_2 6 = .ok (.putfield 17, 3) := dk_181 0 17 (dk_at dksX2_init_2_0 6 rfl rfl)
theorem dX2_init_2_9 : decode cX2_init_2 9 = .ok (.aload_n 0, 1) := dk_42 (dk_at dksX2_init_2_0 9 rfl rfl)
theorem dX2_init_2_10 : decode cX2_init_2 10 = .ok (.iload_n 2, 1) := dk_28 (dk_at dksX2_init_2_0 10 rfl rfl)
theorem dX2_init_2_11 : decode cX2_init_2 11 = .ok (.putfield 21, 3) := dk_181 0 21 (dk_at dksX2_init_2_0 11 rfl rfl)
theorem dX2_init_2_14 : decode cX2_init_2 14 = .ok (.aload_n 0, 1) := dk_42 (dk_at dksX2_init_2_0 14 rfl rfl)
theorem dX2_init_2_15 : decode cX2_init_2 15 = .ok (.aload_n 3, 1) := dk_45 (dk_at dksX2_init_2_0 15 rfl rfl)
theorem dX2_init_2_16 : decode cX2_init_2 16 = .ok (.putfield 24, 3) := dk_181 0 24 (dk_at dksX2_init_2_0 16 rfl rfl)
theorem dX2_init_2_19 : decode cX2_init_2 19 = .ok (.return_, 1) := dk_177 (dk_at dksX2_init_2_0 19 rfl rfl)
abbrev cX2_cells : ByteArray := prog_3_method_4_code
def yX2_cells : MethodName := ⟨RX2, "cells", "()I"⟩
def dkwX2_cells_0 : List UInt8 := [42, 180, 0, 17, 42, 180, 0, 21, 104, 172]
abbrev dktX2_cells_0 : List UInt8 := dkwX2_cells_0 ++ []
theorem dksX2_cells_0 : cX2_cells.data.toList.drop 0 = dktX2_cells_0 := by decide +kernel
theorem dX2_cells_0 : decode cX2_cells 0 = .ok (.aload_n 0, 1) := dk_42 (dk_at dksX2_cells_0 0 rfl rfl)
theorem dX2_cells_1 : decode cX2_cells 1 = .ok (.getfield 17, 3) := dk_180 0 17 (dk_at dksX2_cells_0 1 rfl rfl)
theorem dX2_cells_4 : decode cX2_cells 4 = .ok (.aload_n 0, 1) := dk_42 (dk_at dksX2_cells_0 4 rfl rfl)
theorem dX2_cells_5 : decode cX2_cells 5 = .ok (.getfield 21, 3) := dk_180 0 21 (dk_at dksX2_cells_0 5 rfl rfl)
theorem dX2_cells_8 : decode cX2_cells 8 = .ok (.imul, 1) := dk_104 (dk_at dksX2_cells_0 8 rfl rfl)
theorem dX2_cells_9 : decode cX2_cells 9 = .ok (.ireturn, 1) := dk_172 (dk_at dksX2_cells_0 9 rfl rfl)
abbrev cX2_changes : ByteArray := prog_3_method_12_code
def yX2_changes : MethodName := ⟨RX2, "changes", "(Ljava/util/BitSet;)I"⟩
def dkwX2_changes_0 : List UInt8 := [42, 182, 0, 73, 180, 0, 24, 77, 44, 43, 182, 0, 77, 44, 182, 0, 80, 172]
abbrev dktX2_changes_0 : List UInt8 := dkwX2_changes_0 ++ []
theorem dksX2_changes_0 : cX2_changes.data.toList.drop 0 = dktX2_changes_0 := by decide +kernel
theorem dX2_changes_0 : decode cX2_changes 0 = .ok (.aload_n 0, 1) := dk_42 (dk_at dksX2_changes_0 0 rfl rfl)
theorem dX2_changes_1 : decode cX2_changes 1 = .ok (.invokevirtual 73, 3) := dk_182 0 73 (dk_at dksX2_changes_0 1 rfl rfl)
theorem dX2_changes_4 : decode cX2_changes 4 = .ok (.getfield 24, 3) := dk_180 0 24 (dk_at dksX2_changes_0 4 rfl rfl)
theorem dX2_changes_7 : decode cX2_changes 7 = .ok (.astore_n 2, 1) := dk_77 (dk_at dksX2_changes_0 7 rfl rfl)
theorem dX2_changes_8 : decode cX2_changes 8 = .ok (.aload_n 2, 1) := dk_44 (dk_at dksX2_changes_0 8 rfl rfl)
theorem dX2_changes_9 : decode cX2_changes 9 = .ok (.aload_n 1, 1) := dk_43 (dk_at dksX2_changes_0 9 rfl rfl)
theorem dX2_changes_10 : decode cX2_changes 10 = .ok (.invokevirtual 77, 3) := dk_182 0 77 (dk_at dksX2_changes_0 10 rfl rfl)
theorem dX2_changes_13 : decode cX2_changes 13 = .ok (.aload_n 2, 1) := dk_44 (dk_at dksX2_changes_0 13 rfl rfl)
theorem dX2_changes_14 : decode cX2_changes 14 = .ok (.invokevirtual 80, 3) := dk_182 0 80 (dk_at dksX2_changes_0 14 rfl rfl)
theorem dX2_changes_17 : decode cX2_changes 17 = .ok (.ireturn, 1) := dk_172 (dk_at dksX2_changes_0 17 rfl rfl)
abbrev cX2_like : ByteArray := prog_3_method_3_code
def yX2_like : MethodName := ⟨RX2, "like", "()LTufaSteps$Picture;"⟩
def dkwX2_like_1 : List UInt8 := [42, 180, 0, 21, 43, 183, 0, 9, 176]
abbrev dktX2_like_1 : List UInt8 := dkwX2_like_1 ++ []
def dkwX2_like_0 : List UInt8 := [187, 0, 3, 89, 183, 0, 5, 76, 43, 42, 180, 0, 24, 182, 0, 28, 187, 0, 10, 89, 42, 180, 0, 17]
abbrev dktX2_like_0 : List UInt8 := dkwX2_like_0 ++ dktX2_like_1
theorem dksX2_like_0 : cX2_like.data.toList.drop 0 = dktX2_like_0 := by decide +kernel
theorem dksX2_like_1 : cX2_like.data.toList.drop 24 = dktX2_like_1 := dk_seg dksX2_like_0 24 rfl rfl
theorem dX2_like_0 : decode cX2_like 0 = .ok (.new 3, 3) := dk_187 0 3 (dk_at dksX2_like_0 0 rfl rfl)
theorem dX2_like_3 : decode cX2_like 3 = .ok (.dup, 1) := dk_89 (dk_at dksX2_like_0 3 rfl rfl)
theorem dX2_like_4 : decode cX2_like 4 = .ok (.invokespecial 5, 3) := dk_183 0 5 (dk_at dksX2_like_0 4 rfl rfl)
theorem dX2_like_7 : decode cX2_like 7 = .ok (.astore_n 1, 1) := dk_76 (dk_at dksX2_like_0 7 rfl rfl)
theorem dX2_like_8 : decode cX2_like 8 = .ok (.aload_n 1, 1) := dk_43 (dk_at dksX2_like_0 8 rfl rfl)
theorem dX2_like_9 : decode cX2_like 9 = .ok (.aload_n 0, 1) := dk_42 (dk_at dksX2_like_0 9 rfl rfl)
theorem dX2_like_10 : decode cX2_like 10 = .ok (.getfield 24, 3) := dk_180 0 24 (dk_at dksX2_like_0 10 rfl rfl)
theorem dX2_like_13 : decode cX2_like 13 = .ok (.invokevirtual 28, 3) := dk_182 0 28 (dk_at dksX2_like_0 13 rfl rfl)
theorem dX2_like_16 : decode cX2_like 16 = .ok (.new 10, 3) := dk_187 0 10 (dk_at dksX2_like_0 16 rfl rfl)
theorem dX2_like_19 : decode cX2_like 19 = .ok (.dup, 1) := dk_89 (dk_at dksX2_like_0 19 rfl rfl)
theorem dX2_like_20 : decode cX2_like 20 = .ok (.aload_n 0, 1) := dk_42 (dk_at dksX2_like_0 20 rfl rfl)
theorem dX2_like_21 : decode cX2_like 21 = .ok (.getfield 17, 3) := dk_180 0 17 (dk_at dksX2_like_0 21 rfl rfl)
theorem dX2_like_24 : decode cX2_like 24 = .ok (.aload_n 0, 1) := dk_42 (dk_at dksX2_like_1 0 rfl rfl)
theorem dX2_like_25 : decode cX2_like 25 = .ok (.getfield 21, 3) := dk_180 0 21 (dk_at dksX2_like_1 1 rfl rfl)
theorem dX2_like_28 : decode cX2_like 28 = .ok (.aload_n 1, 1) := dk_43 (dk_at dksX2_like_1 4 rfl rfl)
theorem dX2_like_29 : decode cX2_like 29 = .ok (.invokespecial 9, 3) := dk_183 0 9 (dk_at dksX2_like_1 5 rfl rfl)
theorem dX2_like_32 : decode cX2_like 32 = .ok (.areturn, 1) := dk_176 (dk_at dksX2_like_1 8 rfl rfl)
abbrev cX2_thin : ByteArray := prog_3_method_25_code
def yX2_thin : MethodName := ⟨RX2, "thin", "()I"⟩
def dkwX2_thin_0 : List UInt8 := [3, 60, 42, 3, 182, 0, 176, 42, 4, 182, 0, 176, 128, 153, 0, 9, 132, 1, 1, 167, 255, 239, 27, 172]
abbrev dktX2_thin_0 : List UInt8 := dkwX2_thin_0 ++ []
theorem dksX2_thin_0 : cX2_thin.data.toList.drop 0 = dktX2_thin_0 := by decide +kernel
theorem dX2_thin_0 : decode cX2_thin 0 = .ok (.iconst 0, 1) := dk_3 (dk_at dksX2_thin_0 0 rfl rfl)
theorem dX2_thin_1 : decode cX2_thin 1 = .ok (.istore_n 1, 1) := dk_60 (dk_at dksX2_thin_0 1 rfl rfl)
theorem dX2_thin_2 : decode cX2_thin 2 = .ok (.aload_n 0, 1) := dk_42 (dk_at dksX2_thin_0 2 rfl rfl)
theorem dX2_thin_3 : decode cX2_thin 3 = .ok (.iconst 0, 1) := dk_3 (dk_at dksX2_thin_0 3 rfl rfl)
theorem dX2_thin_4 : decode cX2_thin 4 = .ok (.invokevirtual 176, 3) := dk_182 0 176 (dk_at dksX2_thin_0 4 rfl rfl)
theorem dX2_thin_7 : decode cX2_thin 7 = .ok (.aload_n 0, 1) := dk_42 (dk_at dksX2_thin_0 7 rfl rfl)
theorem dX2_thin_8 : decode cX2_thin 8 = .ok (.iconst 1, 1) := dk_4 (dk_at dksX2_thin_0 8 rfl rfl)
theorem dX2_thin_9 : decode cX2_thin 9 = .ok (.invokevirtual 176, 3) := dk_182 0 176 (dk_at dksX2_thin_0 9 rfl rfl)
theorem dX2_thin_12 : decode cX2_thin 12 = .ok (.ior, 1) := dk_128 (dk_at dksX2_thin_0 12 rfl rfl)
theorem dX2_thin_13 : decode cX2_thin 13 = .ok (.ifCond .eq 9, 3) := dk_153 0 9 (dk_at dksX2_thin_0 13 rfl rfl)
theorem dX2_thin_16 : decode cX2_thin 16 = .ok (.iinc 1 1, 3) := dk_132 1 1 (dk_at dksX2_thin_0 16 rfl rfl)
theorem dX2_thin_19 : decode cX2_thin 19 = .ok (.goto (-17), 3) := dk_167 255 239 (dk_at dksX2_thin_0 19 rfl rfl)
theorem dX2_thin_22 : decode cX2_thin 22 = .ok (.iload_n 1, 1) := dk_27 (dk_at dksX2_thin_0 22 rfl rfl)
theorem dX2_thin_23 : decode cX2_thin 23 = .ok (.ireturn, 1) := dk_172 (dk_at dksX2_thin_0 23 rfl rfl)
abbrev cX2_thins : ByteArray := prog_3_method_24_code
def yX2_thins : MethodName := ⟨RX2, "thins", "(Z)Z"⟩
def dkwX2_thins_2 : List UInt8 := [180, 0, 24, 44, 182, 0, 172, 44, 182, 0, 175, 154, 0, 7, 4, 167, 0, 4, 3, 172]
abbrev dktX2_thins_2 : List UInt8 := dkwX2_thins_2 ++ []
def dkwX2_thins_1 : List UInt8 := [29, 27, 182, 0, 165, 182, 0, 169, 42, 180, 0, 24, 29, 4, 96, 182, 0, 118, 62, 167, 255, 230, 42]
abbrev dktX2_thins_1 : List UInt8 := dkwX2_thins_1 ++ dktX2_thins_2
def dkwX2_thins_0 : List UInt8 := [187, 0, 3, 89, 183, 0, 5, 77, 42, 180, 0, 24, 3, 182, 0, 118, 62, 29, 155, 0, 28, 44, 29, 42]
abbrev dktX2_thins_0 : List UInt8 := dkwX2_thins_0 ++ dktX2_thins_1
theorem dksX2_thins_0 : cX2_thins.data.toList.drop 0 = dktX2_thins_0 := by decide +kernel
theorem dksX2_thins_1 : cX2_thins.data.toList.drop 24 = dktX2_thins_1 := dk_seg dksX2_thins_0 24 rfl rfl
theorem dksX2_thins_2 : cX2_thins.data.toList.drop 47 = dktX2_thins_2 := dk_seg dksX2_thins_1 23 rfl rfl
theorem dX2_thins_0 : decode cX2_thins 0 = .ok (.new 3, 3) := dk_187 0 3 (dk_at dksX2_thins_0 0 rfl rfl)
theorem dX2_thins_3 : decode cX2_thins 3 = .ok (.dup, 1) := dk_89 (dk_at dksX2_thins_0 3 rfl rfl)
theorem dX2_thins_4 : decode cX2_thins 4 = .ok (.invokespecial 5, 3) := dk_183 0 5 (dk_at dksX2_thins_0 4 rfl rfl)
theorem dX2_thins_7 : decode cX2_thins 7 = .ok (.astore_n 2, 1) := dk_77 (dk_at dksX2_thins_0 7 rfl rfl)
theorem dX2_thins_8 : decode cX2_thins 8 = .ok (.aload_n 0, 1) := dk_42 (dk_at dksX2_thins_0 8 rfl rfl)
theorem dX2_thins_9 : decode cX2_thins 9 = .ok (.getfield 24, 3) := dk_180 0 24 (dk_at dksX2_thins_0 9 rfl rfl)
theorem dX2_thins_12 : decode cX2_thins 12 = .ok (.iconst 0, 1) := dk_3 (dk_at dksX2_thins_0 12 rfl rfl)
theorem dX2_thins_13 : decode cX2_thins 13 = .ok (.invokevirtual 118, 3) := dk_182 0 118 (dk_at dksX2_thins_0 13 rfl rfl)
theorem dX2_thins_16 : decode cX2_thins 16 = .ok (.istore_n 3, 1) := dk_62 (dk_at dksX2_thins_0 16 rfl rfl)
theorem dX2_thins_17 : decode cX2_thins 17 = .ok (.iload_n 3, 1) := dk_29 (dk_at dksX2_thins_0 17 rfl rfl)
theorem dX2_thins_18 : decode cX2_thins 18 = .ok (.ifCond .lt 28, 3) := dk_155 0 28 (dk_at dksX2_thins_0 18 rfl rfl)
theorem dX2_thins_21 : decode cX2_thins 21 = .ok (.aload_n 2, 1) := dk_44 (dk_at dksX2_thins_0 21 rfl rfl)
theorem dX2_thins_22 : decode cX2_thins 22 = .ok (.iload_n 3, 1) := dk_29 (dk_at dksX2_thins_0 22 rfl rfl)
theorem dX2_thins_23 : decode cX2_thins 23 = .ok (.aload_n 0, 1) := dk_42 (dk_at dksX2_thins_0 23 rfl rfl)
theorem dX2_thins_24 : decode cX2_thins 24 = .ok (.iload_n 3, 1) := dk_29 (dk_at dksX2_thins_1 0 rfl rfl)
theorem dX2_thins_25 : decode cX2_thins 25 = .ok (.iload_n 1, 1) := dk_27 (dk_at dksX2_thins_1 1 rfl rfl)
theorem dX2_thins_26 : decode cX2_thins 26 = .ok (.invokevirtual 165, 3) := dk_182 0 165 (dk_at dksX2_thins_1 2 rfl rfl)
theorem dX2_thins_29 : decode cX2_thins 29 = .ok (.invokevirtual 169, 3) := dk_182 0 169 (dk_at dksX2_thins_1 5 rfl rfl)
theorem dX2_thins_32 : decode cX2_thins 32 = .ok (.aload_n 0, 1) := dk_42 (dk_at dksX2_thins_1 8 rfl rfl)
theorem dX2_thins_33 : decode cX2_thins 33 = .ok (.getfield 24, 3) := dk_180 0 24 (dk_at dksX2_thins_1 9 rfl rfl)
theorem dX2_thins_36 : decode cX2_thins 36 = .ok (.iload_n 3, 1) := dk_29 (dk_at dksX2_thins_1 12 rfl rfl)
theorem dX2_thins_37 : decode cX2_thins 37 = .ok (.iconst 1, 1) := dk_4 (dk_at dksX2_thins_1 13 rfl rfl)
theorem dX2_thins_38 : decode cX2_thins 38 = .ok (.iadd, 1) := dk_96 (dk_at dksX2_thins_1 14 rfl rfl)
theorem dX2_thins_39 : decode cX2_thins 39 = .ok (.invokevirtual 118, 3) := dk_182 0 118 (dk_at dksX2_thins_1 15 rfl rfl)
theorem dX2_thins_42 : decode cX2_thins 42 = .ok (.istore_n 3, 1) := dk_62 (dk_at dksX2_thins_1 18 rfl rfl)
theorem dX2_thins_43 : decode cX2_thins 43 = .ok (.goto (-26), 3) := dk_167 255 230 (dk_at dksX2_thins_1 19 rfl rfl)
theorem dX2_thins_46 : decode cX2_thins 46 = .ok (.aload_n 0, 1) := dk_42 (dk_at dksX2_thins_1 22 rfl rfl)
theorem dX2_thins_47 : decode cX2_thins 47 = .ok (.getfield 24, 3) := dk_180 0 24 (dk_at dksX2_thins_2 0 rfl rfl)
theorem dX2_thins_50 : decode cX2_thins 50 = .ok (.aload_n 2, 1) := dk_44 (dk_at dksX2_thins_2 3 rfl rfl)
theorem dX2_thins_51 : decode cX2_thins 51 = .ok (.invokevirtual 172, 3) := dk_182 0 172 (dk_at dksX2_thins_2 4 rfl rfl)
theorem dX2_thins_54 : decode cX2_thins 54 = .ok (.aload_n 2, 1) := dk_44 (dk_at dksX2_thins_2 7 rfl rfl)
theorem dX2_thins_55 : decode cX2_thins 55 = .ok (.invokevirtual 175, 3) := dk_182 0 175 (dk_at dksX2_thins_2 8 rfl rfl)
theorem dX2_thins_58 : decode cX2_thins 58 = .ok (.ifCond .ne 7, 3) := dk_154 0 7 (dk_at dksX2_thins_2 11 rfl rfl)
theorem dX2_thins_61 : decode cX2_thins 61 = .ok (.iconst 1, 1) := dk_4 (dk_at dksX2_thins_2 14 rfl rfl)
theorem dX2_thins_62 : decode cX2_thins 62 = .ok (.goto 4, 3) := dk_167 0 4 (dk_at dksX2_thins_2 15 rfl rfl)
theorem dX2_thins_65 : decode cX2_thins 65 = .ok (.iconst 0, 1) := dk_3 (dk_at dksX2_thins_2 18 rfl rfl)
theorem dX2_thins_66 : decode cX2_thins 66 = .ok (.ireturn, 1) := dk_172 (dk_at dksX2_thins_2 19 rfl rfl)
abbrev cX2_isDoomed : ByteArray := prog_3_method_22_code
def yX2_isDoomed : MethodName := ⟨RX2, "isDoomed", "(IZ)Z"⟩
def dkwX2_isDoomed_5 : List UInt8 := [167, 0, 4, 5, 182, 0, 162, 154, 0, 7, 4, 167, 0, 4, 3, 172]
abbrev dktX2_isDoomed_5 : List UInt8 := dkwX2_isDoomed_5 ++ []
def dkwX2_isDoomed_4 : List UInt8 := [153, 0, 8, 16, 6, 167, 0, 4, 7, 182, 0, 162, 154, 0, 24, 42, 27, 28, 153, 0, 7, 3]
abbrev dktX2_isDoomed_4 : List UInt8 := dkwX2_isDoomed_4 ++ dktX2_isDoomed_5
def dkwX2_isDoomed_3 : List UInt8 := [167, 255, 193, 5, 16, 6, 29, 184, 0, 32, 153, 0, 48, 21, 4, 4, 160, 0, 42, 42, 27, 28]
abbrev dktX2_isDoomed_3 : List UInt8 := dkwX2_isDoomed_3 ++ dktX2_isDoomed_4
def dkwX2_isDoomed_2 : List UInt8 := [21, 5, 4, 96, 16, 8, 112, 182, 0, 132, 153, 0, 7, 4, 167, 0, 4, 3, 96, 54, 4, 132, 5, 1]
abbrev dktX2_isDoomed_2 : List UInt8 := dkwX2_isDoomed_2 ++ dktX2_isDoomed_3
def dkwX2_isDoomed_1 : List UInt8 := [153, 0, 7, 4, 167, 0, 4, 3, 96, 62, 21, 4, 42, 27, 21, 5, 182, 0, 132, 154, 0, 22, 42, 27]
abbrev dktX2_isDoomed_1 : List UInt8 := dkwX2_isDoomed_1 ++ dktX2_isDoomed_2
def dkwX2_isDoomed_0 : List UInt8 := [3, 62, 3, 54, 4, 3, 54, 5, 21, 5, 16, 8, 162, 0, 62, 29, 42, 27, 21, 5, 182, 0, 132]
abbrev dktX2_isDoomed_0 : List UInt8 := dkwX2_isDoomed_0 ++ dktX2_isDoomed_1
theorem dksX2_isDoomed_0 : cX2_isDoomed.data.toList.drop 0 = dktX2_isDoomed_0 := by decide +kernel
theorem dksX2_isDoomed_1 : cX2_isDoomed.data.toList.drop 23 = dktX2_isDoomed_1 := dk_seg dksX2_isDoomed_0 23 rfl rfl
theorem dksX2_isDoomed_2 : cX2_isDoomed.data.toList.drop 47 = dktX2_isDoomed_2 := dk_seg dksX2_isDoomed_1 24 rfl rfl
theorem dksX2_isDoomed_3 : cX2_isDoomed.data.toList.drop 71 = dktX2_isDoomed_3 := dk_seg dksX2_isDoomed_2 24 rfl rfl
theorem dksX2_isDoomed_4 : cX2_isDoomed.data.toList.drop 93 = dktX2_isDoomed_4 := dk_seg dksX2_isDoomed_3 22 rfl rfl
theorem dksX2_isDoomed_5 : cX2_isDoomed.data.toList.drop 115 = dktX2_isDoomed_5 := dk_seg dksX2_isDoomed_4 22 rfl rfl
theorem dX2_isDoomed_0 : decode cX2_isDoomed 0 = .ok (.iconst 0, 1) := dk_3 (dk_at dksX2_isDoomed_0 0 rfl rfl)
theorem dX2_isDoomed_1 : decode cX2_isDoomed 1 = .ok (.istore_n 3, 1) := dk_62 (dk_at dksX2_isDoomed_0 1 rfl rfl)
theorem dX2_isDoomed_2 : decode cX2_isDoomed 2 = .ok (.iconst 0, 1) := dk_3 (dk_at dksX2_isDoomed_0 2 rfl rfl)
theorem dX2_isDoomed_3 : decode cX2_isDoomed 3 = .ok (.istore 4, 2) := dk_54 4 (dk_at dksX2_isDoomed_0 3 rfl rfl)
theorem dX2_isDoomed_5 : decode cX2_isDoomed 5 = .ok (.iconst 0, 1) := dk_3 (dk_at dksX2_isDoomed_0 5 rfl rfl)
theorem dX2_isDoomed_6 : decode cX2_isDoomed 6 = .ok (.istore 5, 2) := dk_54 5 (dk_at dksX2_isDoomed_0 6 rfl rfl)
theorem dX2_isDoomed_8 : decode cX2_isDoomed 8 = .ok (.iload 5, 2) := dk_21 5 (dk_at dksX2_isDoomed_0 8 rfl rfl)
theorem dX2_isDoomed_10 : decode cX2_isDoomed 10 = .ok (.bipush 8, 2) := dk_16 8 (dk_at dksX2_isDoomed_0 10 rfl rfl)
theorem dX2_isDoomed_12 : decode cX2_isDoomed 12 = .ok (.if_icmp .ge 62, 3) := dk_162 0 62 (dk_at dksX2_isDoomed_0 12 rfl rfl)
theorem dX2_isDoomed_15 : decode cX2_isDoomed 15 = .ok (.iload_n 3, 1) := dk_29 (dk_at dksX2_isDoomed_0 15 rfl rfl)
theorem dX2_isDoomed_16 : decode cX2_isDoomed 16 = .ok (.aload_n 0, 1) := dk_42 (dk_at dksX2_isDoomed_0 16 rfl rfl)
theorem dX2_isDoomed_17 : decode cX2_isDoomed 17 = .ok (.iload_n 1, 1) := dk_27 (dk_at dksX2_isDoomed_0 17 rfl rfl)
theorem dX2_isDoomed_18 : decode cX2_isDoomed 18 = .ok (.iload 5, 2) := dk_21 5 (dk_at dksX2_isDoomed_0 18 rfl rfl)
theorem dX2_isDoomed_20 : decode cX2_isDoomed 20 = .ok (.invokevirtual 132, 3) := dk_182 0 132 (dk_at dksX2_isDoomed_0 20 rfl rfl)
theorem dX2_isDoomed_23 : decode cX2_isDoomed 23 = .ok (.ifCond .eq 7, 3) := dk_153 0 7 (dk_at dksX2_isDoomed_1 0 rfl rfl)
theorem dX2_isDoomed_26 : decode cX2_isDoomed 26 = .ok (.iconst 1, 1) := dk_4 (dk_at dksX2_isDoomed_1 3 rfl rfl)
theorem dX2_isDoomed_27 : decode cX2_isDoomed 27 = .ok (.goto 4, 3) := dk_167 0 4 (dk_at dksX2_isDoomed_1 4 rfl rfl)
theorem dX2_isDoomed_30 : decode cX2_isDoomed 30 = .ok (.iconst 0, 1) := dk_3 (dk_at dksX2_isDoomed_1 7 rfl rfl)
theorem dX2_isDoomed_31 : decode cX2_isDoomed 31 = .ok (.iadd, 1) := dk_96 (dk_at dksX2_isDoomed_1 8 rfl rfl)
theorem dX2_isDoomed_32 : decode cX2_isDoomed 32 = .ok (.istore_n 3, 1) := dk_62 (dk_at dksX2_isDoomed_1 9 rfl rfl)
theorem dX2_isDoomed_33 : decode cX2_isDoomed 33 = .ok (.iload 4, 2) := dk_21 4 (dk_at dksX2_isDoomed_1 10 rfl rfl)
theorem dX2_isDoomed_35 : decode cX2_isDoomed 35 = .ok (.aload_n 0, 1) := dk_42 (dk_at dksX2_isDoomed_1 12 rfl rfl)
theorem dX2_isDoomed_36 : decode cX2_isDoomed 36 = .ok (.iload_n 1, 1) := dk_27 (dk_at dksX2_isDoomed_1 13 rfl rfl)
theorem dX2_isDoomed_37 : decode cX2_isDoomed 37 = .ok (.iload 5, 2) := dk_21 5 (dk_at dksX2_isDoomed_1 14 rfl rfl)
theorem dX2_isDoomed_39 : decode cX2_isDoomed 39 = .ok (.invokevirtual 132, 3) := dk_182 0 132 (dk_at dksX2_isDoomed_1 16 rfl rfl)
theorem dX2_isDoomed_42 : decode cX2_isDoomed 42 = .ok (.ifCond .ne 22, 3) := dk_154 0 22 (dk_at dksX2_isDoomed_1 19 rfl rfl)
theorem dX2_isDoomed_45 : decode cX2_isDoomed 45 = .ok (.aload_n 0, 1) := dk_42 (dk_at dksX2_isDoomed_1 22 rfl rfl)
theorem dX2_isDoomed_46 : decode cX2_isDoomed 46 = .ok (.iload_n 1, 1) := dk_27 (dk_at dksX2_isDoomed_1 23 rfl rfl)
theorem dX2_isDoomed_47 : decode cX2_isDoomed 47 = .ok (.iload 5, 2) := dk_21 5 (dk_at dksX2_isDoomed_2 0 rfl rfl)
theorem dX2_isDoomed_49 : decode cX2_isDoomed 49 = .ok (.iconst 1, 1) := dk_4 (dk_at dksX2_isDoomed_2 2 rfl rfl)
theorem dX2_isDoomed_50 : decode cX2_isDoomed 50 = .ok (.iadd, 1) := dk_96 (dk_at dksX2_isDoomed_2 3 rfl rfl)
theorem dX2_isDoomed_51 : decode cX2_isDoomed 51 = .ok (.bipush 8, 2) := dk_16 8 (dk_at dksX2_isDoomed_2 4 rfl rfl)
theorem dX2_isDoomed_53 : decode cX2_isDoomed 53 = .ok (.irem, 1) := dk_112 (dk_at dksX2_isDoomed_2 6 rfl rfl)
theorem dX2_isDoomed_54 : decode cX2_isDoomed 54 = .ok (.invokevirtual 132, 3) := dk_182 0 132 (dk_at dksX2_isDoomed_2 7 rfl rfl)
theorem dX2_isDoomed_57 : decode cX2_isDoomed 57 = .ok (.ifCond .eq 7, 3) := dk_153 0 7 (dk_at dksX2_isDoomed_2 10 rfl rfl)
theorem dX2_isDoomed_60 : decode cX2_isDoomed 60 = .ok (.iconst 1, 1) := dk_4 (dk_at dksX2_isDoomed_2 13 rfl rfl)
theorem dX2_isDoomed_61 : decode cX2_isDoomed 61 = .ok (.goto 4, 3) := dk_167 0 4 (dk_at dksX2_isDoomed_2 14 rfl rfl)
theorem dX2_isDoomed_64 : decode cX2_isDoomed 64 = .ok (.iconst 0, 1) := dk_3 (dk_at dksX2_isDoomed_2 17 rfl rfl)
theorem dX2_isDoomed_65 : decode cX2_isDoomed 65 = .ok (.iadd, 1) := dk_96 (dk_at dksX2_isDoomed_2 18 rfl rfl)
theorem dX2_isDoomed_66 : decode cX2_isDoomed 66 = .ok (.istore 4, 2) := dk_54 4 (dk_at dksX2_isDoomed_2 19 rfl rfl)
theorem dX2_isDoomed_68 : decode cX2_isDoomed 68 = .ok (.iinc 5 1, 3) := dk_132 5 1 (dk_at dksX2_isDoomed_2 21 rfl rfl)
theorem dX2_isDoomed_71 : decode cX2_isDoomed 71 = .ok (.goto (-63), 3) := dk_167 255 193 (dk_at dksX2_isDoomed_3 0 rfl rfl)
theorem dX2_isDoomed_74 : decode cX2_isDoomed 74 = .ok (.iconst 2, 1) := dk_5 (dk_at dksX2_isDoomed_3 3 rfl rfl)
theorem dX2_isDoomed_75 : decode cX2_isDoomed 75 = .ok (.bipush 6, 2) := dk_16 6 (dk_at dksX2_isDoomed_3 4 rfl rfl)
theorem dX2_isDoomed_77 : decode cX2_isDoomed 77 = .ok (.iload_n 3, 1) := dk_29 (dk_at dksX2_isDoomed_3 6 rfl rfl)
theorem dX2_isDoomed_78 : decode cX2_isDoomed 78 = .ok (.invokestatic 32, 3) := dk_184 0 32 (dk_at dksX2_isDoomed_3 7 rfl rfl)
theorem dX2_isDoomed_81 : decode cX2_isDoomed 81 = .ok (.ifCond .eq 48, 3) := dk_153 0 48 (dk_at dksX2_isDoomed_3 10 rfl rfl)
theorem dX2_isDoomed_84 : decode cX2_isDoomed 84 = .ok (.iload 4, 2) := dk_21 4 (dk_at dksX2_isDoomed_3 13 rfl rfl)
theorem dX2_isDoomed_86 : decode cX2_isDoomed 86 = .ok (.iconst 1, 1) := dk_4 (dk_at dksX2_isDoomed_3 15 rfl rfl)
theorem dX2_isDoomed_87 : decode cX2_isDoomed 87 = .ok (.if_icmp .ne 42, 3) := dk_160 0 42 (dk_at dksX2_isDoomed_3 16 rfl rfl)
theorem dX2_isDoomed_90 : decode cX2_isDoomed 90 = .ok (.aload_n 0, 1) := dk_42 (dk_at dksX2_isDoomed_3 19 rfl rfl)
theorem dX2_isDoomed_91 : decode cX2_isDoomed 91 = .ok (.iload_n 1, 1) := dk_27 (dk_at dksX2_isDoomed_3 20 rfl rfl)
theorem dX2_isDoomed_92 : decode cX2_isDoomed 92 = .ok (.iload_n 2, 1) := dk_28 (dk_at dksX2_isDoomed_3 21 rfl rfl)
theorem dX2_isDoomed_93 : decode cX2_isDoomed 93 = .ok (.ifCond .eq 8, 3) := dk_153 0 8 (dk_at dksX2_isDoomed_4 0 rfl rfl)
theorem dX2_isDoomed_96 : decode cX2_isDoomed 96 = .ok (.bipush 6, 2) := dk_16 6 (dk_at dksX2_isDoomed_4 3 rfl rfl)
theorem dX2_isDoomed_98 : decode cX2_isDoomed 98 = .ok (.goto 4, 3) := dk_167 0 4 (dk_at dksX2_isDoomed_4 5 rfl rfl)
theorem dX2_isDoomed_101 : decode cX2_isDoomed 101 = .ok (.iconst 4, 1) := dk_7 (dk_at dksX2_isDoomed_4 8 rfl rfl)
theorem dX2_isDoomed_102 : decode cX2_isDoomed 102 = .ok (.invokevirtual 162, 3) := dk_182 0 162 (dk_at dksX2_isDoomed_4 9 rfl rfl)
theorem dX2_isDoomed_105 : decode cX2_isDoomed 105 = .ok (.ifCond .ne 24, 3) := dk_154 0 24 (dk_at dksX2_isDoomed_4 12 rfl rfl)
theorem dX2_isDoomed_108 : decode cX2_isDoomed 108 = .ok (.aload_n 0, 1) := dk_42 (dk_at dksX2_isDoomed_4 15 rfl rfl)
theorem dX2_isDoomed_109 : decode cX2_isDoomed 109 = .ok (.iload_n 1, 1) := dk_27 (dk_at dksX2_isDoomed_4 16 rfl rfl)
theorem dX2_isDoomed_110 : decode cX2_isDoomed 110 = .ok (.iload_n 2, 1) := dk_28 (dk_at dksX2_isDoomed_4 17 rfl rfl)
theorem dX2_isDoomed_111 : decode cX2_isDoomed 111 = .ok (.ifCond .eq 7, 3) := dk_153 0 7 (dk_at dksX2_isDoomed_4 18 rfl rfl)
theorem dX2_isDoomed_114 : decode cX2_isDoomed 114 = .ok (.iconst 0, 1) := dk_3 (dk_at dksX2_isDoomed_4 21 rfl rfl)
theorem dX2_isDoomed_115 : decode cX2_isDoomed 115 = .ok (.goto 4, 3) := dk_167 0 4 (dk_at dksX2_isDoomed_5 0 rfl rfl)
theorem dX2_isDoomed_118 : decode cX2_isDoomed 118 = .ok (.iconst 2, 1) := dk_5 (dk_at dksX2_isDoomed_5 3 rfl rfl)
theorem dX2_isDoomed_119 : decode cX2_isDoomed 119 = .ok (.invokevirtual 162, 3) := dk_182 0 162 (dk_at dksX2_isDoomed_5 4 rfl rfl)
theorem dX2_isDoomed_122 : decode cX2_isDoomed 122 = .ok (.ifCond .ne 7, 3) := dk_154 0 7 (dk_at dksX2_isDoomed_5 7 rfl rfl)
theorem dX2_isDoomed_125 : decode cX2_isDoomed 125 = .ok (.iconst 1, 1) := dk_4 (dk_at dksX2_isDoomed_5 10 rfl rfl)
theorem dX2_isDoomed_126 : decode cX2_isDoomed 126 = .ok (.goto 4, 3) := dk_167 0 4 (dk_at dksX2_isDoomed_5 11 rfl rfl)
theorem dX2_isDoomed_129 : decode cX2_isDoomed 129 = .ok (.iconst 0, 1) := dk_3 (dk_at dksX2_isDoomed_5 14 rfl rfl)
theorem dX2_isDoomed_130 : decode cX2_isDoomed 130 = .ok (.ireturn, 1) := dk_172 (dk_at dksX2_isDoomed_5 15 rfl rfl)
abbrev cX2_isInkBeside : ByteArray := prog_3_method_8_code
def yX2_isInkBeside : MethodName := ⟨RX2, "isInkBeside", "(II)Z"⟩
def dkwX2_isInkBeside_1 : List UInt8 := [182, 0, 51, 172]
abbrev dktX2_isInkBeside_1 : List UInt8 := dkwX2_isInkBeside_1 ++ []
def dkwX2_isInkBeside_0 : List UInt8 := [42, 27, 42, 180, 0, 17, 112, 28, 184, 0, 44, 96, 27, 42, 180, 0, 17, 108, 28, 184, 0, 48, 96]
abbrev dktX2_isInkBeside_0 : List UInt8 := dkwX2_isInkBeside_0 ++ dktX2_isInkBeside_1
theorem dksX2_isInkBeside_0 : cX2_isInkBeside.data.toList.drop 0 = dktX2_isInkBeside_0 := by decide +kernel
theorem dksX2_isInkBeside_1 : cX2_isInkBeside.data.toList.drop 23 = dktX2_isInkBeside_1 := dk_seg dksX2_isInkBeside_0 23 rfl rfl
theorem dX2_isInkBeside_0 : decode cX2_isInkBeside 0 = .ok (.aload_n 0, 1) := dk_42 (dk_at dksX2_isInkBeside_0 0 rfl rfl)
theorem dX2_isInkBeside_1 : decode cX2_isInkBeside 1 = .ok (.iload_n 1, 1) := dk_27 (dk_at dksX2_isInkBeside_0 1 rfl rfl)
theorem dX2_isInkBeside_2 : decode cX2_isInkBeside 2 = .ok (.aload_n 0, 1) := dk_42 (dk_at dksX2_isInkBeside_0 2 rfl rfl)
theorem dX2_isInkBeside_3 : decode cX2_isInkBeside 3 = .ok (.getfield 17, 3) := dk_180 0 17 (dk_at dksX2_isInkBeside_0 3 rfl rfl)
theorem dX2_isInkBeside_6 : decode cX2_isInkBeside 6 = .ok (.irem, 1) := dk_112 (dk_at dksX2_isInkBeside_0 6 rfl rfl)
theorem dX2_isInkBeside_7 : decode cX2_isInkBeside 7 = .ok (.iload_n 2, 1) := dk_28 (dk_at dksX2_isInkBeside_0 7 rfl rfl)
theorem dX2_isInkBeside_8 : decode cX2_isInkBeside 8 = .ok (.invokestatic 44, 3) := dk_184 0 44 (dk_at dksX2_isInkBeside_0 8 rfl rfl)
theorem dX2_isInkBeside_11 : decode cX2_isInkBeside 11 = .ok (.iadd, 1) := dk_96 (dk_at dksX2_isInkBeside_0 11 rfl rfl)
theorem dX2_isInkBeside_12 : decode cX2_isInkBeside 12 = .ok (.iload_n 1, 1) := dk_27 (dk_at dksX2_isInkBeside_0 12 rfl rfl)
theorem dX2_isInkBeside_13 : decode cX2_isInkBeside 13 = .ok (.aload_n 0, 1) := dk_42 (dk_at dksX2_isInkBeside_0 13 rfl rfl)
theorem dX2_isInkBeside_14 : decode cX2_isInkBeside 14 = .ok (.getfield 17, 3) := dk_180 0 17 (dk_at dksX2_isInkBeside_0 14 rfl rfl)
theorem dX2_isInkBeside_17 : decode cX2_isInkBeside 17 = .ok (.idiv, 1) := dk_108 (dk_at dksX2_isInkBeside_0 17 rfl rfl)
theorem dX2_isInkBeside_18 : decode cX2_isInkBeside 18 = .ok (.iload_n 2, 1) := dk_28 (dk_at dksX2_isInkBeside_0 18 rfl rfl)
theorem dX2_isInkBeside_19 : decode cX2_isInkBeside 19 = .ok (.invokestatic 48, 3) := dk_184 0 48 (dk_at dksX2_isInkBeside_0 19 rfl rfl)
theorem dX2_isInkBeside_22 : decode cX2_isInkBeside 22 = .ok (.iadd, 1) := dk_96 (dk_at dksX2_isInkBeside_0 22 rfl rfl)
theorem dX2_isInkBeside_23 : decode cX2_isInkBeside 23 = .ok (.invokevirtual 51, 3) := dk_182 0 51 (dk_at dksX2_isInkBeside_1 0 rfl rfl)
theorem dX2_isInkBeside_26 : decode cX2_isInkBeside 26 = .ok (.ireturn, 1) := dk_172 (dk_at dksX2_isInkBeside_1 3 rfl rfl)
abbrev cX2_has : ByteArray := prog_3_method_6_code
def yX2_has : MethodName := ⟨RX2, "has", "(II)Z"⟩
def dkwX2_has_1 : List UInt8 := [153, 0, 7, 4, 167, 0, 4, 3, 172]
abbrev dktX2_has_1 : List UInt8 := dkwX2_has_1 ++ []
def dkwX2_has_0 : List UInt8 := [42, 27, 28, 182, 0, 36, 153, 0, 25, 42, 180, 0, 24, 28, 42, 180, 0, 17, 104, 27, 96, 182, 0, 40]
abbrev dktX2_has_0 : List UInt8 := dkwX2_has_0 ++ dktX2_has_1
theorem dksX2_has_0 : cX2_has.data.toList.drop 0 = dktX2_has_0 := by decide +kernel
theorem dksX2_has_1 : cX2_has.data.toList.drop 24 = dktX2_has_1 := dk_seg dksX2_has_0 24 rfl rfl
theorem dX2_has_0 : decode cX2_has 0 = .ok (.aload_n 0, 1) := dk_42 (dk_at dksX2_has_0 0 rfl rfl)
theorem dX2_has_1 : decode cX2_has 1 = .ok (.iload_n 1, 1) := dk_27 (dk_at dksX2_has_0 1 rfl rfl)
theorem dX2_has_2 : decode cX2_has 2 = .ok (.iload_n 2, 1) := dk_28 (dk_at dksX2_has_0 2 rfl rfl)
theorem dX2_has_3 : decode cX2_has 3 = .ok (.invokevirtual 36, 3) := dk_182 0 36 (dk_at dksX2_has_0 3 rfl rfl)
theorem dX2_has_6 : decode cX2_has 6 = .ok (.ifCond .eq 25, 3) := dk_153 0 25 (dk_at dksX2_has_0 6 rfl rfl)
theorem dX2_has_9 : decode cX2_has 9 = .ok (.aload_n 0, 1) := dk_42 (dk_at dksX2_has_0 9 rfl rfl)
theorem dX2_has_10 : decode cX2_has 10 = .ok (.getfield 24, 3) := dk_180 0 24 (dk_at dksX2_has_0 10 rfl rfl)
theorem dX2_has_13 : decode cX2_has 13 = .ok (.iload_n 2, 1) := dk_28 (dk_at dksX2_has_0 13 rfl rfl)
theorem dX2_has_14 : decode cX2_has 14 = .ok (.aload_n 0, 1) := dk_42 (dk_at dksX2_has_0 14 rfl rfl)
theorem dX2_has_15 : decode cX2_has 15 = .ok (.getfield 17, 3) := dk_180 0 17 (dk_at dksX2_has_0 15 rfl rfl)
theorem dX2_has_18 : decode cX2_has 18 = .ok (.imul, 1) := dk_104 (dk_at dksX2_has_0 18 rfl rfl)
theorem dX2_has_19 : decode cX2_has 19 = .ok (.iload_n 1, 1) := dk_27 (dk_at dksX2_has_0 19 rfl rfl)
theorem dX2_has_20 : decode cX2_has 20 = .ok (.iadd, 1) := dk_96 (dk_at dksX2_has_0 20 rfl rfl)
theorem dX2_has_21 : decode cX2_has 21 = .ok (.invokevirtual 40, 3) := dk_182 0 40 (dk_at dksX2_has_0 21 rfl rfl)
theorem dX2_has_24 : decode cX2_has 24 = .ok (.ifCond .eq 7, 3) := dk_153 0 7 (dk_at dksX2_has_1 0 rfl rfl)
theorem dX2_has_27 : decode cX2_has 27 = .ok (.iconst 1, 1) := dk_4 (dk_at dksX2_has_1 3 rfl rfl)
theorem dX2_has_28 : decode cX2_has 28 = .ok (.goto 4, 3) := dk_167 0 4 (dk_at dksX2_has_1 4 rfl rfl)
theorem dX2_has_31 : decode cX2_has 31 = .ok (.iconst 0, 1) := dk_3 (dk_at dksX2_has_1 7 rfl rfl)
theorem dX2_has_32 : decode cX2_has 32 = .ok (.ireturn, 1) := dk_172 (dk_at dksX2_has_1 8 rfl rfl)
abbrev cX2_isOn : ByteArray := prog_3_method_5_code
def yX2_isOn : MethodName := ⟨RX2, "isOn", "(II)Z"⟩
def dkwX2_isOn_1 : List UInt8 := [184, 0, 32, 153, 0, 7, 4, 167, 0, 4, 3, 172]
abbrev dktX2_isOn_1 : List UInt8 := dkwX2_isOn_1 ++ []
def dkwX2_isOn_0 : List UInt8 := [3, 42, 180, 0, 17, 4, 100, 27, 184, 0, 32, 153, 0, 21, 3, 42, 180, 0, 21, 4, 100, 28]
abbrev dktX2_isOn_0 : List UInt8 := dkwX2_isOn_0 ++ dktX2_isOn_1
theorem dksX2_isOn_0 : cX2_isOn.data.toList.drop 0 = dktX2_isOn_0 := by decide +kernel
theorem dksX2_isOn_1 : cX2_isOn.data.toList.drop 22 = dktX2_isOn_1 := dk_seg dksX2_isOn_0 22 rfl rfl
theorem dX2_isOn_0 : decode cX2_isOn 0 = .ok (.iconst 0, 1) := dk_3 (dk_at dksX2_isOn_0 0 rfl rfl)
theorem dX2_isOn_1 : decode cX2_isOn 1 = .ok (.aload_n 0, 1) := dk_42 (dk_at dksX2_isOn_0 1 rfl rfl)
theorem dX2_isOn_2 : decode cX2_isOn 2 = .ok (.getfield 17, 3) := dk_180 0 17 (dk_at dksX2_isOn_0 2 rfl rfl)
theorem dX2_isOn_5 : decode cX2_isOn 5 = .ok (.iconst 1, 1) := dk_4 (dk_at dksX2_isOn_0 5 rfl rfl)
theorem dX2_isOn_6 : decode cX2_isOn 6 = .ok (.isub, 1) := dk_100 (dk_at dksX2_isOn_0 6 rfl rfl)
theorem dX2_isOn_7 : decode cX2_isOn 7 = .ok (.iload_n 1, 1) := dk_27 (dk_at dksX2_isOn_0 7 rfl rfl)
theorem dX2_isOn_8 : decode cX2_isOn 8 = .ok (.invokestatic 32, 3) := dk_184 0 32 (dk_at dksX2_isOn_0 8 rfl rfl)
theorem dX2_isOn_11 : decode cX2_isOn 11 = .ok (.ifCond .eq 21, 3) := dk_153 0 21 (dk_at dksX2_isOn_0 11 rfl rfl)
theorem dX2_isOn_14 : decode cX2_isOn 14 = .ok (.iconst 0, 1) := dk_3 (dk_at dksX2_isOn_0 14 rfl rfl)
theorem dX2_isOn_15 : decode cX2_isOn 15 = .ok (.aload_n 0, 1) := dk_42 (dk_at dksX2_isOn_0 15 rfl rfl)
theorem dX2_isOn_16 : decode cX2_isOn 16 = .ok (.getfield 21, 3) := dk_180 0 21 (dk_at dksX2_isOn_0 16 rfl rfl)
theorem dX2_isOn_19 : decode cX2_isOn 19 = .ok (.iconst 1, 1) := dk_4 (dk_at dksX2_isOn_0 19 rfl rfl)
theorem dX2_isOn_20 : decode cX2_isOn 20 = .ok (.isub, 1) := dk_100 (dk_at dksX2_isOn_0 20 rfl rfl)
theorem dX2_isOn_21 : decode cX2_isOn 21 = .ok (.iload_n 2, 1) := dk_28 (dk_at dksX2_isOn_0 21 rfl rfl)
theorem dX2_isOn_22 : decode cX2_isOn 22 = .ok (.invokestatic 32, 3) := dk_184 0 32 (dk_at dksX2_isOn_1 0 rfl rfl)
theorem dX2_isOn_25 : decode cX2_isOn 25 = .ok (.ifCond .eq 7, 3) := dk_153 0 7 (dk_at dksX2_isOn_1 3 rfl rfl)
theorem dX2_isOn_28 : decode cX2_isOn 28 = .ok (.iconst 1, 1) := dk_4 (dk_at dksX2_isOn_1 6 rfl rfl)
theorem dX2_isOn_29 : decode cX2_isOn 29 = .ok (.goto 4, 3) := dk_167 0 4 (dk_at dksX2_isOn_1 7 rfl rfl)
theorem dX2_isOn_32 : decode cX2_isOn 32 = .ok (.iconst 0, 1) := dk_3 (dk_at dksX2_isOn_1 10 rfl rfl)
theorem dX2_isOn_33 : decode cX2_isOn 33 = .ok (.ireturn, 1) := dk_172 (dk_at dksX2_isOn_1 11 rfl rfl)
abbrev cX2_areInk : ByteArray := prog_3_method_23_code
def yX2_areInk : MethodName := ⟨RX2, "areInk", "(II)Z"⟩
def dkwX2_areInk_1 : List UInt8 := [42, 27, 28, 5, 96, 16, 8, 112, 182, 0, 132, 153, 0, 7, 4, 167, 0, 4, 3, 172]
abbrev dktX2_areInk_1 : List UInt8 := dkwX2_areInk_1 ++ []
def dkwX2_areInk_0 : List UInt8 := [42, 27, 28, 16, 6, 96, 16, 8, 112, 182, 0, 132, 153, 0, 30, 42, 27, 28, 182, 0, 132, 153, 0, 21]
abbrev dktX2_areInk_0 : List UInt8 := dkwX2_areInk_0 ++ dktX2_areInk_1
theorem dksX2_areInk_0 : cX2_areInk.data.toList.drop 0 = dktX2_areInk_0 := by decide +kernel
theorem dksX2_areInk_1 : cX2_areInk.data.toList.drop 24 = dktX2_areInk_1 := dk_seg dksX2_areInk_0 24 rfl rfl
theorem dX2_areInk_0 : decode cX2_areInk 0 = .ok (.aload_n 0, 1) := dk_42 (dk_at dksX2_areInk_0 0 rfl rfl)
theorem dX2_areInk_1 : decode cX2_areInk 1 = .ok (.iload_n 1, 1) := dk_27 (dk_at dksX2_areInk_0 1 rfl rfl)
theorem dX2_areInk_2 : decode cX2_areInk 2 = .ok (.iload_n 2, 1) := dk_28 (dk_at dksX2_areInk_0 2 rfl rfl)
theorem dX2_areInk_3 : decode cX2_areInk 3 = .ok (.bipush 6, 2) := dk_16 6 (dk_at dksX2_areInk_0 3 rfl rfl)
theorem dX2_areInk_5 : decode cX2_areInk 5 = .ok (.iadd, 1) := dk_96 (dk_at dksX2_areInk_0 5 rfl rfl)
theorem dX2_areInk_6 : decode cX2_areInk 6 = .ok (.bipush 8, 2) := dk_16 8 (dk_at dksX2_areInk_0 6 rfl rfl)
theorem dX2_areInk_8 : decode cX2_areInk 8 = .ok (.irem, 1) := dk_112 (dk_at dksX2_areInk_0 8 rfl rfl)
theorem dX2_areInk_9 : decode cX2_areInk 9 = .ok (.invokevirtual 132, 3) := dk_182 0 132 (dk_at dksX2_areInk_0 9 rfl rfl)
theorem dX2_areInk_12 : decode cX2_areInk 12 = .ok (.ifCond .eq 30, 3) := dk_153 0 30 (dk_at dksX2_areInk_0 12 rfl rfl)
theorem dX2_areInk_15 : decode cX2_areInk 15 = .ok (.aload_n 0, 1) := dk_42 (dk_at dksX2_areInk_0 15 rfl rfl)
theorem dX2_areInk_16 : decode cX2_areInk 16 = .ok (.iload_n 1, 1) := dk_27 (dk_at dksX2_areInk_0 16 rfl rfl)
theorem dX2_areInk_17 : decode cX2_areInk 17 = .ok (.iload_n 2, 1) := dk_28 (dk_at dksX2_areInk_0 17 rfl rfl)
theorem dX2_areInk_18 : decode cX2_areInk 18 = .ok (.invokevirtual 132, 3) := dk_182 0 132 (dk_at dksX2_areInk_0 18 rfl rfl)
theorem dX2_areInk_21 : decode cX2_areInk 21 = .ok (.ifCond .eq 21, 3) := dk_153 0 21 (dk_at dksX2_areInk_0 21 rfl rfl)
theorem dX2_areInk_24 : decode cX2_areInk 24 = .ok (.aload_n 0, 1) := dk_42 (dk_at dksX2_areInk_1 0 rfl rfl)
theorem dX2_areInk_25 : decode cX2_areInk 25 = .ok (.iload_n 1, 1) := dk_27 (dk_at dksX2_areInk_1 1 rfl rfl)
theorem dX2_areInk_26 : decode cX2_areInk 26 = .ok (.iload_n 2, 1) := dk_28 (dk_at dksX2_areInk_1 2 rfl rfl)
theorem dX2_areInk_27 : decode cX2_areInk 27 = .ok (.iconst 2, 1) := dk_5 (dk_at dksX2_areInk_1 3 rfl rfl)
theorem dX2_areInk_28 : decode cX2_areInk 28 = .ok (.iadd, 1) := dk_96 (dk_at dksX2_areInk_1 4 rfl rfl)
theorem dX2_areInk_29 : decode cX2_areInk 29 = .ok (.bipush 8, 2) := dk_16 8 (dk_at dksX2_areInk_1 5 rfl rfl)
theorem dX2_areInk_31 : decode cX2_areInk 31 = .ok (.irem, 1) := dk_112 (dk_at dksX2_areInk_1 7 rfl rfl)
theorem dX2_areInk_32 : decode cX2_areInk 32 = .ok (.invokevirtual 132, 3) := dk_182 0 132 (dk_at dksX2_areInk_1 8 rfl rfl)
theorem dX2_areInk_35 : decode cX2_areInk 35 = .ok (.ifCond .eq 7, 3) := dk_153 0 7 (dk_at dksX2_areInk_1 11 rfl rfl)
theorem dX2_areInk_38 : decode cX2_areInk 38 = .ok (.iconst 1, 1) := dk_4 (dk_at dksX2_areInk_1 14 rfl rfl)
theorem dX2_areInk_39 : decode cX2_areInk 39 = .ok (.goto 4, 3) := dk_167 0 4 (dk_at dksX2_areInk_1 15 rfl rfl)
theorem dX2_areInk_42 : decode cX2_areInk 42 = .ok (.iconst 0, 1) := dk_3 (dk_at dksX2_areInk_1 18 rfl rfl)
theorem dX2_areInk_43 : decode cX2_areInk 43 = .ok (.ireturn, 1) := dk_172 (dk_at dksX2_areInk_1 19 rfl rfl)
abbrev cX2_depths : ByteArray := prog_3_method_19_code
def yX2_depths : MethodName := ⟨RX2, "depths", "(Z)[[S"⟩
def dkwX2_depths_6 : List UInt8 := [132, 4, 255, 167, 255, 212, 132, 3, 255, 167, 255, 196, 44, 176]
abbrev dktX2_depths_6 : List UInt8 := dkwX2_depths_6 ++ []
def dkwX2_depths_5 : List UInt8 := [44, 29, 50, 21, 4, 53, 4, 44, 21, 4, 29, 27, 4, 184, 0, 151, 96, 184, 0, 155, 147, 86]
abbrev dktX2_depths_5 : List UInt8 := dkwX2_depths_5 ++ dktX2_depths_6
def dkwX2_depths_4 : List UInt8 := [180, 0, 17, 54, 4, 21, 4, 158, 0, 45, 44, 29, 50, 21, 4, 53, 158, 0, 30, 44, 29, 50, 21, 4]
abbrev dktX2_depths_4 : List UInt8 := dkwX2_depths_4 ++ dktX2_depths_5
def dkwX2_depths_3 : List UInt8 := [132, 4, 1, 167, 255, 212, 132, 3, 1, 167, 255, 195, 42, 180, 0, 21, 62, 29, 158, 0, 62, 42]
abbrev dktX2_depths_3 : List UInt8 := dkwX2_depths_3 ++ dktX2_depths_4
def dkwX2_depths_2 : List UInt8 := [182, 0, 51, 153, 0, 21, 44, 29, 50, 21, 4, 4, 44, 21, 4, 29, 27, 2, 184, 0, 151, 96, 147, 86]
abbrev dktX2_depths_2 : List UInt8 := dkwX2_depths_2 ++ dktX2_depths_3
def dkwX2_depths_1 : List UInt8 := [163, 0, 59, 4, 54, 4, 21, 4, 42, 180, 0, 17, 163, 0, 41, 42, 21, 4, 4, 100, 29, 4, 100]
abbrev dktX2_depths_1 : List UInt8 := dkwX2_depths_1 ++ dktX2_depths_2
def dkwX2_depths_0 : List UInt8 := [42, 180, 0, 21, 5, 96, 42, 180, 0, 17, 5, 96, 197, 0, 149, 2, 77, 4, 62, 29, 42, 180, 0, 21]
abbrev dktX2_depths_0 : List UInt8 := dkwX2_depths_0 ++ dktX2_depths_1
theorem dksX2_depths_0 : cX2_depths.data.toList.drop 0 = dktX2_depths_0 := by decide +kernel
theorem dksX2_depths_1 : cX2_depths.data.toList.drop 24 = dktX2_depths_1 := dk_seg dksX2_depths_0 24 rfl rfl
theorem dksX2_depths_2 : cX2_depths.data.toList.drop 47 = dktX2_depths_2 := dk_seg dksX2_depths_1 23 rfl rfl
theorem dksX2_depths_3 : cX2_depths.data.toList.drop 71 = dktX2_depths_3 := dk_seg dksX2_depths_2 24 rfl rfl
theorem dksX2_depths_4 : cX2_depths.data.toList.drop 93 = dktX2_depths_4 := dk_seg dksX2_depths_3 22 rfl rfl
theorem dksX2_depths_5 : cX2_depths.data.toList.drop 117 = dktX2_depths_5 := dk_seg dksX2_depths_4 24 rfl rfl
theorem dksX2_depths_6 : cX2_depths.data.toList.drop 139 = dktX2_depths_6 := dk_seg dksX2_depths_5 22 rfl rfl
theorem dX2_depths_0 : decode cX2_depths 0 = .ok (.aload_n 0, 1) := dk_42 (dk_at dksX2_depths_0 0 rfl rfl)
theorem dX2_depths_1 : decode cX2_depths 1 = .ok (.getfield 21, 3) := dk_180 0 21 (dk_at dksX2_depths_0 1 rfl rfl)
theorem dX2_depths_4 : decode cX2_depths 4 = .ok (.iconst 2, 1) := dk_5 (dk_at dksX2_depths_0 4 rfl rfl)
theorem dX2_depths_5 : decode cX2_depths 5 = .ok (.iadd, 1) := dk_96 (dk_at dksX2_depths_0 5 rfl rfl)
theorem dX2_depths_6 : decode cX2_depths 6 = .ok (.aload_n 0, 1) := dk_42 (dk_at dksX2_depths_0 6 rfl rfl)
theorem dX2_depths_7 : decode cX2_depths 7 = .ok (.getfield 17, 3) := dk_180 0 17 (dk_at dksX2_depths_0 7 rfl rfl)
theorem dX2_depths_10 : decode cX2_depths 10 = .ok (.iconst 2, 1) := dk_5 (dk_at dksX2_depths_0 10 rfl rfl)
theorem dX2_depths_11 : decode cX2_depths 11 = .ok (.iadd, 1) := dk_96 (dk_at dksX2_depths_0 11 rfl rfl)
theorem dX2_depths_12 : decode cX2_depths 12 = .ok (.multianewarray 149 2, 4) := by decide +kernel
theorem dX2_depths_16 : decode cX2_depths 16 = .ok (.astore_n 2, 1) := dk_77 (dk_at dksX2_depths_0 16 rfl rfl)
theorem dX2_depths_17 : decode cX2_depths 17 = .ok (.iconst 1, 1) := dk_4 (dk_at dksX2_depths_0 17 rfl rfl)
theorem dX2_depths_18 : decode cX2_depths 18 = .ok (.istore_n 3, 1) := dk_62 (dk_at dksX2_depths_0 18 rfl rfl)
theorem dX2_depths_19 : decode cX2_depths 19 = .ok (.iload_n 3, 1) := dk_29 (dk_at dksX2_depths_0 19 rfl rfl)
theorem dX2_depths_20 : decode cX2_depths 20 = .ok (.aload_n 0, 1) := dk_42 (dk_at dksX2_depths_0 20 rfl rfl)
theorem dX2_depths_21 : decode cX2_depths 21 = .ok (.getfield 21, 3) := dk_180 0 21 (dk_at dksX2_depths_0 21 rfl rfl)
theorem dX2_depths_24 : decode cX2_depths 24 = .ok (.if_icmp .gt 59, 3) := dk_163 0 59 (dk_at dksX2_depths_1 0 rfl rfl)
theorem dX2_depths_27 : decode cX2_depths 27 = .ok (.iconst 1, 1) := dk_4 (dk_at dksX2_depths_1 3 rfl rfl)
theorem dX2_depths_28 : decode cX2_depths 28 = .ok (.istore 4, 2) := dk_54 4 (dk_at dksX2_depths_1 4 rfl rfl)
theorem dX2_depths_30 : decode cX2_depths 30 = .ok (.iload 4, 2) := dk_21 4 (dk_at dksX2_depths_1 6 rfl rfl)
theorem dX2_depths_32 : decode cX2_depths 32 = .ok (.aload_n 0, 1) := dk_42 (dk_at dksX2_depths_1 8 rfl rfl)
theorem dX2_depths_33 : decode cX2_depths 33 = .ok (.getfield 17, 3) := dk_180 0 17 (dk_at dksX2_depths_1 9 rfl rfl)
theorem dX2_depths_36 : decode cX2_depths 36 = .ok (.if_icmp .gt 41, 3) := dk_163 0 41 (dk_at dksX2_depths_1 12 rfl rfl)
theorem dX2_depths_39 : decode cX2_depths 39 = .ok (.aload_n 0, 1) := dk_42 (dk_at dksX2_depths_1 15 rfl rfl)
theorem dX2_depths_40 : decode cX2_depths 40 = .ok (.iload 4, 2) := dk_21 4 (dk_at dksX2_depths_1 16 rfl rfl)
theorem dX2_depths_42 : decode cX2_depths 42 = .ok (.iconst 1, 1) := dk_4 (dk_at dksX2_depths_1 18 rfl rfl)
theorem dX2_depths_43 : decode cX2_depths 43 = .ok (.isub, 1) := dk_100 (dk_at dksX2_depths_1 19 rfl rfl)
theorem dX2_depths_44 : decode cX2_depths 44 = .ok (.iload_n 3, 1) := dk_29 (dk_at dksX2_depths_1 20 rfl rfl)
theorem dX2_depths_45 : decode cX2_depths 45 = .ok (.iconst 1, 1) := dk_4 (dk_at dksX2_depths_1 21 rfl rfl)
theorem dX2_depths_46 : decode cX2_depths 46 = .ok (.isub, 1) := dk_100 (dk_at dksX2_depths_1 22 rfl rfl)
theorem dX2_depths_47 : decode cX2_depths 47 = .ok (.invokevirtual 51, 3) := dk_182 0 51 (dk_at dksX2_depths_2 0 rfl rfl)
theorem dX2_depths_50 : decode cX2_depths 50 = .ok (.ifCond .eq 21, 3) := dk_153 0 21 (dk_at dksX2_depths_2 3 rfl rfl)
theorem dX2_depths_53 : decode cX2_depths 53 = .ok (.aload_n 2, 1) := dk_44 (dk_at dksX2_depths_2 6 rfl rfl)
theorem dX2_depths_54 : decode cX2_depths 54 = .ok (.iload_n 3, 1) := dk_29 (dk_at dksX2_depths_2 7 rfl rfl)
theorem dX2_depths_55 : decode cX2_depths 55 = .ok (.aaload, 1) := dk_50 (dk_at dksX2_depths_2 8 rfl rfl)
theorem dX2_depths_56 : decode cX2_depths 56 = .ok (.iload 4, 2) := dk_21 4 (dk_at dksX2_depths_2 9 rfl rfl)
theorem dX2_depths_58 : decode cX2_depths 58 = .ok (.iconst 1, 1) := dk_4 (dk_at dksX2_depths_2 11 rfl rfl)
theorem dX2_depths_59 : decode cX2_depths 59 = .ok (.aload_n 2, 1) := dk_44 (dk_at dksX2_depths_2 12 rfl rfl)
theorem dX2_depths_60 : decode cX2_depths 60 = .ok (.iload 4, 2) := dk_21 4 (dk_at dksX2_depths_2 13 rfl rfl)
theorem dX2_depths_62 : decode cX2_depths 62 = .ok (.iload_n 3, 1) := dk_29 (dk_at dksX2_depths_2 15 rfl rfl)
theorem dX2_depths_63 : decode cX2_depths 63 = .ok (.iload_n 1, 1) := dk_27 (dk_at dksX2_depths_2 16 rfl rfl)
theorem dX2_depths_64 : decode cX2_depths 64 = .ok (.iconst (-1), 1) := dk_2 (dk_at dksX2_depths_2 17 rfl rfl)
theorem dX2_depths_65 : decode cX2_depths 65 = .ok (.invokestatic 151, 3) := dk_184 0 151 (dk_at dksX2_depths_2 18 rfl rfl)
theorem dX2_depths_68 : decode cX2_depths 68 = .ok (.iadd, 1) := dk_96 (dk_at dksX2_depths_2 21 rfl rfl)
theorem dX2_depths_69 : decode cX2_depths 69 = .ok (.i2s, 1) := dk_147 (dk_at dksX2_depths_2 22 rfl rfl)
theorem dX2_depths_70 : decode cX2_depths 70 = .ok (.sastore, 1) := dk_86 (dk_at dksX2_depths_2 23 rfl rfl)
theorem dX2_depths_71 : decode cX2_depths 71 = .ok (.iinc 4 1, 3) := dk_132 4 1 (dk_at dksX2_depths_3 0 rfl rfl)
theorem dX2_depths_74 : decode cX2_depths 74 = .ok (.goto (-44), 3) := dk_167 255 212 (dk_at dksX2_depths_3 3 rfl rfl)
theorem dX2_depths_77 : decode cX2_depths 77 = .ok (.iinc 3 1, 3) := dk_132 3 1 (dk_at dksX2_depths_3 6 rfl rfl)
theorem dX2_depths_80 : decode cX2_depths 80 = .ok (.goto (-61), 3) := dk_167 255 195 (dk_at dksX2_depths_3 9 rfl rfl)
theorem dX2_depths_83 : decode cX2_depths 83 = .ok (.aload_n 0, 1) := dk_42 (dk_at dksX2_depths_3 12 rfl rfl)
theorem dX2_depths_84 : decode cX2_depths 84 = .ok (.getfield 21, 3) := dk_180 0 21 (dk_at dksX2_depths_3 13 rfl rfl)
theorem dX2_depths_87 : decode cX2_depths 87 = .ok (.istore_n 3, 1) := dk_62 (dk_at dksX2_depths_3 16 rfl rfl)
theorem dX2_depths_88 : decode cX2_depths 88 = .ok (.iload_n 3, 1) := dk_29 (dk_at dksX2_depths_3 17 rfl rfl)
theorem dX2_depths_89 : decode cX2_depths 89 = .ok (.ifCond .le 62, 3) := dk_158 0 62 (dk_at dksX2_depths_3 18 rfl rfl)
theorem dX2_depths_92 : decode cX2_depths 92 = .ok (.aload_n 0, 1) := dk_42 (dk_at dksX2_depths_3 21 rfl rfl)
theorem dX2_depths_93 : decode cX2_depths 93 = .ok (.getfield 17, 3) := dk_180 0 17 (dk_at dksX2_depths_4 0 rfl rfl)
theorem dX2_depths_96 : decode cX2_depths 96 = .ok (.istore 4, 2) := dk_54 4 (dk_at dksX2_depths_4 3 rfl rfl)
theorem dX2_depths_98 : decode cX2_depths 98 = .ok (.iload 4, 2) := dk_21 4 (dk_at dksX2_depths_4 5 rfl rfl)
theorem dX2_depths_100 : decode cX2_depths 100 = .ok (.ifCond .le 45, 3) := dk_158 0 45 (dk_at dksX2_depths_4 7 rfl rfl)
theorem dX2_depths_103 : decode cX2_depths 103 = .ok (.aload_n 2, 1) := dk_44 (dk_at dksX2_depths_4 10 rfl rfl)
theorem dX2_depths_104 : decode cX2_depths 104 = .ok (.iload_n 3, 1) := dk_29 (dk_at dksX2_depths_4 11 rfl rfl)
theorem dX2_depths_105 : decode cX2_depths 105 = .ok (.aaload, 1) := dk_50 (dk_at dksX2_depths_4 12 rfl rfl)
theorem dX2_depths_106 : decode cX2_depths 106 = .ok (.iload 4, 2) := dk_21 4 (dk_at dksX2_depths_4 13 rfl rfl)
theorem dX2_depths_108 : decode cX2_depths 108 = .ok (.saload, 1) := dk_53 (dk_at dksX2_depths_4 15 rfl rfl)
theorem dX2_depths_109 : decode cX2_depths 109 = .ok (.ifCond .le 30, 3) := dk_158 0 30 (dk_at dksX2_depths_4 16 rfl rfl)
theorem dX2_depths_112 : decode cX2_depths 112 = .ok (.aload_n 2, 1) := dk_44 (dk_at dksX2_depths_4 19 rfl rfl)
theorem dX2_depths_113 : decode cX2_depths 113 = .ok (.iload_n 3, 1) := dk_29 (dk_at dksX2_depths_4 20 rfl rfl)
theorem dX2_depths_114 : decode cX2_depths 114 = .ok (.aaload, 1) := dk_50 (dk_at dksX2_depths_4 21 rfl rfl)
theorem dX2_depths_115 : decode cX2_depths 115 = .ok (.iload 4, 2) := dk_21 4 (dk_at dksX2_depths_4 22 rfl rfl)
theorem dX2_depths_117 : decode cX2_depths 117 = .ok (.aload_n 2, 1) := dk_44 (dk_at dksX2_depths_5 0 rfl rfl)
theorem dX2_depths_118 : decode cX2_depths 118 = .ok (.iload_n 3, 1) := dk_29 (dk_at dksX2_depths_5 1 rfl rfl)
theorem dX2_depths_119 : decode cX2_depths 119 = .ok (.aaload, 1) := dk_50 (dk_at dksX2_depths_5 2 rfl rfl)
theorem dX2_depths_120 : decode cX2_depths 120 = .ok (.iload 4, 2) := dk_21 4 (dk_at dksX2_depths_5 3 rfl rfl)
theorem dX2_depths_122 : decode cX2_depths 122 = .ok (.saload, 1) := dk_53 (dk_at dksX2_depths_5 5 rfl rfl)
theorem dX2_depths_123 : decode cX2_depths 123 = .ok (.iconst 1, 1) := dk_4 (dk_at dksX2_depths_5 6 rfl rfl)
theorem dX2_depths_124 : decode cX2_depths 124 = .ok (.aload_n 2, 1) := dk_44 (dk_at dksX2_depths_5 7 rfl rfl)
theorem dX2_depths_125 : decode cX2_depths 125 = .ok (.iload 4, 2) := dk_21 4 (dk_at dksX2_depths_5 8 rfl rfl)
theorem dX2_depths_127 : decode cX2_depths 127 = .ok (.iload_n 3, 1) := dk_29 (dk_at dksX2_depths_5 10 rfl rfl)
theorem dX2_depths_128 : decode cX2_depths 128 = .ok (.iload_n 1, 1) := dk_27 (dk_at dksX2_depths_5 11 rfl rfl)
theorem dX2_depths_129 : decode cX2_depths 129 = .ok (.iconst 1, 1) := dk_4 (dk_at dksX2_depths_5 12 rfl rfl)
theorem dX2_depths_130 : decode cX2_depths 130 = .ok (.invokestatic 151, 3) := dk_184 0 151 (dk_at dksX2_depths_5 13 rfl rfl)
theorem dX2_depths_133 : decode cX2_depths 133 = .ok (.iadd, 1) := dk_96 (dk_at dksX2_depths_5 16 rfl rfl)
theorem dX2_depths_134 : decode cX2_depths 134 = .ok (.invokestatic 155, 3) := dk_184 0 155 (dk_at dksX2_depths_5 17 rfl rfl)
theorem dX2_depths_137 : decode cX2_depths 137 = .ok (.i2s, 1) := dk_147 (dk_at dksX2_depths_5 20 rfl rfl)
theorem dX2_depths_138 : decode cX2_depths 138 = .ok (.sastore, 1) := dk_86 (dk_at dksX2_depths_5 21 rfl rfl)
theorem dX2_depths_139 : decode cX2_depths 139 = .ok (.iinc 4 (-1), 3) := dk_132 4 255 (dk_at dksX2_depths_6 0 rfl rfl)
theorem dX2_depths_142 : decode cX2_depths 142 = .ok (.goto (-44), 3) := dk_167 255 212 (dk_at dksX2_depths_6 3 rfl rfl)
theorem dX2_depths_145 : decode cX2_depths 145 = .ok (.iinc 3 (-1), 3) := dk_132 3 255 (dk_at dksX2_depths_6 6 rfl rfl)
theorem dX2_depths_148 : decode cX2_depths 148 = .ok (.goto (-60), 3) := dk_167 255 196 (dk_at dksX2_depths_6 9 rfl rfl)
theorem dX2_depths_151 : decode cX2_depths 151 = .ok (.aload_n 2, 1) := dk_44 (dk_at dksX2_depths_6 12 rfl rfl)
theorem dX2_depths_152 : decode cX2_depths 152 = .ok (.areturn, 1) := dk_176 (dk_at dksX2_depths_6 13 rfl rfl)
abbrev cX2_least : ByteArray := prog_3_method_20_code
def yX2_least : MethodName := ⟨RX2, "least", "([[SIIZI)I"⟩
def dkwX2_least_2 : List UInt8 := [53, 184, 0, 155, 184, 0, 155, 167, 0, 5, 21, 5, 172]
abbrev dktX2_least_2 : List UInt8 := dkwX2_least_2 ++ []
def dkwX2_least_1 : List UInt8 := [153, 0, 34, 21, 5, 42, 28, 21, 4, 96, 50, 27, 4, 100, 53, 42, 28, 21, 4, 96, 50, 27, 4, 96]
abbrev dktX2_least_1 : List UInt8 := dkwX2_least_1 ++ dktX2_least_2
def dkwX2_least_0 : List UInt8 := [42, 28, 21, 4, 96, 50, 27, 53, 42, 28, 50, 27, 21, 4, 96, 53, 184, 0, 155, 54, 5, 29]
abbrev dktX2_least_0 : List UInt8 := dkwX2_least_0 ++ dktX2_least_1
theorem dksX2_least_0 : cX2_least.data.toList.drop 0 = dktX2_least_0 := by decide +kernel
theorem dksX2_least_1 : cX2_least.data.toList.drop 22 = dktX2_least_1 := dk_seg dksX2_least_0 22 rfl rfl
theorem dksX2_least_2 : cX2_least.data.toList.drop 46 = dktX2_least_2 := dk_seg dksX2_least_1 24 rfl rfl
theorem dX2_least_0 : decode cX2_least 0 = .ok (.aload_n 0, 1) := dk_42 (dk_at dksX2_least_0 0 rfl rfl)
theorem dX2_least_1 : decode cX2_least 1 = .ok (.iload_n 2, 1) := dk_28 (dk_at dksX2_least_0 1 rfl rfl)
theorem dX2_least_2 : decode cX2_least 2 = .ok (.iload 4, 2) := dk_21 4 (dk_at dksX2_least_0 2 rfl rfl)
theorem dX2_least_4 : decode cX2_least 4 = .ok (.iadd, 1) := dk_96 (dk_at dksX2_least_0 4 rfl rfl)
theorem dX2_least_5 : decode cX2_least 5 = .ok (.aaload, 1) := dk_50 (dk_at dksX2_least_0 5 rfl rfl)
theorem dX2_least_6 : decode cX2_least 6 = .ok (.iload_n 1, 1) := dk_27 (dk_at dksX2_least_0 6 rfl rfl)
theorem dX2_least_7 : decode cX2_least 7 = .ok (.saload, 1) := dk_53 (dk_at dksX2_least_0 7 rfl rfl)
theorem dX2_least_8 : decode cX2_least 8 = .ok (.aload_n 0, 1) := dk_42 (dk_at dksX2_least_0 8 rfl rfl)
theorem dX2_least_9 : decode cX2_least 9 = .ok (.iload_n 2, 1) := dk_28 (dk_at dksX2_least_0 9 rfl rfl)
theorem dX2_least_10 : decode cX2_least 10 = .ok (.aaload, 1) := dk_50 (dk_at dksX2_least_0 10 rfl rfl)
theorem dX2_least_11 : decode cX2_least 11 = .ok (.iload_n 1, 1) := dk_27 (dk_at dksX2_least_0 11 rfl rfl)
theorem dX2_least_12 : decode cX2_least 12 = .ok (.iload 4, 2) := dk_21 4 (dk_at dksX2_least_0 12 rfl rfl)
theorem dX2_least_14 : decode cX2_least 14 = .ok (.iadd, 1) := dk_96 (dk_at dksX2_least_0 14 rfl rfl)
theorem dX2_least_15 : decode cX2_least 15 = .ok (.saload, 1) := dk_53 (dk_at dksX2_least_0 15 rfl rfl)
theorem dX2_least_16 : decode cX2_least 16 = .ok (.invokestatic 155, 3) := dk_184 0 155 (dk_at dksX2_least_0 16 rfl rfl)
theorem dX2_least_19 : decode cX2_least 19 = .ok (.istore 5, 2) := dk_54 5 (dk_at dksX2_least_0 19 rfl rfl)
theorem dX2_least_21 : decode cX2_least 21 = .ok (.iload_n 3, 1) := dk_29 (dk_at dksX2_least_0 21 rfl rfl)
theorem dX2_least_22 : decode cX2_least 22 = .ok (.ifCond .eq 34, 3) := dk_153 0 34 (dk_at dksX2_least_1 0 rfl rfl)
theorem dX2_least_25 : decode cX2_least 25 = .ok (.iload 5, 2) := dk_21 5 (dk_at dksX2_least_1 3 rfl rfl)
theorem dX2_least_27 : decode cX2_least 27 = .ok (.aload_n 0, 1) := dk_42 (dk_at dksX2_least_1 5 rfl rfl)
theorem dX2_least_28 : decode cX2_least 28 = .ok (.iload_n 2, 1) := dk_28 (dk_at dksX2_least_1 6 rfl rfl)
theorem dX2_least_29 : decode cX2_least 29 = .ok (.iload 4, 2) := dk_21 4 (dk_at dksX2_least_1 7 rfl rfl)
theorem dX2_least_31 : decode cX2_least 31 = .ok (.iadd, 1) := dk_96 (dk_at dksX2_least_1 9 rfl rfl)
theorem dX2_least_32 : decode cX2_least 32 = .ok (.aaload, 1) := dk_50 (dk_at dksX2_least_1 10 rfl rfl)
theorem dX2_least_33 : decode cX2_least 33 = .ok (.iload_n 1, 1) := dk_27 (dk_at dksX2_least_1 11 rfl rfl)
theorem dX2_least_34 : decode cX2_least 34 = .ok (.iconst 1, 1) := dk_4 (dk_at dksX2_least_1 12 rfl rfl)
theorem dX2_least_35 : decode cX2_least 35 = .ok (.isub, 1) := dk_100 (dk_at dksX2_least_1 13 rfl rfl)
theorem dX2_least_36 : decode cX2_least 36 = .ok (.saload, 1) := dk_53 (dk_at dksX2_least_1 14 rfl rfl)
theorem dX2_least_37 : decode cX2_least 37 = .ok (.aload_n 0, 1) := dk_42 (dk_at dksX2_least_1 15 rfl rfl)
theorem dX2_least_38 : decode cX2_least 38 = .ok (.iload_n 2, 1) := dk_28 (dk_at dksX2_least_1 16 rfl rfl)
theorem dX2_least_39 : decode cX2_least 39 = .ok (.iload 4, 2) := dk_21 4 (dk_at dksX2_least_1 17 rfl rfl)
theorem dX2_least_41 : decode cX2_least 41 = .ok (.iadd, 1) := dk_96 (dk_at dksX2_least_1 19 rfl rfl)
theorem dX2_least_42 : decode cX2_least 42 = .ok (.aaload, 1) := dk_50 (dk_at dksX2_least_1 20 rfl rfl)
theorem dX2_least_43 : decode cX2_least 43 = .ok (.iload_n 1, 1) := dk_27 (dk_at dksX2_least_1 21 rfl rfl)
theorem dX2_least_44 : decode cX2_least 44 = .ok (.iconst 1, 1) := dk_4 (dk_at dksX2_least_1 22 rfl rfl)
theorem dX2_least_45 : decode cX2_least 45 = .ok (.iadd, 1) := dk_96 (dk_at dksX2_least_1 23 rfl rfl)
theorem dX2_least_46 : decode cX2_least 46 = .ok (.saload, 1) := dk_53 (dk_at dksX2_least_2 0 rfl rfl)
theorem dX2_least_47 : decode cX2_least 47 = .ok (.invokestatic 155, 3) := dk_184 0 155 (dk_at dksX2_least_2 1 rfl rfl)
theorem dX2_least_50 : decode cX2_least 50 = .ok (.invokestatic 155, 3) := dk_184 0 155 (dk_at dksX2_least_2 4 rfl rfl)
theorem dX2_least_53 : decode cX2_least 53 = .ok (.goto 5, 3) := dk_167 0 5 (dk_at dksX2_least_2 7 rfl rfl)
theorem dX2_least_56 : decode cX2_least 56 = .ok (.iload 5, 2) := dk_21 5 (dk_at dksX2_least_2 10 rfl rfl)
theorem dX2_least_58 : decode cX2_least 58 = .ok (.ireturn, 1) := dk_172 (dk_at dksX2_least_2 12 rfl rfl)
abbrev cX2_runs : ByteArray := prog_3_method_18_code
def yX2_runs : MethodName := ⟨RX2, "runs", "(I)Ljava/util/LinkedList;"⟩
def dkwX2_runs_3 : List UInt8 := [132, 3, 1, 167, 255, 191, 44, 176]
abbrev dktX2_runs_3 : List UInt8 := dkwX2_runs_3 ++ []
def dkwX2_runs_2 : List UInt8 := [89, 180, 0, 143, 4, 96, 181, 0, 143, 167, 0, 15, 44, 187, 0, 141, 89, 29, 183, 0, 146, 182, 0, 148]
abbrev dktX2_runs_2 : List UInt8 := dkwX2_runs_2 ++ dktX2_runs_3
def dkwX2_runs_1 : List UInt8 := [154, 0, 6, 167, 0, 45, 42, 29, 4, 100, 27, 182, 0, 51, 153, 0, 22, 44, 182, 0, 138, 192, 0, 141]
abbrev dktX2_runs_1 : List UInt8 := dkwX2_runs_1 ++ dktX2_runs_2
def dkwX2_runs_0 : List UInt8 := [187, 0, 135, 89, 183, 0, 137, 77, 3, 62, 29, 42, 180, 0, 17, 162, 0, 63, 42, 29, 27, 182, 0, 51]
abbrev dktX2_runs_0 : List UInt8 := dkwX2_runs_0 ++ dktX2_runs_1
theorem dksX2_runs_0 : cX2_runs.data.toList.drop 0 = dktX2_runs_0 := by decide +kernel
theorem dksX2_runs_1 : cX2_runs.data.toList.drop 24 = dktX2_runs_1 := dk_seg dksX2_runs_0 24 rfl rfl
theorem dksX2_runs_2 : cX2_runs.data.toList.drop 48 = dktX2_runs_2 := dk_seg dksX2_runs_1 24 rfl rfl
theorem dksX2_runs_3 : cX2_runs.data.toList.drop 72 = dktX2_runs_3 := dk_seg dksX2_runs_2 24 rfl rfl
theorem dX2_runs_0 : decode cX2_runs 0 = .ok (.new 135, 3) := dk_187 0 135 (dk_at dksX2_runs_0 0 rfl rfl)
theorem dX2_runs_3 : decode cX2_runs 3 = .ok (.dup, 1) := dk_89 (dk_at dksX2_runs_0 3 rfl rfl)
theorem dX2_runs_4 : decode cX2_runs 4 = .ok (.invokespecial 137, 3) := dk_183 0 137 (dk_at dksX2_runs_0 4 rfl rfl)
theorem dX2_runs_7 : decode cX2_runs 7 = .ok (.astore_n 2, 1) := dk_77 (dk_at dksX2_runs_0 7 rfl rfl)
theorem dX2_runs_8 : decode cX2_runs 8 = .ok (.iconst 0, 1) := dk_3 (dk_at dksX2_runs_0 8 rfl rfl)
theorem dX2_runs_9 : decode cX2_runs 9 = .ok (.istore_n 3, 1) := dk_62 (dk_at dksX2_runs_0 9 rfl rfl)
theorem dX2_runs_10 : decode cX2_runs 10 = .ok (.iload_n 3, 1) := dk_29 (dk_at dksX2_runs_0 10 rfl rfl)
theorem dX2_runs_11 : decode cX2_runs 11 = .ok (.aload_n 0, 1) := dk_42 (dk_at dksX2_runs_0 11 rfl rfl)
theorem dX2_runs_12 : decode cX2_runs 12 = .ok (.getfield 17, 3) := dk_180 0 17 (dk_at dksX2_runs_0 12 rfl rfl)
theorem dX2_runs_15 : decode cX2_runs 15 = .ok (.if_icmp .ge 63, 3) := dk_162 0 63 (dk_at dksX2_runs_0 15 rfl rfl)
theorem dX2_runs_18 : decode cX2_runs 18 = .ok (.aload_n 0, 1) := dk_42 (dk_at dksX2_runs_0 18 rfl rfl)
theorem dX2_runs_19 : decode cX2_runs 19 = .ok (.iload_n 3, 1) := dk_29 (dk_at dksX2_runs_0 19 rfl rfl)
theorem dX2_runs_20 : decode cX2_runs 20 = .ok (.iload_n 1, 1) := dk_27 (dk_at dksX2_runs_0 20 rfl rfl)
theorem dX2_runs_21 : decode cX2_runs 21 = .ok (.invokevirtual 51, 3) := dk_182 0 51 (dk_at dksX2_runs_0 21 rfl rfl)
theorem dX2_runs_24 : decode cX2_runs 24 = .ok (.ifCond .ne 6, 3) := dk_154 0 6 (dk_at dksX2_runs_1 0 rfl rfl)
theorem dX2_runs_27 : decode cX2_runs 27 = .ok (.goto 45, 3) := dk_167 0 45 (dk_at dksX2_runs_1 3 rfl rfl)
theorem dX2_runs_30 : decode cX2_runs 30 = .ok (.aload_n 0, 1) := dk_42 (dk_at dksX2_runs_1 6 rfl rfl)
theorem dX2_runs_31 : decode cX2_runs 31 = .ok (.iload_n 3, 1) := dk_29 (dk_at dksX2_runs_1 7 rfl rfl)
theorem dX2_runs_32 : decode cX2_runs 32 = .ok (.iconst 1, 1) := dk_4 (dk_at dksX2_runs_1 8 rfl rfl)
theorem dX2_runs_33 : decode cX2_runs 33 = .ok (.isub, 1) := dk_100 (dk_at dksX2_runs_1 9 rfl rfl)
theorem dX2_runs_34 : decode cX2_runs 34 = .ok (.iload_n 1, 1) := dk_27 (dk_at dksX2_runs_1 10 rfl rfl)
theorem dX2_runs_35 : decode cX2_runs 35 = .ok (.invokevirtual 51, 3) := dk_182 0 51 (dk_at dksX2_runs_1 11 rfl rfl)
theorem dX2_runs_38 : decode cX2_runs 38 = .ok (.ifCond .eq 22, 3) := dk_153 0 22 (dk_at dksX2_runs_1 14 rfl rfl)
theorem dX2_runs_41 : decode cX2_runs 41 = .ok (.aload_n 2, 1) := dk_44 (dk_at dksX2_runs_1 17 rfl rfl)
theorem dX2_runs_42 : decode cX2_runs 42 = .ok (.invokevirtual 138, 3) := dk_182 0 138 (dk_at dksX2_runs_1 18 rfl rfl)
theorem dX2_runs_45 : decode cX2_runs 45 = .ok (.checkcast 141, 3) := dk_192 0 141 (dk_at dksX2_runs_1 21 rfl rfl)
theorem dX2_runs_48 : decode cX2_runs 48 = .ok (.dup, 1) := dk_89 (dk_at dksX2_runs_2 0 rfl rfl)
theorem dX2_runs_49 : decode cX2_runs 49 = .ok (.getfield 143, 3) := dk_180 0 143 (dk_at dksX2_runs_2 1 rfl rfl)
theorem dX2_runs_52 : decode cX2_runs 52 = .ok (.iconst 1, 1) := dk_4 (dk_at dksX2_runs_2 4 rfl rfl)
theorem dX2_runs_53 : decode cX2_runs 53 = .ok (.iadd, 1) := dk_96 (dk_at dksX2_runs_2 5 rfl rfl)
theorem dX2_runs_54 : decode cX2_runs 54 = .ok (.putfield 143, 3) := dk_181 0 143 (dk_at dksX2_runs_2 6 rfl rfl)
theorem dX2_runs_57 : decode cX2_runs 57 = .ok (.goto 15, 3) := dk_167 0 15 (dk_at dksX2_runs_2 9 rfl rfl)
theorem dX2_runs_60 : decode cX2_runs 60 = .ok (.aload_n 2, 1) := dk_44 (dk_at dksX2_runs_2 12 rfl rfl)
theorem dX2_runs_61 : decode cX2_runs 61 = .ok (.new 141, 3) := dk_187 0 141 (dk_at dksX2_runs_2 13 rfl rfl)
theorem dX2_runs_64 : decode cX2_runs 64 = .ok (.dup, 1) := dk_89 (dk_at dksX2_runs_2 16 rfl rfl)
theorem dX2_runs_65 : decode cX2_runs 65 = .ok (.iload_n 3, 1) := dk_29 (dk_at dksX2_runs_2 17 rfl rfl)
theorem dX2_runs_66 : decode cX2_runs 66 = .ok (.invokespecial 146, 3) := dk_183 0 146 (dk_at dksX2_runs_2 18 rfl rfl)
theorem dX2_runs_69 : decode cX2_runs 69 = .ok (.invokevirtual 148, 3) := dk_182 0 148 (dk_at dksX2_runs_2 21 rfl rfl)
theorem dX2_runs_72 : decode cX2_runs 72 = .ok (.iinc 3 1, 3) := dk_132 3 1 (dk_at dksX2_runs_3 0 rfl rfl)
theorem dX2_runs_75 : decode cX2_runs 75 = .ok (.goto (-65), 3) := dk_167 255 191 (dk_at dksX2_runs_3 3 rfl rfl)
theorem dX2_runs_78 : decode cX2_runs 78 = .ok (.aload_n 2, 1) := dk_44 (dk_at dksX2_runs_3 6 rfl rfl)
theorem dX2_runs_79 : decode cX2_runs 79 = .ok (.areturn, 1) := dk_176 (dk_at dksX2_runs_3 7 rfl rfl)
abbrev cX2_parts : ByteArray := prog_3_method_14_code
def yX2_parts : MethodName := ⟨RX2, "parts", "()I"⟩
def dkwX2_parts_2 : List UInt8 := [180, 0, 24, 29, 4, 96, 182, 0, 118, 62, 167, 255, 217, 28, 172]
abbrev dktX2_parts_2 : List UInt8 := dkwX2_parts_2 ++ []
def dkwX2_parts_1 : List UInt8 := [29, 182, 0, 40, 153, 0, 6, 167, 0, 16, 43, 42, 29, 4, 182, 0, 121, 182, 0, 28, 132, 2, 1, 42]
abbrev dktX2_parts_1 : List UInt8 := dkwX2_parts_1 ++ dktX2_parts_2
def dkwX2_parts_0 : List UInt8 := [187, 0, 3, 89, 183, 0, 5, 76, 3, 61, 42, 180, 0, 24, 3, 182, 0, 118, 62, 29, 155, 0, 41, 43]
abbrev dktX2_parts_0 : List UInt8 := dkwX2_parts_0 ++ dktX2_parts_1
theorem dksX2_parts_0 : cX2_parts.data.toList.drop 0 = dktX2_parts_0 := by decide +kernel
theorem dksX2_parts_1 : cX2_parts.data.toList.drop 24 = dktX2_parts_1 := dk_seg dksX2_parts_0 24 rfl rfl
theorem dksX2_parts_2 : cX2_parts.data.toList.drop 48 = dktX2_parts_2 := dk_seg dksX2_parts_1 24 rfl rfl
theorem dX2_parts_0 : decode cX2_parts 0 = .ok (.new 3, 3) := dk_187 0 3 (dk_at dksX2_parts_0 0 rfl rfl)
theorem dX2_parts_3 : decode cX2_parts 3 = .ok (.dup, 1) := dk_89 (dk_at dksX2_parts_0 3 rfl rfl)
theorem dX2_parts_4 : decode cX2_parts 4 = .ok (.invokespecial 5, 3) := dk_183 0 5 (dk_at dksX2_parts_0 4 rfl rfl)
theorem dX2_parts_7 : decode cX2_parts 7 = .ok (.astore_n 1, 1) := dk_76 (dk_at dksX2_parts_0 7 rfl rfl)
theorem dX2_parts_8 : decode cX2_parts 8 = .ok (.iconst 0, 1) := dk_3 (dk_at dksX2_parts_0 8 rfl rfl)
theorem dX2_parts_9 : decode cX2_parts 9 = .ok (.istore_n 2, 1) := dk_61 (dk_at dksX2_parts_0 9 rfl rfl)
theorem dX2_parts_10 : decode cX2_parts 10 = .ok (.aload_n 0, 1) := dk_42 (dk_at dksX2_parts_0 10 rfl rfl)
theorem dX2_parts_11 : decode cX2_parts 11 = .ok (.getfield 24, 3) := dk_180 0 24 (dk_at dksX2_parts_0 11 rfl rfl)
theorem dX2_parts_14 : decode cX2_parts 14 = .ok (.iconst 0, 1) := dk_3 (dk_at dksX2_parts_0 14 rfl rfl)
theorem dX2_parts_15 : decode cX2_parts 15 = .ok (.invokevirtual 118, 3) := dk_182 0 118 (dk_at dksX2_parts_0 15 rfl rfl)
theorem dX2_parts_18 : decode cX2_parts 18 = .ok (.istore_n 3, 1) := dk_62 (dk_at dksX2_parts_0 18 rfl rfl)
theorem dX2_parts_19 : decode cX2_parts 19 = .ok (.iload_n 3, 1) := dk_29 (dk_at dksX2_parts_0 19 rfl rfl)
theorem dX2_parts_20 : decode cX2_parts 20 = .ok (.ifCond .lt 41, 3) := dk_155 0 41 (dk_at dksX2_parts_0 20 rfl rfl)
theorem dX2_parts_23 : decode cX2_parts 23 = .ok (.aload_n 1, 1) := dk_43 (dk_at dksX2_parts_0 23 rfl rfl)
theorem dX2_parts_24 : decode cX2_parts 24 = .ok (.iload_n 3, 1) := dk_29 (dk_at dksX2_parts_1 0 rfl rfl)
theorem dX2_parts_25 : decode cX2_parts 25 = .ok (.invokevirtual 40, 3) := dk_182 0 40 (dk_at dksX2_parts_1 1 rfl rfl)
theorem dX2_parts_28 : decode cX2_parts 28 = .ok (.ifCond .eq 6, 3) := dk_153 0 6 (dk_at dksX2_parts_1 4 rfl rfl)
theorem dX2_parts_31 : decode cX2_parts 31 = .ok (.goto 16, 3) := dk_167 0 16 (dk_at dksX2_parts_1 7 rfl rfl)
theorem dX2_parts_34 : decode cX2_parts 34 = .ok (.aload_n 1, 1) := dk_43 (dk_at dksX2_parts_1 10 rfl rfl)
theorem dX2_parts_35 : decode cX2_parts 35 = .ok (.aload_n 0, 1) := dk_42 (dk_at dksX2_parts_1 11 rfl rfl)
theorem dX2_parts_36 : decode cX2_parts 36 = .ok (.iload_n 3, 1) := dk_29 (dk_at dksX2_parts_1 12 rfl rfl)
theorem dX2_parts_37 : decode cX2_parts 37 = .ok (.iconst 1, 1) := dk_4 (dk_at dksX2_parts_1 13 rfl rfl)
theorem dX2_parts_38 : decode cX2_parts 38 = .ok (.invokevirtual 121, 3) := dk_182 0 121 (dk_at dksX2_parts_1 14 rfl rfl)
theorem dX2_parts_41 : decode cX2_parts 41 = .ok (.invokevirtual 28, 3) := dk_182 0 28 (dk_at dksX2_parts_1 17 rfl rfl)
theorem dX2_parts_44 : decode cX2_parts 44 = .ok (.iinc 2 1, 3) := dk_132 2 1 (dk_at dksX2_parts_1 20 rfl rfl)
theorem dX2_parts_47 : decode cX2_parts 47 = .ok (.aload_n 0, 1) := dk_42 (dk_at dksX2_parts_1 23 rfl rfl)
theorem dX2_parts_48 : decode cX2_parts 48 = .ok (.getfield 24, 3) := dk_180 0 24 (dk_at dksX2_parts_2 0 rfl rfl)
theorem dX2_parts_51 : decode cX2_parts 51 = .ok (.iload_n 3, 1) := dk_29 (dk_at dksX2_parts_2 3 rfl rfl)
theorem dX2_parts_52 : decode cX2_parts 52 = .ok (.iconst 1, 1) := dk_4 (dk_at dksX2_parts_2 4 rfl rfl)
theorem dX2_parts_53 : decode cX2_parts 53 = .ok (.iadd, 1) := dk_96 (dk_at dksX2_parts_2 5 rfl rfl)
theorem dX2_parts_54 : decode cX2_parts 54 = .ok (.invokevirtual 118, 3) := dk_182 0 118 (dk_at dksX2_parts_2 6 rfl rfl)
theorem dX2_parts_57 : decode cX2_parts 57 = .ok (.istore_n 3, 1) := dk_62 (dk_at dksX2_parts_2 9 rfl rfl)
theorem dX2_parts_58 : decode cX2_parts 58 = .ok (.goto (-39), 3) := dk_167 255 217 (dk_at dksX2_parts_2 10 rfl rfl)
theorem dX2_parts_61 : decode cX2_parts 61 = .ok (.iload_n 2, 1) := dk_28 (dk_at dksX2_parts_2 13 rfl rfl)
theorem dX2_parts_62 : decode cX2_parts 62 = .ok (.ireturn, 1) := dk_172 (dk_at dksX2_parts_2 14 rfl rfl)
abbrev cX2_reached : ByteArray := prog_3_method_13_code
def yX2_reached : MethodName := ⟨RX2, "reached", "(II)Ljava/util/BitSet;"⟩
def dkwX2_reached_5 : List UInt8 := [25, 4, 21, 7, 184, 0, 91, 182, 0, 114, 21, 6, 28, 96, 54, 6, 167, 255, 179, 167, 255, 152, 45, 176]
abbrev dktX2_reached_5 : List UInt8 := dkwX2_reached_5 ++ []
def dkwX2_reached_4 : List UInt8 := [182, 0, 40, 42, 180, 0, 24, 27, 182, 0, 40, 159, 0, 6, 167, 0, 19, 45, 21, 7, 182, 0, 87]
abbrev dktX2_reached_4 : List UInt8 := dkwX2_reached_4 ++ dktX2_reached_5
def dkwX2_reached_3 : List UInt8 := [54, 7, 21, 7, 2, 159, 0, 51, 45, 21, 7, 182, 0, 40, 154, 0, 42, 42, 180, 0, 24, 21, 7]
abbrev dktX2_reached_3 : List UInt8 := dkwX2_reached_3 ++ dktX2_reached_4
def dkwX2_reached_2 : List UInt8 := [182, 0, 107, 54, 5, 3, 54, 6, 21, 6, 16, 8, 162, 0, 76, 42, 21, 5, 21, 6, 182, 0, 110]
abbrev dktX2_reached_2 : List UInt8 := dkwX2_reached_2 ++ dktX2_reached_3
def dkwX2_reached_1 : List UInt8 := [27, 184, 0, 91, 182, 0, 95, 87, 25, 4, 182, 0, 99, 154, 0, 102, 25, 4, 182, 0, 103, 192, 0, 66]
abbrev dktX2_reached_1 : List UInt8 := dkwX2_reached_1 ++ dktX2_reached_2
def dkwX2_reached_0 : List UInt8 := [187, 0, 3, 89, 183, 0, 5, 78, 187, 0, 84, 89, 183, 0, 86, 58, 4, 45, 27, 182, 0, 87, 25, 4]
abbrev dktX2_reached_0 : List UInt8 := dkwX2_reached_0 ++ dktX2_reached_1
theorem dksX2_reached_0 : cX2_reached.data.toList.drop 0 = dktX2_reached_0 := by decide +kernel
theorem dksX2_reached_1 : cX2_reached.data.toList.drop 24 = dktX2_reached_1 := dk_seg dksX2_reached_0 24 rfl rfl
theorem dksX2_reached_2 : cX2_reached.data.toList.drop 48 = dktX2_reached_2 := dk_seg dksX2_reached_1 24 rfl rfl
theorem dksX2_reached_3 : cX2_reached.data.toList.drop 71 = dktX2_reached_3 := dk_seg dksX2_reached_2 23 rfl rfl
theorem dksX2_reached_4 : cX2_reached.data.toList.drop 94 = dktX2_reached_4 := dk_seg dksX2_reached_3 23 rfl rfl
theorem dksX2_reached_5 : cX2_reached.data.toList.drop 117 = dktX2_reached_5 := dk_seg dksX2_reached_4 23 rfl rfl
theorem dX2_reached_0 : decode cX2_reached 0 = .ok (.new 3, 3) := dk_187 0 3 (dk_at dksX2_reached_0 0 rfl rfl)
theorem dX2_reached_3 : decode cX2_reached 3 = .ok (.dup, 1) := dk_89 (dk_at dksX2_reached_0 3 rfl rfl)
theorem dX2_reached_4 : decode cX2_reached 4 = .ok (.invokespecial 5, 3) := dk_183 0 5 (dk_at dksX2_reached_0 4 rfl rfl)
theorem dX2_reached_7 : decode cX2_reached 7 = .ok (.astore_n 3, 1) := dk_78 (dk_at dksX2_reached_0 7 rfl rfl)
theorem dX2_reached_8 : decode cX2_reached 8 = .ok (.new 84, 3) := dk_187 0 84 (dk_at dksX2_reached_0 8 rfl rfl)
theorem dX2_reached_11 : decode cX2_reached 11 = .ok (.dup, 1) := dk_89 (dk_at dksX2_reached_0 11 rfl rfl)
theorem dX2_reached_12 : decode cX2_reached 12 = .ok (.invokespecial 86, 3) := dk_183 0 86 (dk_at dksX2_reached_0 12 rfl rfl)
theorem dX2_reached_15 : decode cX2_reached 15 = .ok (.astore 4, 2) := dk_58 4 (dk_at dksX2_reached_0 15 rfl rfl)
theorem dX2_reached_17 : decode cX2_reached 17 = .ok (.aload_n 3, 1) := dk_45 (dk_at dksX2_reached_0 17 rfl rfl)
theorem dX2_reached_18 : decode cX2_reached 18 = .ok (.iload_n 1, 1) := dk_27 (dk_at dksX2_reached_0 18 rfl rfl)
theorem dX2_reached_19 : decode cX2_reached 19 = .ok (.invokevirtual 87, 3) := dk_182 0 87 (dk_at dksX2_reached_0 19 rfl rfl)
theorem dX2_reached_22 : decode cX2_reached 22 = .ok (.aload 4, 2) := dk_25 4 (dk_at dksX2_reached_0 22 rfl rfl)
theorem dX2_reached_24 : decode cX2_reached 24 = .ok (.iload_n 1, 1) := dk_27 (dk_at dksX2_reached_1 0 rfl rfl)
theorem dX2_reached_25 : decode cX2_reached 25 = .ok (.invokestatic 91, 3) := dk_184 0 91 (dk_at dksX2_reached_1 1 rfl rfl)
theorem dX2_reached_28 : decode cX2_reached 28 = .ok (.invokevirtual 95, 3) := dk_182 0 95 (dk_at dksX2_reached_1 4 rfl rfl)
theorem dX2_reached_31 : decode cX2_reached 31 = .ok (.pop, 1) := dk_87 (dk_at dksX2_reached_1 7 rfl rfl)
theorem dX2_reached_32 : decode cX2_reached 32 = .ok (.aload 4, 2) := dk_25 4 (dk_at dksX2_reached_1 8 rfl rfl)
theorem dX2_reached_34 : decode cX2_reached 34 = .ok (.invokevirtual 99, 3) := dk_182 0 99 (dk_at dksX2_reached_1 10 rfl rfl)
theorem dX2_reached_37 : decode cX2_reached 37 = .ok (.ifCond .ne 102, 3) := dk_154 0 102 (dk_at dksX2_reached_1 13 rfl rfl)
theorem dX2_reached_40 : decode cX2_reached 40 = .ok (.aload 4, 2) := dk_25 4 (dk_at dksX2_reached_1 16 rfl rfl)
theorem dX2_reached_42 : decode cX2_reached 42 = .ok (.invokevirtual 103, 3) := dk_182 0 103 (dk_at dksX2_reached_1 18 rfl rfl)
theorem dX2_reached_45 : decode cX2_reached 45 = .ok (.checkcast 66, 3) := dk_192 0 66 (dk_at dksX2_reached_1 21 rfl rfl)
theorem dX2_reached_48 : decode cX2_reached 48 = .ok (.invokevirtual 107, 3) := dk_182 0 107 (dk_at dksX2_reached_2 0 rfl rfl)
theorem dX2_reached_51 : decode cX2_reached 51 = .ok (.istore 5, 2) := dk_54 5 (dk_at dksX2_reached_2 3 rfl rfl)
theorem dX2_reached_53 : decode cX2_reached 53 = .ok (.iconst 0, 1) := dk_3 (dk_at dksX2_reached_2 5 rfl rfl)
theorem dX2_reached_54 : decode cX2_reached 54 = .ok (.istore 6, 2) := dk_54 6 (dk_at dksX2_reached_2 6 rfl rfl)
theorem dX2_reached_56 : decode cX2_reached 56 = .ok (.iload 6, 2) := dk_21 6 (dk_at dksX2_reached_2 8 rfl rfl)
theorem dX2_reached_58 : decode cX2_reached 58 = .ok (.bipush 8, 2) := dk_16 8 (dk_at dksX2_reached_2 10 rfl rfl)
theorem dX2_reached_60 : decode cX2_reached 60 = .ok (.if_icmp .ge 76, 3) := dk_162 0 76 (dk_at dksX2_reached_2 12 rfl rfl)
theorem dX2_reached_63 : decode cX2_reached 63 = .ok (.aload_n 0, 1) := dk_42 (dk_at dksX2_reached_2 15 rfl rfl)
theorem dX2_reached_64 : decode cX2_reached 64 = .ok (.iload 5, 2) := dk_21 5 (dk_at dksX2_reached_2 16 rfl rfl)
theorem dX2_reached_66 : decode cX2_reached 66 = .ok (.iload 6, 2) := dk_21 6 (dk_at dksX2_reached_2 18 rfl rfl)
theorem dX2_reached_68 : decode cX2_reached 68 = .ok (.invokevirtual 110, 3) := dk_182 0 110 (dk_at dksX2_reached_2 20 rfl rfl)
theorem dX2_reached_71 : decode cX2_reached 71 = .ok (.istore 7, 2) := dk_54 7 (dk_at dksX2_reached_3 0 rfl rfl)
theorem dX2_reached_73 : decode cX2_reached 73 = .ok (.iload 7, 2) := dk_21 7 (dk_at dksX2_reached_3 2 rfl rfl)
theorem dX2_reached_75 : decode cX2_reached 75 = .ok (.iconst (-1), 1) := dk_2 (dk_at dksX2_reached_3 4 rfl rfl)
theorem dX2_reached_76 : decode cX2_reached 76 = .ok (.if_icmp .eq 51, 3) := dk_159 0 51 (dk_at dksX2_reached_3 5 rfl rfl)
theorem dX2_reached_79 : decode cX2_reached 79 = .ok (.aload_n 3, 1) := dk_45 (dk_at dksX2_reached_3 8 rfl rfl)
theorem dX2_reached_80 : decode cX2_reached 80 = .ok (.iload 7, 2) := dk_21 7 (dk_at dksX2_reached_3 9 rfl rfl)
theorem dX2_reached_82 : decode cX2_reached 82 = .ok (.invokevirtual 40, 3) := dk_182 0 40 (dk_at dksX2_reached_3 11 rfl rfl)
theorem dX2_reached_85 : decode cX2_reached 85 = .ok (.ifCond .ne 42, 3) := dk_154 0 42 (dk_at dksX2_reached_3 14 rfl rfl)
theorem dX2_reached_88 : decode cX2_reached 88 = .ok (.aload_n 0, 1) := dk_42 (dk_at dksX2_reached_3 17 rfl rfl)
theorem dX2_reached_89 : decode cX2_reached 89 = .ok (.getfield 24, 3) := dk_180 0 24 (dk_at dksX2_reached_3 18 rfl rfl)
theorem dX2_reached_92 : decode cX2_reached 92 = .ok (.iload 7, 2) := dk_21 7 (dk_at dksX2_reached_3 21 rfl rfl)
theorem dX2_reached_94 : decode cX2_reached 94 = .ok (.invokevirtual 40, 3) := dk_182 0 40 (dk_at dksX2_reached_4 0 rfl rfl)
theorem dX2_reached_97 : decode cX2_reached 97 = .ok (.aload_n 0, 1) := dk_42 (dk_at dksX2_reached_4 3 rfl rfl)
theorem dX2_reached_98 : decode cX2_reached 98 = .ok (.getfield 24, 3) := dk_180 0 24 (dk_at dksX2_reached_4 4 rfl rfl)
theorem dX2_reached_101 : decode cX2_reached 101 = .ok (.iload_n 1, 1) := dk_27 (dk_at dksX2_reached_4 7 rfl rfl)
theorem dX2_reached_102 : decode cX2_reached 102 = .ok (.invokevirtual 40, 3) := dk_182 0 40 (dk_at dksX2_reached_4 8 rfl rfl)
theorem dX2_reached_105 : decode cX2_reached 105 = .ok (.if_icmp .eq 6, 3) := dk_159 0 6 (dk_at dksX2_reached_4 11 rfl rfl)
theorem dX2_reached_108 : decode cX2_reached 108 = .ok (.goto 19, 3) := dk_167 0 19 (dk_at dksX2_reached_4 14 rfl rfl)
theorem dX2_reached_111 : decode cX2_reached 111 = .ok (.aload_n 3, 1) := dk_45 (dk_at dksX2_reached_4 17 rfl rfl)
theorem dX2_reached_112 : decode cX2_reached 112 = .ok (.iload 7, 2) := dk_21 7 (dk_at dksX2_reached_4 18 rfl rfl)
theorem dX2_reached_114 : decode cX2_reached 114 = .ok (.invokevirtual 87, 3) := dk_182 0 87 (dk_at dksX2_reached_4 20 rfl rfl)
theorem dX2_reached_117 : decode cX2_reached 117 = .ok (.aload 4, 2) := dk_25 4 (dk_at dksX2_reached_5 0 rfl rfl)
theorem dX2_reached_119 : decode cX2_reached 119 = .ok (.iload 7, 2) := dk_21 7 (dk_at dksX2_reached_5 2 rfl rfl)
theorem dX2_reached_121 : decode cX2_reached 121 = .ok (.invokestatic 91, 3) := dk_184 0 91 (dk_at dksX2_reached_5 4 rfl rfl)
theorem dX2_reached_124 : decode cX2_reached 124 = .ok (.invokevirtual 114, 3) := dk_182 0 114 (dk_at dksX2_reached_5 7 rfl rfl)
theorem dX2_reached_127 : decode cX2_reached 127 = .ok (.iload 6, 2) := dk_21 6 (dk_at dksX2_reached_5 10 rfl rfl)
theorem dX2_reached_129 : decode cX2_reached 129 = .ok (.iload_n 2, 1) := dk_28 (dk_at dksX2_reached_5 12 rfl rfl)
theorem dX2_reached_130 : decode cX2_reached 130 = .ok (.iadd, 1) := dk_96 (dk_at dksX2_reached_5 13 rfl rfl)
theorem dX2_reached_131 : decode cX2_reached 131 = .ok (.istore 6, 2) := dk_54 6 (dk_at dksX2_reached_5 14 rfl rfl)
theorem dX2_reached_133 : decode cX2_reached 133 = .ok (.goto (-77), 3) := dk_167 255 179 (dk_at dksX2_reached_5 16 rfl rfl)
theorem dX2_reached_136 : decode cX2_reached 136 = .ok (.goto (-104), 3) := dk_167 255 152 (dk_at dksX2_reached_5 19 rfl rfl)
theorem dX2_reached_139 : decode cX2_reached 139 = .ok (.aload_n 3, 1) := dk_45 (dk_at dksX2_reached_5 22 rfl rfl)
theorem dX2_reached_140 : decode cX2_reached 140 = .ok (.areturn, 1) := dk_176 (dk_at dksX2_reached_5 23 rfl rfl)
abbrev cX2_beside : ByteArray := prog_3_method_7_code
def yX2_beside : MethodName := ⟨RX2, "beside", "(II)I"⟩
def dkwX2_beside_2 : List UInt8 := [2, 172]
abbrev dktX2_beside_2 : List UInt8 := dkwX2_beside_2 ++ []
def dkwX2_beside_1 : List UInt8 := [54, 4, 42, 29, 21, 4, 182, 0, 36, 153, 0, 15, 21, 4, 42, 180, 0, 17, 104, 29, 96, 167, 0, 4]
abbrev dktX2_beside_1 : List UInt8 := dkwX2_beside_1 ++ dktX2_beside_2
def dkwX2_beside_0 : List UInt8 := [27, 42, 180, 0, 17, 112, 28, 184, 0, 44, 96, 62, 27, 42, 180, 0, 17, 108, 28, 184, 0, 48, 96]
abbrev dktX2_beside_0 : List UInt8 := dkwX2_beside_0 ++ dktX2_beside_1
theorem dksX2_beside_0 : cX2_beside.data.toList.drop 0 = dktX2_beside_0 := by decide +kernel
theorem dksX2_beside_1 : cX2_beside.data.toList.drop 23 = dktX2_beside_1 := dk_seg dksX2_beside_0 23 rfl rfl
theorem dksX2_beside_2 : cX2_beside.data.toList.drop 47 = dktX2_beside_2 := dk_seg dksX2_beside_1 24 rfl rfl
theorem dX2_beside_0 : decode cX2_beside 0 = .ok (.iload_n 1, 1) := dk_27 (dk_at dksX2_beside_0 0 rfl rfl)
theorem dX2_beside_1 : decode cX2_beside 1 = .ok (.aload_n 0, 1) := dk_42 (dk_at dksX2_beside_0 1 rfl rfl)
theorem dX2_beside_2 : decode cX2_beside 2 = .ok (.getfield 17, 3) := dk_180 0 17 (dk_at dksX2_beside_0 2 rfl rfl)
theorem dX2_beside_5 : decode cX2_beside 5 = .ok (.irem, 1) := dk_112 (dk_at dksX2_beside_0 5 rfl rfl)
theorem dX2_beside_6 : decode cX2_beside 6 = .ok (.iload_n 2, 1) := dk_28 (dk_at dksX2_beside_0 6 rfl rfl)
theorem dX2_beside_7 : decode cX2_beside 7 = .ok (.invokestatic 44, 3) := dk_184 0 44 (dk_at dksX2_beside_0 7 rfl rfl)
theorem dX2_beside_10 : decode cX2_beside 10 = .ok (.iadd, 1) := dk_96 (dk_at dksX2_beside_0 10 rfl rfl)
theorem dX2_beside_11 : decode cX2_beside 11 = .ok (.istore_n 3, 1) := dk_62 (dk_at dksX2_beside_0 11 rfl rfl)
theorem dX2_beside_12 : decode cX2_beside 12 = .ok (.iload_n 1, 1) := dk_27 (dk_at dksX2_beside_0 12 rfl rfl)
theorem dX2_beside_13 : decode cX2_beside 13 = .ok (.aload_n 0, 1) := dk_42 (dk_at dksX2_beside_0 13 rfl rfl)
theorem dX2_beside_14 : decode cX2_beside 14 = .ok (.getfield 17, 3) := dk_180 0 17 (dk_at dksX2_beside_0 14 rfl rfl)
theorem dX2_beside_17 : decode cX2_beside 17 = .ok (.idiv, 1) := dk_108 (dk_at dksX2_beside_0 17 rfl rfl)
theorem dX2_beside_18 : decode cX2_beside 18 = .ok (.iload_n 2, 1) := dk_28 (dk_at dksX2_beside_0 18 rfl rfl)
theorem dX2_beside_19 : decode cX2_beside 19 = .ok (.invokestatic 48, 3) := dk_184 0 48 (dk_at dksX2_beside_0 19 rfl rfl)
theorem dX2_beside_22 : decode cX2_beside 22 = .ok (.iadd, 1) := dk_96 (dk_at dksX2_beside_0 22 rfl rfl)
theorem dX2_beside_23 : decode cX2_beside 23 = .ok (.istore 4, 2) := dk_54 4 (dk_at dksX2_beside_1 0 rfl rfl)
theorem dX2_beside_25 : decode cX2_beside 25 = .ok (.aload_n 0, 1) := dk_42 (dk_at dksX2_beside_1 2 rfl rfl)
theorem dX2_beside_26 : decode cX2_beside 26 = .ok (.iload_n 3, 1) := dk_29 (dk_at dksX2_beside_1 3 rfl rfl)
theorem dX2_beside_27 : decode cX2_beside 27 = .ok (.iload 4, 2) := dk_21 4 (dk_at dksX2_beside_1 4 rfl rfl)
theorem dX2_beside_29 : decode cX2_beside 29 = .ok (.invokevirtual 36, 3) := dk_182 0 36 (dk_at dksX2_beside_1 6 rfl rfl)
theorem dX2_beside_32 : decode cX2_beside 32 = .ok (.ifCond .eq 15, 3) := dk_153 0 15 (dk_at dksX2_beside_1 9 rfl rfl)
theorem dX2_beside_35 : decode cX2_beside 35 = .ok (.iload 4, 2) := dk_21 4 (dk_at dksX2_beside_1 12 rfl rfl)
theorem dX2_beside_37 : decode cX2_beside 37 = .ok (.aload_n 0, 1) := dk_42 (dk_at dksX2_beside_1 14 rfl rfl)
theorem dX2_beside_38 : decode cX2_beside 38 = .ok (.getfield 17, 3) := dk_180 0 17 (dk_at dksX2_beside_1 15 rfl rfl)
theorem dX2_beside_41 : decode cX2_beside 41 = .ok (.imul, 1) := dk_104 (dk_at dksX2_beside_1 18 rfl rfl)
theorem dX2_beside_42 : decode cX2_beside 42 = .ok (.iload_n 3, 1) := dk_29 (dk_at dksX2_beside_1 19 rfl rfl)
theorem dX2_beside_43 : decode cX2_beside 43 = .ok (.iadd, 1) := dk_96 (dk_at dksX2_beside_1 20 rfl rfl)
theorem dX2_beside_44 : decode cX2_beside 44 = .ok (.goto 4, 3) := dk_167 0 4 (dk_at dksX2_beside_1 21 rfl rfl)
theorem dX2_beside_47 : decode cX2_beside 47 = .ok (.iconst (-1), 1) := dk_2 (dk_at dksX2_beside_2 0 rfl rfl)
theorem dX2_beside_48 : decode cX2_beside 48 = .ok (.ireturn, 1) := dk_172 (dk_at dksX2_beside_2 1 rfl rfl)
abbrev cX2_holes : ByteArray := prog_3_method_16_code
def yX2_holes : MethodName := ⟨RX2, "holes", "()I"⟩
def dkwX2_holes_3 : List UInt8 := [61, 132, 3, 1, 167, 255, 192, 28, 172]
abbrev dktX2_holes_3 : List UInt8 := dkwX2_holes_3 ++ []
def dkwX2_holes_2 : List UInt8 := [58, 4, 43, 25, 4, 182, 0, 28, 28, 42, 25, 4, 182, 0, 128, 153, 0, 7, 3, 167, 0, 4, 4, 96]
abbrev dktX2_holes_2 : List UInt8 := dkwX2_holes_2 ++ dktX2_holes_3
def dkwX2_holes_1 : List UInt8 := [29, 182, 0, 40, 154, 0, 45, 43, 29, 182, 0, 40, 153, 0, 6, 167, 0, 34, 42, 29, 5, 182, 0, 121]
abbrev dktX2_holes_1 : List UInt8 := dkwX2_holes_1 ++ dktX2_holes_2
def dkwX2_holes_0 : List UInt8 := [187, 0, 3, 89, 183, 0, 5, 76, 3, 61, 3, 62, 29, 42, 182, 0, 125, 162, 0, 62, 42, 180, 0, 24]
abbrev dktX2_holes_0 : List UInt8 := dkwX2_holes_0 ++ dktX2_holes_1
theorem dksX2_holes_0 : cX2_holes.data.toList.drop 0 = dktX2_holes_0 := by decide +kernel
theorem dksX2_holes_1 : cX2_holes.data.toList.drop 24 = dktX2_holes_1 := dk_seg dksX2_holes_0 24 rfl rfl
theorem dksX2_holes_2 : cX2_holes.data.toList.drop 48 = dktX2_holes_2 := dk_seg dksX2_holes_1 24 rfl rfl
theorem dksX2_holes_3 : cX2_holes.data.toList.drop 72 = dktX2_holes_3 := dk_seg dksX2_holes_2 24 rfl rfl
theorem dX2_holes_0 : decode cX2_holes 0 = .ok (.new 3, 3) := dk_187 0 3 (dk_at dksX2_holes_0 0 rfl rfl)
theorem dX2_holes_3 : decode cX2_holes 3 = .ok (.dup, 1) := dk_89 (dk_at dksX2_holes_0 3 rfl rfl)
theorem dX2_holes_4 : decode cX2_holes 4 = .ok (.invokespecial 5, 3) := dk_183 0 5 (dk_at dksX2_holes_0 4 rfl rfl)
theorem dX2_holes_7 : decode cX2_holes 7 = .ok (.astore_n 1, 1) := dk_76 (dk_at dksX2_holes_0 7 rfl rfl)
theorem dX2_holes_8 : decode cX2_holes 8 = .ok (.iconst 0, 1) := dk_3 (dk_at dksX2_holes_0 8 rfl rfl)
theorem dX2_holes_9 : decode cX2_holes 9 = .ok (.istore_n 2, 1) := dk_61 (dk_at dksX2_holes_0 9 rfl rfl)
theorem dX2_holes_10 : decode cX2_holes 10 = .ok (.iconst 0, 1) := dk_3 (dk_at dksX2_holes_0 10 rfl rfl)
theorem dX2_holes_11 : decode cX2_holes 11 = .ok (.istore_n 3, 1) := dk_62 (dk_at dksX2_holes_0 11 rfl rfl)
theorem dX2_holes_12 : decode cX2_holes 12 = .ok (.iload_n 3, 1) := dk_29 (dk_at dksX2_holes_0 12 rfl rfl)
theorem dX2_holes_13 : decode cX2_holes 13 = .ok (.aload_n 0, 1) := dk_42 (dk_at dksX2_holes_0 13 rfl rfl)
theorem dX2_holes_14 : decode cX2_holes 14 = .ok (.invokevirtual 125, 3) := dk_182 0 125 (dk_at dksX2_holes_0 14 rfl rfl)
theorem dX2_holes_17 : decode cX2_holes 17 = .ok (.if_icmp .ge 62, 3) := dk_162 0 62 (dk_at dksX2_holes_0 17 rfl rfl)
theorem dX2_holes_20 : decode cX2_holes 20 = .ok (.aload_n 0, 1) := dk_42 (dk_at dksX2_holes_0 20 rfl rfl)
theorem dX2_holes_21 : decode cX2_holes 21 = .ok (.getfield 24, 3) := dk_180 0 24 (dk_at dksX2_holes_0 21 rfl rfl)
theorem dX2_holes_24 : decode cX2_holes 24 = .ok (.iload_n 3, 1) := dk_29 (dk_at dksX2_holes_1 0 rfl rfl)
theorem dX2_holes_25 : decode cX2_holes 25 = .ok (.invokevirtual 40, 3) := dk_182 0 40 (dk_at dksX2_holes_1 1 rfl rfl)
theorem dX2_holes_28 : decode cX2_holes 28 = .ok (.ifCond .ne 45, 3) := dk_154 0 45 (dk_at dksX2_holes_1 4 rfl rfl)
theorem dX2_holes_31 : decode cX2_holes 31 = .ok (.aload_n 1, 1) := dk_43 (dk_at dksX2_holes_1 7 rfl rfl)
theorem dX2_holes_32 : decode cX2_holes 32 = .ok (.iload_n 3, 1) := dk_29 (dk_at dksX2_holes_1 8 rfl rfl)
theorem dX2_holes_33 : decode cX2_holes 33 = .ok (.invokevirtual 40, 3) := dk_182 0 40 (dk_at dksX2_holes_1 9 rfl rfl)
theorem dX2_holes_36 : decode cX2_holes 36 = .ok (.ifCond .eq 6, 3) := dk_153 0 6 (dk_at dksX2_holes_1 12 rfl rfl)
theorem dX2_holes_39 : decode cX2_holes 39 = .ok (.goto 34, 3) := dk_167 0 34 (dk_at dksX2_holes_1 15 rfl rfl)
theorem dX2_holes_42 : decode cX2_holes 42 = .ok (.aload_n 0, 1) := dk_42 (dk_at dksX2_holes_1 18 rfl rfl)
theorem dX2_holes_43 : decode cX2_holes 43 = .ok (.iload_n 3, 1) := dk_29 (dk_at dksX2_holes_1 19 rfl rfl)
theorem dX2_holes_44 : decode cX2_holes 44 = .ok (.iconst 2, 1) := dk_5 (dk_at dksX2_holes_1 20 rfl rfl)
theorem dX2_holes_45 : decode cX2_holes 45 = .ok (.invokevirtual 121, 3) := dk_182 0 121 (dk_at dksX2_holes_1 21 rfl rfl)
theorem dX2_holes_48 : decode cX2_holes 48 = .ok (.astore 4, 2) := dk_58 4 (dk_at dksX2_holes_2 0 rfl rfl)
theorem dX2_holes_50 : decode cX2_holes 50 = .ok (.aload_n 1, 1) := dk_43 (dk_at dksX2_holes_2 2 rfl rfl)
theorem dX2_holes_51 : decode cX2_holes 51 = .ok (.aload 4, 2) := dk_25 4 (dk_at dksX2_holes_2 3 rfl rfl)
theorem dX2_holes_53 : decode cX2_holes 53 = .ok (.invokevirtual 28, 3) := dk_182 0 28 (dk_at dksX2_holes_2 5 rfl rfl)
theorem dX2_holes_56 : decode cX2_holes 56 = .ok (.iload_n 2, 1) := dk_28 (dk_at dksX2_holes_2 8 rfl rfl)
theorem dX2_holes_57 : decode cX2_holes 57 = .ok (.aload_n 0, 1) := dk_42 (dk_at dksX2_holes_2 9 rfl rfl)
theorem dX2_holes_58 : decode cX2_holes 58 = .ok (.aload 4, 2) := dk_25 4 (dk_at dksX2_holes_2 10 rfl rfl)
theorem dX2_holes_60 : decode cX2_holes 60 = .ok (.invokevirtual 128, 3) := dk_182 0 128 (dk_at dksX2_holes_2 12 rfl rfl)
theorem dX2_holes_63 : decode cX2_holes 63 = .ok (.ifCond .eq 7, 3) := dk_153 0 7 (dk_at dksX2_holes_2 15 rfl rfl)
theorem dX2_holes_66 : decode cX2_holes 66 = .ok (.iconst 0, 1) := dk_3 (dk_at dksX2_holes_2 18 rfl rfl)
theorem dX2_holes_67 : decode cX2_holes 67 = .ok (.goto 4, 3) := dk_167 0 4 (dk_at dksX2_holes_2 19 rfl rfl)
theorem dX2_holes_70 : decode cX2_holes 70 = .ok (.iconst 1, 1) := dk_4 (dk_at dksX2_holes_2 22 rfl rfl)
theorem dX2_holes_71 : decode cX2_holes 71 = .ok (.iadd, 1) := dk_96 (dk_at dksX2_holes_2 23 rfl rfl)
theorem dX2_holes_72 : decode cX2_holes 72 = .ok (.istore_n 2, 1) := dk_61 (dk_at dksX2_holes_3 0 rfl rfl)
theorem dX2_holes_73 : decode cX2_holes 73 = .ok (.iinc 3 1, 3) := dk_132 3 1 (dk_at dksX2_holes_3 1 rfl rfl)
theorem dX2_holes_76 : decode cX2_holes 76 = .ok (.goto (-64), 3) := dk_167 255 192 (dk_at dksX2_holes_3 4 rfl rfl)
theorem dX2_holes_79 : decode cX2_holes 79 = .ok (.iload_n 2, 1) := dk_28 (dk_at dksX2_holes_3 7 rfl rfl)
theorem dX2_holes_80 : decode cX2_holes 80 = .ok (.ireturn, 1) := dk_172 (dk_at dksX2_holes_3 8 rfl rfl)
abbrev cX2_touches : ByteArray := prog_3_method_15_code
def yX2_touches : MethodName := ⟨RX2, "touches", "(Ljava/util/BitSet;)Z"⟩
def dkwX2_touches_2 : List UInt8 := [132, 4, 2, 167, 255, 227, 43, 29, 4, 96, 182, 0, 118, 62, 167, 255, 205, 28, 172]
abbrev dktX2_touches_2 : List UInt8 := dkwX2_touches_2 ++ []
def dkwX2_touches_1 : List UInt8 := [162, 0, 28, 42, 29, 21, 4, 182, 0, 110, 2, 159, 0, 6, 167, 0, 8, 4, 61, 167, 0, 9]
abbrev dktX2_touches_1 : List UInt8 := dkwX2_touches_1 ++ dktX2_touches_2
def dkwX2_touches_0 : List UInt8 := [3, 61, 43, 3, 182, 0, 118, 62, 29, 155, 0, 53, 28, 154, 0, 49, 3, 54, 4, 21, 4, 16, 8]
abbrev dktX2_touches_0 : List UInt8 := dkwX2_touches_0 ++ dktX2_touches_1
theorem dksX2_touches_0 : cX2_touches.data.toList.drop 0 = dktX2_touches_0 := by decide +kernel
theorem dksX2_touches_1 : cX2_touches.data.toList.drop 23 = dktX2_touches_1 := dk_seg dksX2_touches_0 23 rfl rfl
theorem dksX2_touches_2 : cX2_touches.data.toList.drop 45 = dktX2_touches_2 := dk_seg dksX2_touches_1 22 rfl rfl
theorem dX2_touches_0 : decode cX2_touches 0 = .ok (.iconst 0, 1) := dk_3 (dk_at dksX2_touches_0 0 rfl rfl)
theorem dX2_touches_1 : decode cX2_touches 1 = .ok (.istore_n 2, 1) := dk_61 (dk_at dksX2_touches_0 1 rfl rfl)
theorem dX2_touches_2 : decode cX2_touches 2 = .ok (.aload_n 1, 1) := dk_43 (dk_at dksX2_touches_0 2 rfl rfl)
theorem dX2_touches_3 : decode cX2_touches 3 = .ok (.iconst 0, 1) := dk_3 (dk_at dksX2_touches_0 3 rfl rfl)
theorem dX2_touches_4 : decode cX2_touches 4 = .ok (.invokevirtual 118, 3) := dk_182 0 118 (dk_at dksX2_touches_0 4 rfl rfl)
theorem dX2_touches_7 : decode cX2_touches 7 = .ok (.istore_n 3, 1) := dk_62 (dk_at dksX2_touches_0 7 rfl rfl)
theorem dX2_touches_8 : decode cX2_touches 8 = .ok (.iload_n 3, 1) := dk_29 (dk_at dksX2_touches_0 8 rfl rfl)
theorem dX2_touches_9 : decode cX2_touches 9 = .ok (.ifCond .lt 53, 3) := dk_155 0 53 (dk_at dksX2_touches_0 9 rfl rfl)
theorem dX2_touches_12 : decode cX2_touches 12 = .ok (.iload_n 2, 1) := dk_28 (dk_at dksX2_touches_0 12 rfl rfl)
theorem dX2_touches_13 : decode cX2_touches 13 = .ok (.ifCond .ne 49, 3) := dk_154 0 49 (dk_at dksX2_touches_0 13 rfl rfl)
theorem dX2_touches_16 : decode cX2_touches 16 = .ok (.iconst 0, 1) := dk_3 (dk_at dksX2_touches_0 16 rfl rfl)
theorem dX2_touches_17 : decode cX2_touches 17 = .ok (.istore 4, 2) := dk_54 4 (dk_at dksX2_touches_0 17 rfl rfl)
theorem dX2_touches_19 : decode cX2_touches 19 = .ok (.iload 4, 2) := dk_21 4 (dk_at dksX2_touches_0 19 rfl rfl)
theorem dX2_touches_21 : decode cX2_touches 21 = .ok (.bipush 8, 2) := dk_16 8 (dk_at dksX2_touches_0 21 rfl rfl)
theorem dX2_touches_23 : decode cX2_touches 23 = .ok (.if_icmp .ge 28, 3) := dk_162 0 28 (dk_at dksX2_touches_1 0 rfl rfl)
theorem dX2_touches_26 : decode cX2_touches 26 = .ok (.aload_n 0, 1) := dk_42 (dk_at dksX2_touches_1 3 rfl rfl)
theorem dX2_touches_27 : decode cX2_touches 27 = .ok (.iload_n 3, 1) := dk_29 (dk_at dksX2_touches_1 4 rfl rfl)
theorem dX2_touches_28 : decode cX2_touches 28 = .ok (.iload 4, 2) := dk_21 4 (dk_at dksX2_touches_1 5 rfl rfl)
theorem dX2_touches_30 : decode cX2_touches 30 = .ok (.invokevirtual 110, 3) := dk_182 0 110 (dk_at dksX2_touches_1 7 rfl rfl)
theorem dX2_touches_33 : decode cX2_touches 33 = .ok (.iconst (-1), 1) := dk_2 (dk_at dksX2_touches_1 10 rfl rfl)
theorem dX2_touches_34 : decode cX2_touches 34 = .ok (.if_icmp .eq 6, 3) := dk_159 0 6 (dk_at dksX2_touches_1 11 rfl rfl)
theorem dX2_touches_37 : decode cX2_touches 37 = .ok (.goto 8, 3) := dk_167 0 8 (dk_at dksX2_touches_1 14 rfl rfl)
theorem dX2_touches_40 : decode cX2_touches 40 = .ok (.iconst 1, 1) := dk_4 (dk_at dksX2_touches_1 17 rfl rfl)
theorem dX2_touches_41 : decode cX2_touches 41 = .ok (.istore_n 2, 1) := dk_61 (dk_at dksX2_touches_1 18 rfl rfl)
theorem dX2_touches_42 : decode cX2_touches 42 = .ok (.goto 9, 3) := dk_167 0 9 (dk_at dksX2_touches_1 19 rfl rfl)
theorem dX2_touches_45 : decode cX2_touches 45 = .ok (.iinc 4 2, 3) := dk_132 4 2 (dk_at dksX2_touches_2 0 rfl rfl)
theorem dX2_touches_48 : decode cX2_touches 48 = .ok (.goto (-29), 3) := dk_167 255 227 (dk_at dksX2_touches_2 3 rfl rfl)
theorem dX2_touches_51 : decode cX2_touches 51 = .ok (.aload_n 1, 1) := dk_43 (dk_at dksX2_touches_2 6 rfl rfl)
theorem dX2_touches_52 : decode cX2_touches 52 = .ok (.iload_n 3, 1) := dk_29 (dk_at dksX2_touches_2 7 rfl rfl)
theorem dX2_touches_53 : decode cX2_touches 53 = .ok (.iconst 1, 1) := dk_4 (dk_at dksX2_touches_2 8 rfl rfl)
theorem dX2_touches_54 : decode cX2_touches 54 = .ok (.iadd, 1) := dk_96 (dk_at dksX2_touches_2 9 rfl rfl)
theorem dX2_touches_55 : decode cX2_touches 55 = .ok (.invokevirtual 118, 3) := dk_182 0 118 (dk_at dksX2_touches_2 10 rfl rfl)
theorem dX2_touches_58 : decode cX2_touches 58 = .ok (.istore_n 3, 1) := dk_62 (dk_at dksX2_touches_2 13 rfl rfl)
theorem dX2_touches_59 : decode cX2_touches 59 = .ok (.goto (-51), 3) := dk_167 255 205 (dk_at dksX2_touches_2 14 rfl rfl)
theorem dX2_touches_62 : decode cX2_touches 62 = .ok (.iload_n 2, 1) := dk_28 (dk_at dksX2_touches_2 17 rfl rfl)
theorem dX2_touches_63 : decode cX2_touches 63 = .ok (.ireturn, 1) := dk_172 (dk_at dksX2_touches_2 18 rfl rfl)
abbrev cX2_edges : ByteArray := prog_3_method_17_code
def yX2_edges : MethodName := ⟨RX2, "edges", "()I"⟩
def dkwX2_edges_2 : List UInt8 := [180, 0, 24, 28, 4, 96, 182, 0, 118, 61, 167, 255, 210, 27, 172]
abbrev dktX2_edges_2 : List UInt8 := dkwX2_edges_2 ++ []
def dkwX2_edges_1 : List UInt8 := [42, 28, 29, 182, 0, 132, 153, 0, 7, 3, 167, 0, 4, 4, 96, 60, 132, 3, 2, 167, 255, 230, 42]
abbrev dktX2_edges_1 : List UInt8 := dkwX2_edges_1 ++ dktX2_edges_2
def dkwX2_edges_0 : List UInt8 := [3, 60, 42, 180, 0, 24, 3, 182, 0, 118, 61, 28, 155, 0, 48, 3, 62, 29, 16, 8, 162, 0, 26, 27]
abbrev dktX2_edges_0 : List UInt8 := dkwX2_edges_0 ++ dktX2_edges_1
theorem dksX2_edges_0 : cX2_edges.data.toList.drop 0 = dktX2_edges_0 := by decide +kernel
theorem dksX2_edges_1 : cX2_edges.data.toList.drop 24 = dktX2_edges_1 := dk_seg dksX2_edges_0 24 rfl rfl
theorem dksX2_edges_2 : cX2_edges.data.toList.drop 47 = dktX2_edges_2 := dk_seg dksX2_edges_1 23 rfl rfl
theorem dX2_edges_0 : decode cX2_edges 0 = .ok (.iconst 0, 1) := dk_3 (dk_at dksX2_edges_0 0 rfl rfl)
theorem dX2_edges_1 : decode cX2_edges 1 = .ok (.istore_n 1, 1) := dk_60 (dk_at dksX2_edges_0 1 rfl rfl)
theorem dX2_edges_2 : decode cX2_edges 2 = .ok (.aload_n 0, 1) := dk_42 (dk_at dksX2_edges_0 2 rfl rfl)
theorem dX2_edges_3 : decode cX2_edges 3 = .ok (.getfield 24, 3) := dk_180 0 24 (dk_at dksX2_edges_0 3 rfl rfl)
theorem dX2_edges_6 : decode cX2_edges 6 = .ok (.iconst 0, 1) := dk_3 (dk_at dksX2_edges_0 6 rfl rfl)
theorem dX2_edges_7 : decode cX2_edges 7 = .ok (.invokevirtual 118, 3) := dk_182 0 118 (dk_at dksX2_edges_0 7 rfl rfl)
theorem dX2_edges_10 : decode cX2_edges 10 = .ok (.istore_n 2, 1) := dk_61 (dk_at dksX2_edges_0 10 rfl rfl)
theorem dX2_edges_11 : decode cX2_edges 11 = .ok (.iload_n 2, 1) := dk_28 (dk_at dksX2_edges_0 11 rfl rfl)
theorem dX2_edges_12 : decode cX2_edges 12 = .ok (.ifCond .lt 48, 3) := dk_155 0 48 (dk_at dksX2_edges_0 12 rfl rfl)
theorem dX2_edges_15 : decode cX2_edges 15 = .ok (.iconst 0, 1) := dk_3 (dk_at dksX2_edges_0 15 rfl rfl)
theorem dX2_edges_16 : decode cX2_edges 16 = .ok (.istore_n 3, 1) := dk_62 (dk_at dksX2_edges_0 16 rfl rfl)
theorem dX2_edges_17 : decode cX2_edges 17 = .ok (.iload_n 3, 1) := dk_29 (dk_at dksX2_edges_0 17 rfl rfl)
theorem dX2_edges_18 : decode cX2_edges 18 = .ok (.bipush 8, 2) := dk_16 8 (dk_at dksX2_edges_0 18 rfl rfl)
theorem dX2_edges_20 : decode cX2_edges 20 = .ok (.if_icmp .ge 26, 3) := dk_162 0 26 (dk_at dksX2_edges_0 20 rfl rfl)
theorem dX2_edges_23 : decode cX2_edges 23 = .ok (.iload_n 1, 1) := dk_27 (dk_at dksX2_edges_0 23 rfl rfl)
theorem dX2_edges_24 : decode cX2_edges 24 = .ok (.aload_n 0, 1) := dk_42 (dk_at dksX2_edges_1 0 rfl rfl)
theorem dX2_edges_25 : decode cX2_edges 25 = .ok (.iload_n 2, 1) := dk_28 (dk_at dksX2_edges_1 1 rfl rfl)
theorem dX2_edges_26 : decode cX2_edges 26 = .ok (.iload_n 3, 1) := dk_29 (dk_at dksX2_edges_1 2 rfl rfl)
theorem dX2_edges_27 : decode cX2_edges 27 = .ok (.invokevirtual 132, 3) := dk_182 0 132 (dk_at dksX2_edges_1 3 rfl rfl)
theorem dX2_edges_30 : decode cX2_edges 30 = .ok (.ifCond .eq 7, 3) := dk_153 0 7 (dk_at dksX2_edges_1 6 rfl rfl)
theorem dX2_edges_33 : decode cX2_edges 33 = .ok (.iconst 0, 1) := dk_3 (dk_at dksX2_edges_1 9 rfl rfl)
theorem dX2_edges_34 : decode cX2_edges 34 = .ok (.goto 4, 3) := dk_167 0 4 (dk_at dksX2_edges_1 10 rfl rfl)
theorem dX2_edges_37 : decode cX2_edges 37 = .ok (.iconst 1, 1) := dk_4 (dk_at dksX2_edges_1 13 rfl rfl)
theorem dX2_edges_38 : decode cX2_edges 38 = .ok (.iadd, 1) := dk_96 (dk_at dksX2_edges_1 14 rfl rfl)
theorem dX2_edges_39 : decode cX2_edges 39 = .ok (.istore_n 1, 1) := dk_60 (dk_at dksX2_edges_1 15 rfl rfl)
theorem dX2_edges_40 : decode cX2_edges 40 = .ok (.iinc 3 2, 3) := dk_132 3 2 (dk_at dksX2_edges_1 16 rfl rfl)
theorem dX2_edges_43 : decode cX2_edges 43 = .ok (.goto (-26), 3) := dk_167 255 230 (dk_at dksX2_edges_1 19 rfl rfl)
theorem dX2_edges_46 : decode cX2_edges 46 = .ok (.aload_n 0, 1) := dk_42 (dk_at dksX2_edges_1 22 rfl rfl)
theorem dX2_edges_47 : decode cX2_edges 47 = .ok (.getfield 24, 3) := dk_180 0 24 (dk_at dksX2_edges_2 0 rfl rfl)
theorem dX2_edges_50 : decode cX2_edges 50 = .ok (.iload_n 2, 1) := dk_28 (dk_at dksX2_edges_2 3 rfl rfl)
theorem dX2_edges_51 : decode cX2_edges 51 = .ok (.iconst 1, 1) := dk_4 (dk_at dksX2_edges_2 4 rfl rfl)
theorem dX2_edges_52 : decode cX2_edges 52 = .ok (.iadd, 1) := dk_96 (dk_at dksX2_edges_2 5 rfl rfl)
theorem dX2_edges_53 : decode cX2_edges 53 = .ok (.invokevirtual 118, 3) := dk_182 0 118 (dk_at dksX2_edges_2 6 rfl rfl)
theorem dX2_edges_56 : decode cX2_edges 56 = .ok (.istore_n 2, 1) := dk_61 (dk_at dksX2_edges_2 9 rfl rfl)
theorem dX2_edges_57 : decode cX2_edges 57 = .ok (.goto (-46), 3) := dk_167 255 210 (dk_at dksX2_edges_2 10 rfl rfl)
theorem dX2_edges_60 : decode cX2_edges 60 = .ok (.iload_n 1, 1) := dk_27 (dk_at dksX2_edges_2 13 rfl rfl)
theorem dX2_edges_61 : decode cX2_edges 61 = .ok (.ireturn, 1) := dk_172 (dk_at dksX2_edges_2 14 rfl rfl)
abbrev cX2_seen : ByteArray := prog_3_method_21_code
def yX2_seen : MethodName := ⟨RX2, "seen", "(IIZ)I"⟩
def dkwX2_seen_4 : List UInt8 := [132, 5, 1, 167, 255, 168, 21, 4, 172]
abbrev dktX2_seen_4 : List UInt8 := dkwX2_seen_4 ++ []
def dkwX2_seen_3 : List UInt8 := [184, 0, 159, 167, 0, 8, 21, 7, 21, 8, 96, 184, 0, 155, 54, 4, 132, 6, 1, 167, 255, 186]
abbrev dktX2_seen_3 : List UInt8 := dkwX2_seen_3 ++ dktX2_seen_4
def dkwX2_seen_2 : List UInt8 := [184, 0, 54, 54, 7, 28, 21, 5, 100, 184, 0, 54, 54, 8, 21, 4, 29, 153, 0, 13, 21, 7, 21, 8]
abbrev dktX2_seen_2 : List UInt8 := dkwX2_seen_2 ++ dktX2_seen_3
def dkwX2_seen_1 : List UInt8 := [180, 0, 17, 163, 0, 67, 42, 21, 6, 21, 5, 182, 0, 51, 153, 0, 6, 167, 0, 47, 27, 21, 6, 100]
abbrev dktX2_seen_1 : List UInt8 := dkwX2_seen_1 ++ dktX2_seen_2
def dkwX2_seen_0 : List UInt8 := [18, 158, 54, 4, 2, 54, 5, 21, 5, 42, 180, 0, 21, 163, 0, 85, 2, 54, 6, 21, 6, 42]
abbrev dktX2_seen_0 : List UInt8 := dkwX2_seen_0 ++ dktX2_seen_1
theorem dksX2_seen_0 : cX2_seen.data.toList.drop 0 = dktX2_seen_0 := by decide +kernel
theorem dksX2_seen_1 : cX2_seen.data.toList.drop 22 = dktX2_seen_1 := dk_seg dksX2_seen_0 22 rfl rfl
theorem dksX2_seen_2 : cX2_seen.data.toList.drop 46 = dktX2_seen_2 := dk_seg dksX2_seen_1 24 rfl rfl
theorem dksX2_seen_3 : cX2_seen.data.toList.drop 70 = dktX2_seen_3 := dk_seg dksX2_seen_2 24 rfl rfl
theorem dksX2_seen_4 : cX2_seen.data.toList.drop 92 = dktX2_seen_4 := dk_seg dksX2_seen_3 22 rfl rfl
theorem dX2_seen_0 : decode cX2_seen 0 = .ok (.ldc 158, 2) := dk_18 158 (dk_at dksX2_seen_0 0 rfl rfl)
theorem dX2_seen_2 : decode cX2_seen 2 = .ok (.istore 4, 2) := dk_54 4 (dk_at dksX2_seen_0 2 rfl rfl)
theorem dX2_seen_4 : decode cX2_seen 4 = .ok (.iconst (-1), 1) := dk_2 (dk_at dksX2_seen_0 4 rfl rfl)
theorem dX2_seen_5 : decode cX2_seen 5 = .ok (.istore 5, 2) := dk_54 5 (dk_at dksX2_seen_0 5 rfl rfl)
theorem dX2_seen_7 : decode cX2_seen 7 = .ok (.iload 5, 2) := dk_21 5 (dk_at dksX2_seen_0 7 rfl rfl)
theorem dX2_seen_9 : decode cX2_seen 9 = .ok (.aload_n 0, 1) := dk_42 (dk_at dksX2_seen_0 9 rfl rfl)
theorem dX2_seen_10 : decode cX2_seen 10 = .ok (.getfield 21, 3) := dk_180 0 21 (dk_at dksX2_seen_0 10 rfl rfl)
theorem dX2_seen_13 : decode cX2_seen 13 = .ok (.if_icmp .gt 85, 3) := dk_163 0 85 (dk_at dksX2_seen_0 13 rfl rfl)
theorem dX2_seen_16 : decode cX2_seen 16 = .ok (.iconst (-1), 1) := dk_2 (dk_at dksX2_seen_0 16 rfl rfl)
theorem dX2_seen_17 : decode cX2_seen 17 = .ok (.istore 6, 2) := dk_54 6 (dk_at dksX2_seen_0 17 rfl rfl)
theorem dX2_seen_19 : decode cX2_seen 19 = .ok (.iload 6, 2) := dk_21 6 (dk_at dksX2_seen_0 19 rfl rfl)
theorem dX2_seen_21 : decode cX2_seen 21 = .ok (.aload_n 0, 1) := dk_42 (dk_at dksX2_seen_0 21 rfl rfl)
theorem dX2_seen_22 : decode cX2_seen 22 = .ok (.getfield 17, 3) := dk_180 0 17 (dk_at dksX2_seen_1 0 rfl rfl)
theorem dX2_seen_25 : decode cX2_seen 25 = .ok (.if_icmp .gt 67, 3) := dk_163 0 67 (dk_at dksX2_seen_1 3 rfl rfl)
theorem dX2_seen_28 : decode cX2_seen 28 = .ok (.aload_n 0, 1) := dk_42 (dk_at dksX2_seen_1 6 rfl rfl)
theorem dX2_seen_29 : decode cX2_seen 29 = .ok (.iload 6, 2) := dk_21 6 (dk_at dksX2_seen_1 7 rfl rfl)
theorem dX2_seen_31 : decode cX2_seen 31 = .ok (.iload 5, 2) := dk_21 5 (dk_at dksX2_seen_1 9 rfl rfl)
theorem dX2_seen_33 : decode cX2_seen 33 = .ok (.invokevirtual 51, 3) := dk_182 0 51 (dk_at dksX2_seen_1 11 rfl rfl)
theorem dX2_seen_36 : decode cX2_seen 36 = .ok (.ifCond .eq 6, 3) := dk_153 0 6 (dk_at dksX2_seen_1 14 rfl rfl)
theorem dX2_seen_39 : decode cX2_seen 39 = .ok (.goto 47, 3) := dk_167 0 47 (dk_at dksX2_seen_1 17 rfl rfl)
theorem dX2_seen_42 : decode cX2_seen 42 = .ok (.iload_n 1, 1) := dk_27 (dk_at dksX2_seen_1 20 rfl rfl)
theorem dX2_seen_43 : decode cX2_seen 43 = .ok (.iload 6, 2) := dk_21 6 (dk_at dksX2_seen_1 21 rfl rfl)
theorem dX2_seen_45 : decode cX2_seen 45 = .ok (.isub, 1) := dk_100 (dk_at dksX2_seen_1 23 rfl rfl)
theorem dX2_seen_46 : decode cX2_seen 46 = .ok (.invokestatic 54, 3) := dk_184 0 54 (dk_at dksX2_seen_2 0 rfl rfl)
theorem dX2_seen_49 : decode cX2_seen 49 = .ok (.istore 7, 2) := dk_54 7 (dk_at dksX2_seen_2 3 rfl rfl)
theorem dX2_seen_51 : decode cX2_seen 51 = .ok (.iload_n 2, 1) := dk_28 (dk_at dksX2_seen_2 5 rfl rfl)
theorem dX2_seen_52 : decode cX2_seen 52 = .ok (.iload 5, 2) := dk_21 5 (dk_at dksX2_seen_2 6 rfl rfl)
theorem dX2_seen_54 : decode cX2_seen 54 = .ok (.isub, 1) := dk_100 (dk_at dksX2_seen_2 8 rfl rfl)
theorem dX2_seen_55 : decode cX2_seen 55 = .ok (.invokestatic 54, 3) := dk_184 0 54 (dk_at dksX2_seen_2 9 rfl rfl)
theorem dX2_seen_58 : decode cX2_seen 58 = .ok (.istore 8, 2) := dk_54 8 (dk_at dksX2_seen_2 12 rfl rfl)
theorem dX2_seen_60 : decode cX2_seen 60 = .ok (.iload 4, 2) := dk_21 4 (dk_at dksX2_seen_2 14 rfl rfl)
theorem dX2_seen_62 : decode cX2_seen 62 = .ok (.iload_n 3, 1) := dk_29 (dk_at dksX2_seen_2 16 rfl rfl)
theorem dX2_seen_63 : decode cX2_seen 63 = .ok (.ifCond .eq 13, 3) := dk_153 0 13 (dk_at dksX2_seen_2 17 rfl rfl)
theorem dX2_seen_66 : decode cX2_seen 66 = .ok (.iload 7, 2) := dk_21 7 (dk_at dksX2_seen_2 20 rfl rfl)
theorem dX2_seen_68 : decode cX2_seen 68 = .ok (.iload 8, 2) := dk_21 8 (dk_at dksX2_seen_2 22 rfl rfl)
theorem dX2_seen_70 : decode cX2_seen 70 = .ok (.invokestatic 159, 3) := dk_184 0 159 (dk_at dksX2_seen_3 0 rfl rfl)
theorem dX2_seen_73 : decode cX2_seen 73 = .ok (.goto 8, 3) := dk_167 0 8 (dk_at dksX2_seen_3 3 rfl rfl)
theorem dX2_seen_76 : decode cX2_seen 76 = .ok (.iload 7, 2) := dk_21 7 (dk_at dksX2_seen_3 6 rfl rfl)
theorem dX2_seen_78 : decode cX2_seen 78 = .ok (.iload 8, 2) := dk_21 8 (dk_at dksX2_seen_3 8 rfl rfl)
theorem dX2_seen_80 : decode cX2_seen 80 = .ok (.iadd, 1) := dk_96 (dk_at dksX2_seen_3 10 rfl rfl)
theorem dX2_seen_81 : decode cX2_seen 81 = .ok (.invokestatic 155, 3) := dk_184 0 155 (dk_at dksX2_seen_3 11 rfl rfl)
theorem dX2_seen_84 : decode cX2_seen 84 = .ok (.istore 4, 2) := dk_54 4 (dk_at dksX2_seen_3 14 rfl rfl)
theorem dX2_seen_86 : decode cX2_seen 86 = .ok (.iinc 6 1, 3) := dk_132 6 1 (dk_at dksX2_seen_3 16 rfl rfl)
theorem dX2_seen_89 : decode cX2_seen 89 = .ok (.goto (-70), 3) := dk_167 255 186 (dk_at dksX2_seen_3 19 rfl rfl)
theorem dX2_seen_92 : decode cX2_seen 92 = .ok (.iinc 5 1, 3) := dk_132 5 1 (dk_at dksX2_seen_4 0 rfl rfl)
theorem dX2_seen_95 : decode cX2_seen 95 = .ok (.goto (-88), 3) := dk_167 255 168 (dk_at dksX2_seen_4 3 rfl rfl)
theorem dX2_seen_98 : decode cX2_seen 98 = .ok (.iload 4, 2) := dk_21 4 (dk_at dksX2_seen_4 6 rfl rfl)
theorem dX2_seen_100 : decode cX2_seen 100 = .ok (.ireturn, 1) := dk_172 (dk_at dksX2_seen_4 8 rfl rfl)
abbrev cX2_pen : ByteArray := prog_3_method_11_code
def yX2_pen : MethodName := ⟨RX2, "pen", "(Z)LTufaSteps$Pen;"⟩
def dkwX2_pen_0 : List UInt8 := [42, 27, 186, 0, 70, 0, 0, 176]
abbrev dktX2_pen_0 : List UInt8 := dkwX2_pen_0 ++ []
theorem dksX2_pen_0 : cX2_pen.data.toList.drop 0 = dktX2_pen_0 := by decide +kernel
theorem dX2_pen_0 : decode cX2_pen 0 = .ok (.aload_n 0, 1) := dk_42 (dk_at dksX2_pen_0 0 rfl rfl)
theorem dX2_pen_1 : decode cX2_pen 1 = .ok (.iload_n 1, 1) := dk_27 (dk_at dksX2_pen_0 1 rfl rfl)
theorem dX2_pen_2 : decode cX2_pen 2 = .ok (.invokedynamic 70, 5) := by decide +kernel
theorem dX2_pen_7 : decode cX2_pen 7 = .ok (.areturn, 1) := dk_176 (dk_at dksX2_pen_0 7 rfl rfl)
abbrev cX2_lambda_pen_0 : ByteArray := prog_3_method_26_code
def yX2_lambda_pen_0 : MethodName := ⟨RX2, "lambda$pen$0", "(ZII)V"⟩
def dkwX2_lambda_pen_0_1 : List UInt8 := [182, 0, 169, 177]
abbrev dktX2_lambda_pen_0_1 : List UInt8 := dkwX2_lambda_pen_0_1 ++ []
def dkwX2_lambda_pen_0_0 : List UInt8 := [42, 28, 29, 182, 0, 36, 153, 0, 19, 42, 180, 0, 24, 29, 42, 180, 0, 17, 104, 28, 96, 27]
abbrev dktX2_lambda_pen_0_0 : List UInt8 := dkwX2_lambda_pen_0_0 ++ dktX2_lambda_pen_0_1
theorem dksX2_lambda_pen_0_0 : cX2_lambda_pen_0.data.toList.drop 0 = dktX2_lambda_pen_0_0 := by decide +kernel
theorem dksX2_lambda_pen_0_1 : cX2_lambda_pen_0.data.toList.drop 22 = dktX2_lambda_pen_0_1 := dk_seg dksX2_lambda_pen_0_0 22 rfl rfl
theorem dX2_lambda_pen_0_0 : decode cX2_lambda_pen_0 0 = .ok (.aload_n 0, 1) := dk_42 (dk_at dksX2_lambda_pen_0_0 0 rfl rfl)
theorem dX2_lambda_pen_0_1 : decode cX2_lambda_pen_0 1 = .ok (.iload_n 2, 1) := dk_28 (dk_at dksX2_lambda_pen_0_0 1 rfl rfl)
theorem dX2_lambda_pen_0_2 : decode cX2_lambda_pen_0 2 = .ok (.iload_n 3, 1) := dk_29 (dk_at dksX2_lambda_pen_0_0 2 rfl rfl)
theorem dX2_lambda_pen_0_3 : decode cX2_lambda_pen_0 3 = .ok (.invokevirtual 36, 3) := dk_182 0 36 (dk_at dksX2_lambda_pen_0_0 3 rfl rfl)
theorem dX2_lambda_pen_0_6 : decode cX2_lambda_pen_0 6 = .ok (.ifCond .eq 19, 3) := dk_153 0 19 (dk_at dksX2_lambda_pen_0_0 6 rfl rfl)
theorem dX2_lambda_pen_0_9 : decode cX2_lambda_pen_0 9 = .ok (.aload_n 0, 1) := dk_42 (dk_at dksX2_lambda_pen_0_0 9 rfl rfl)
theorem dX2_lambda_pen_0_10 : decode cX2_lambda_pen_0 10 = .ok (.getfield 24, 3) := dk_180 0 24 (dk_at dksX2_lambda_pen_0_0 10 rfl rfl)
theorem dX2_lambda_pen_0_13 : decode cX2_lambda_pen_0 13 = .ok (.iload_n 3, 1) := dk_29 (dk_at dksX2_lambda_pen_0_0 13 rfl rfl)
theorem dX2_lambda_pen_0_14 : decode cX2_lambda_pen_0 14 = .ok (.aload_n 0, 1) := dk_42 (dk_at dksX2_lambda_pen_0_0 14 rfl rfl)
theorem dX2_lambda_pen_0_15 : decode cX2_lambda_pen_0 15 = .ok (.getfield 17, 3) := dk_180 0 17 (dk_at dksX2_lambda_pen_0_0 15 rfl rfl)
theorem dX2_lambda_pen_0_18 : decode cX2_lambda_pen_0 18 = .ok (.imul, 1) := dk_104 (dk_at dksX2_lambda_pen_0_0 18 rfl rfl)
theorem dX2_lambda_pen_0_19 : decode cX2_lambda_pen_0 19 = .ok (.iload_n 2, 1) := dk_28 (dk_at dksX2_lambda_pen_0_0 19 rfl rfl)
theorem dX2_lambda_pen_0_20 : decode cX2_lambda_pen_0 20 = .ok (.iadd, 1) := dk_96 (dk_at dksX2_lambda_pen_0_0 20 rfl rfl)
theorem dX2_lambda_pen_0_21 : decode cX2_lambda_pen_0 21 = .ok (.iload_n 1, 1) := dk_27 (dk_at dksX2_lambda_pen_0_0 21 rfl rfl)
theorem dX2_lambda_pen_0_22 : decode cX2_lambda_pen_0 22 = .ok (.invokevirtual 169, 3) := dk_182 0 169 (dk_at dksX2_lambda_pen_0_1 0 rfl rfl)
theorem dX2_lambda_pen_0_25 : decode cX2_lambda_pen_0 25 = .ok (.return_, 1) := dk_177 (dk_at dksX2_lambda_pen_0_1 3 rfl rfl)
abbrev cX2_drawLine : ByteArray := prog_3_method_9_code
def yX2_drawLine : MethodName := ⟨RX2, "drawLine", "(IIIILTufaSteps$Pen;)V"⟩
def dkwX2_drawLine_4 : List UInt8 := [21, 8, 21, 6, 96, 54, 8, 21, 10, 21, 4, 21, 10, 100, 184, 0, 65, 96, 54, 10, 167, 255, 171]
abbrev dktX2_drawLine_4 : List UInt8 := dkwX2_drawLine_4 ++ []
def dkwX2_drawLine_3 : List UInt8 := [21, 7, 100, 54, 8, 21, 9, 29, 21, 9, 100, 184, 0, 65, 96, 54, 9, 21, 11, 21, 6, 162, 0, 23]
abbrev dktX2_drawLine_3 : List UInt8 := dkwX2_drawLine_3 ++ dktX2_drawLine_4
def dkwX2_drawLine_2 : List UInt8 := [21, 10, 21, 4, 160, 0, 4, 177, 5, 21, 8, 104, 54, 11, 21, 11, 21, 7, 116, 164, 0, 22, 21, 8]
abbrev dktX2_drawLine_2 : List UInt8 := dkwX2_drawLine_2 ++ dktX2_drawLine_3
def dkwX2_drawLine_1 : List UInt8 := [27, 54, 9, 28, 54, 10, 25, 5, 21, 9, 21, 10, 185, 0, 59, 3, 0, 21, 9, 29, 160, 0, 11]
abbrev dktX2_drawLine_1 : List UInt8 := dkwX2_drawLine_1 ++ dktX2_drawLine_2
def dkwX2_drawLine_0 : List UInt8 := [27, 29, 100, 184, 0, 54, 54, 6, 28, 21, 4, 100, 184, 0, 54, 54, 7, 21, 6, 21, 7, 100, 54, 8]
abbrev dktX2_drawLine_0 : List UInt8 := dkwX2_drawLine_0 ++ dktX2_drawLine_1
theorem dksX2_drawLine_0 : cX2_drawLine.data.toList.drop 0 = dktX2_drawLine_0 := by decide +kernel
theorem dksX2_drawLine_1 : cX2_drawLine.data.toList.drop 24 = dktX2_drawLine_1 := dk_seg dksX2_drawLine_0 24 rfl rfl
theorem dksX2_drawLine_2 : cX2_drawLine.data.toList.drop 47 = dktX2_drawLine_2 := dk_seg dksX2_drawLine_1 23 rfl rfl
theorem dksX2_drawLine_3 : cX2_drawLine.data.toList.drop 71 = dktX2_drawLine_3 := dk_seg dksX2_drawLine_2 24 rfl rfl
theorem dksX2_drawLine_4 : cX2_drawLine.data.toList.drop 95 = dktX2_drawLine_4 := dk_seg dksX2_drawLine_3 24 rfl rfl
theorem dX2_drawLine_0 : decode cX2_drawLine 0 = .ok (.iload_n 1, 1) := dk_27 (dk_at dksX2_drawLine_0 0 rfl rfl)
theorem dX2_drawLine_1 : decode cX2_drawLine 1 = .ok (.iload_n 3, 1) := dk_29 (dk_at dksX2_drawLine_0 1 rfl rfl)
theorem dX2_drawLine_2 : decode cX2_drawLine 2 = .ok (.isub, 1) := dk_100 (dk_at dksX2_drawLine_0 2 rfl rfl)
theorem dX2_drawLine_3 : decode cX2_drawLine 3 = .ok (.invokestatic 54, 3) := dk_184 0 54 (dk_at dksX2_drawLine_0 3 rfl rfl)
theorem dX2_drawLine_6 : decode cX2_drawLine 6 = .ok (.istore 6, 2) := dk_54 6 (dk_at dksX2_drawLine_0 6 rfl rfl)
theorem dX2_drawLine_8 : decode cX2_drawLine 8 = .ok (.iload_n 2, 1) := dk_28 (dk_at dksX2_drawLine_0 8 rfl rfl)
theorem dX2_drawLine_9 : decode cX2_drawLine 9 = .ok (.iload 4, 2) := dk_21 4 (dk_at dksX2_drawLine_0 9 rfl rfl)
theorem dX2_drawLine_11 : decode cX2_drawLine 11 = .ok (.isub, 1) := dk_100 (dk_at dksX2_drawLine_0 11 rfl rfl)
theorem dX2_drawLine_12 : decode cX2_drawLine 12 = .ok (.invokestatic 54, 3) := dk_184 0 54 (dk_at dksX2_drawLine_0 12 rfl rfl)
theorem dX2_drawLine_15 : decode cX2_drawLine 15 = .ok (.istore 7, 2) := dk_54 7 (dk_at dksX2_drawLine_0 15 rfl rfl)
theorem dX2_drawLine_17 : decode cX2_drawLine 17 = .ok (.iload 6, 2) := dk_21 6 (dk_at dksX2_drawLine_0 17 rfl rfl)
theorem dX2_drawLine_19 : decode cX2_drawLine 19 = .ok (.iload 7, 2) := dk_21 7 (dk_at dksX2_drawLine_0 19 rfl rfl)
theorem dX2_drawLine_21 : decode cX2_drawLine 21 = .ok (.isub, 1) := dk_100 (dk_at dksX2_drawLine_0 21 rfl rfl)
theorem dX2_drawLine_22 : decode cX2_drawLine 22 = .ok (.istore 8, 2) := dk_54 8 (dk_at dksX2_drawLine_0 22 rfl rfl)
theorem dX2_drawLine_24 : decode cX2_drawLine 24 = .ok (.iload_n 1, 1) := dk_27 (dk_at dksX2_drawLine_1 0 rfl rfl)
theorem dX2_drawLine_25 : decode cX2_drawLine 25 = .ok (.istore 9, 2) := dk_54 9 (dk_at dksX2_drawLine_1 1 rfl rfl)
theorem dX2_drawLine_27 : decode cX2_drawLine 27 = .ok (.iload_n 2, 1) := dk_28 (dk_at dksX2_drawLine_1 3 rfl rfl)
theorem dX2_drawLine_28 : decode cX2_drawLine 28 = .ok (.istore 10, 2) := dk_54 10 (dk_at dksX2_drawLine_1 4 rfl rfl)
theorem dX2_drawLine_30 : decode cX2_drawLine 30 = .ok (.aload 5, 2) := dk_25 5 (dk_at dksX2_drawLine_1 6 rfl rfl)
theorem dX2_drawLine_32 : decode cX2_drawLine 32 = .ok (.iload 9, 2) := dk_21 9 (dk_at dksX2_drawLine_1 8 rfl rfl)
theorem dX2_drawLine_34 : decode cX2_drawLine 34 = .ok (.iload 10, 2) := dk_21 10 (dk_at dksX2_drawLine_1 10 rfl rfl)
theorem dX2_drawLine_36 : decode cX2_drawLine 36 = .ok (.invokeinterface 59 3, 5) := by decide +kernel
theorem dX2_drawLine_41 : decode cX2_drawLine 41 = .ok (.iload 9, 2) := dk_21 9 (dk_at dksX2_drawLine_1 17 rfl rfl)
theorem dX2_drawLine_43 : decode cX2_drawLine 43 = .ok (.iload_n 3, 1) := dk_29 (dk_at dksX2_drawLine_1 19 rfl rfl)
theorem dX2_drawLine_44 : decode cX2_drawLine 44 = .ok (.if_icmp .ne 11, 3) := dk_160 0 11 (dk_at dksX2_drawLine_1 20 rfl rfl)
theorem dX2_drawLine_47 : decode cX2_drawLine 47 = .ok (.iload 10, 2) := dk_21 10 (dk_at dksX2_drawLine_2 0 rfl rfl)
theorem dX2_drawLine_49 : decode cX2_drawLine 49 = .ok (.iload 4, 2) := dk_21 4 (dk_at dksX2_drawLine_2 2 rfl rfl)
theorem dX2_drawLine_51 : decode cX2_drawLine 51 = .ok (.if_icmp .ne 4, 3) := dk_160 0 4 (dk_at dksX2_drawLine_2 4 rfl rfl)
theorem dX2_drawLine_54 : decode cX2_drawLine 54 = .ok (.return_, 1) := dk_177 (dk_at dksX2_drawLine_2 7 rfl rfl)
theorem dX2_drawLine_55 : decode cX2_drawLine 55 = .ok (.iconst 2, 1) := dk_5 (dk_at dksX2_drawLine_2 8 rfl rfl)
theorem dX2_drawLine_56 : decode cX2_drawLine 56 = .ok (.iload 8, 2) := dk_21 8 (dk_at dksX2_drawLine_2 9 rfl rfl)
theorem dX2_drawLine_58 : decode cX2_drawLine 58 = .ok (.imul, 1) := dk_104 (dk_at dksX2_drawLine_2 11 rfl rfl)
theorem dX2_drawLine_59 : decode cX2_drawLine 59 = .ok (.istore 11, 2) := dk_54 11 (dk_at dksX2_drawLine_2 12 rfl rfl)
theorem dX2_drawLine_61 : decode cX2_drawLine 61 = .ok (.iload 11, 2) := dk_21 11 (dk_at dksX2_drawLine_2 14 rfl rfl)
theorem dX2_drawLine_63 : decode cX2_drawLine 63 = .ok (.iload 7, 2) := dk_21 7 (dk_at dksX2_drawLine_2 16 rfl rfl)
theorem dX2_drawLine_65 : decode cX2_drawLine 65 = .ok (.ineg, 1) := dk_116 (dk_at dksX2_drawLine_2 18 rfl rfl)
theorem dX2_drawLine_66 : decode cX2_drawLine 66 = .ok (.if_icmp .le 22, 3) := dk_164 0 22 (dk_at dksX2_drawLine_2 19 rfl rfl)
theorem dX2_drawLine_69 : decode cX2_drawLine 69 = .ok (.iload 8, 2) := dk_21 8 (dk_at dksX2_drawLine_2 22 rfl rfl)
theorem dX2_drawLine_71 : decode cX2_drawLine 71 = .ok (.iload 7, 2) := dk_21 7 (dk_at dksX2_drawLine_3 0 rfl rfl)
theorem dX2_drawLine_73 : decode cX2_drawLine 73 = .ok (.isub, 1) := dk_100 (dk_at dksX2_drawLine_3 2 rfl rfl)
theorem dX2_drawLine_74 : decode cX2_drawLine 74 = .ok (.istore 8, 2) := dk_54 8 (dk_at dksX2_drawLine_3 3 rfl rfl)
theorem dX2_drawLine_76 : decode cX2_drawLine 76 = .ok (.iload 9, 2) := dk_21 9 (dk_at dksX2_drawLine_3 5 rfl rfl)
theorem dX2_drawLine_78 : decode cX2_drawLine 78 = .ok (.iload_n 3, 1) := dk_29 (dk_at dksX2_drawLine_3 7 rfl rfl)
theorem dX2_drawLine_79 : decode cX2_drawLine 79 = .ok (.iload 9, 2) := dk_21 9 (dk_at dksX2_drawLine_3 8 rfl rfl)
theorem dX2_drawLine_81 : decode cX2_drawLine 81 = .ok (.isub, 1) := dk_100 (dk_at dksX2_drawLine_3 10 rfl rfl)
theorem dX2_drawLine_82 : decode cX2_drawLine 82 = .ok (.invokestatic 65, 3) := dk_184 0 65 (dk_at dksX2_drawLine_3 11 rfl rfl)
theorem dX2_drawLine_85 : decode cX2_drawLine 85 = .ok (.iadd, 1) := dk_96 (dk_at dksX2_drawLine_3 14 rfl rfl)
theorem dX2_drawLine_86 : decode cX2_drawLine 86 = .ok (.istore 9, 2) := dk_54 9 (dk_at dksX2_drawLine_3 15 rfl rfl)
theorem dX2_drawLine_88 : decode cX2_drawLine 88 = .ok (.iload 11, 2) := dk_21 11 (dk_at dksX2_drawLine_3 17 rfl rfl)
theorem dX2_drawLine_90 : decode cX2_drawLine 90 = .ok (.iload 6, 2) := dk_21 6 (dk_at dksX2_drawLine_3 19 rfl rfl)
theorem dX2_drawLine_92 : decode cX2_drawLine 92 = .ok (.if_icmp .ge 23, 3) := dk_162 0 23 (dk_at dksX2_drawLine_3 21 rfl rfl)
theorem dX2_drawLine_95 : decode cX2_drawLine 95 = .ok (.iload 8, 2) := dk_21 8 (dk_at dksX2_drawLine_4 0 rfl rfl)
theorem dX2_drawLine_97 : decode cX2_drawLine 97 = .ok (.iload 6, 2) := dk_21 6 (dk_at dksX2_drawLine_4 2 rfl rfl)
theorem dX2_drawLine_99 : decode cX2_drawLine 99 = .ok (.iadd, 1) := dk_96 (dk_at dksX2_drawLine_4 4 rfl rfl)
theorem dX2_drawLine_100 : decode cX2_drawLine 100 = .ok (.istore 8, 2) := dk_54 8 (dk_at dksX2_drawLine_4 5 rfl rfl)
theorem dX2_drawLine_102 : decode cX2_drawLine 102 = .ok (.iload 10, 2) := dk_21 10 (dk_at dksX2_drawLine_4 7 rfl rfl)
theorem dX2_drawLine_104 : decode cX2_drawLine 104 = .ok (.iload 4, 2) := dk_21 4 (dk_at dksX2_drawLine_4 9 rfl rfl)
theorem dX2_drawLine_106 : decode cX2_drawLine 106 = .ok (.iload 10, 2) := dk_21 10 (dk_at dksX2_drawLine_4 11 rfl rfl)
theorem dX2_drawLine_108 : decode cX2_drawLine 108 = .ok (.isub, 1) := dk_100 (dk_at dksX2_drawLine_4 13 rfl rfl)
theorem dX2_drawLine_109 : decode cX2_drawLine 109 = .ok (.invokestatic 65, 3) := dk_184 0 65 (dk_at dksX2_drawLine_4 14 rfl rfl)
theorem dX2_drawLine_112 : decode cX2_drawLine 112 = .ok (.iadd, 1) := dk_96 (dk_at dksX2_drawLine_4 17 rfl rfl)
theorem dX2_drawLine_113 : decode cX2_drawLine 113 = .ok (.istore 10, 2) := dk_54 10 (dk_at dksX2_drawLine_4 18 rfl rfl)
theorem dX2_drawLine_115 : decode cX2_drawLine 115 = .ok (.goto (-85), 3) := dk_167 255 171 (dk_at dksX2_drawLine_4 20 rfl rfl)
abbrev cX2_drawCircle : ByteArray := prog_3_method_10_code
def yX2_drawCircle : MethodName := ⟨RX2, "drawCircle", "(IIILTufaSteps$Pen;)V"⟩
def dkwX2_drawCircle_6 : List UInt8 := [54, 7, 167, 255, 126, 177]
abbrev dktX2_drawCircle_6 : List UInt8 := dkwX2_drawCircle_6 ++ []
def dkwX2_drawCircle_5 : List UInt8 := [104, 4, 96, 96, 54, 7, 167, 255, 146, 132, 5, 255, 21, 7, 5, 21, 6, 21, 5, 100, 104, 4, 96, 96]
abbrev dktX2_drawCircle_5 : List UInt8 := dkwX2_drawCircle_5 ++ dktX2_drawCircle_6
def dkwX2_drawCircle_4 : List UInt8 := [185, 0, 59, 3, 0, 132, 8, 1, 167, 255, 178, 132, 6, 1, 21, 7, 156, 0, 17, 21, 7, 5, 21, 6]
abbrev dktX2_drawCircle_4 : List UInt8 := dkwX2_drawCircle_4 ++ dktX2_drawCircle_5
def dkwX2_drawCircle_3 : List UInt8 := [185, 0, 59, 3, 0, 25, 4, 27, 21, 9, 21, 6, 104, 96, 28, 21, 10, 21, 5, 104, 96]
abbrev dktX2_drawCircle_3 : List UInt8 := dkwX2_drawCircle_3 ++ dktX2_drawCircle_4
def dkwX2_drawCircle_2 : List UInt8 := [167, 0, 4, 2, 54, 10, 25, 4, 27, 21, 9, 21, 5, 104, 96, 28, 21, 10, 21, 6, 104, 96]
abbrev dktX2_drawCircle_2 : List UInt8 := dkwX2_drawCircle_2 ++ dktX2_drawCircle_3
def dkwX2_drawCircle_1 : List UInt8 := [162, 0, 78, 21, 8, 5, 112, 154, 0, 7, 4, 167, 0, 4, 2, 54, 9, 21, 8, 5, 162, 0, 7, 4]
abbrev dktX2_drawCircle_1 : List UInt8 := dkwX2_drawCircle_1 ++ dktX2_drawCircle_2
def dkwX2_drawCircle_0 : List UInt8 := [29, 54, 5, 3, 54, 6, 4, 29, 100, 54, 7, 21, 5, 21, 6, 161, 0, 129, 3, 54, 8, 21, 8, 7]
abbrev dktX2_drawCircle_0 : List UInt8 := dkwX2_drawCircle_0 ++ dktX2_drawCircle_1
theorem dksX2_drawCircle_0 : cX2_drawCircle.data.toList.drop 0 = dktX2_drawCircle_0 := by decide +kernel
theorem dksX2_drawCircle_1 : cX2_drawCircle.data.toList.drop 24 = dktX2_drawCircle_1 := dk_seg dksX2_drawCircle_0 24 rfl rfl
theorem dksX2_drawCircle_2 : cX2_drawCircle.data.toList.drop 48 = dktX2_drawCircle_2 := dk_seg dksX2_drawCircle_1 24 rfl rfl
theorem dksX2_drawCircle_3 : cX2_drawCircle.data.toList.drop 70 = dktX2_drawCircle_3 := dk_seg dksX2_drawCircle_2 22 rfl rfl
theorem dksX2_drawCircle_4 : cX2_drawCircle.data.toList.drop 91 = dktX2_drawCircle_4 := dk_seg dksX2_drawCircle_3 21 rfl rfl
theorem dksX2_drawCircle_5 : cX2_drawCircle.data.toList.drop 115 = dktX2_drawCircle_5 := dk_seg dksX2_drawCircle_4 24 rfl rfl
theorem dksX2_drawCircle_6 : cX2_drawCircle.data.toList.drop 139 = dktX2_drawCircle_6 := dk_seg dksX2_drawCircle_5 24 rfl rfl
theorem dX2_drawCircle_0 : decode cX2_drawCircle 0 = .ok (.iload_n 3, 1) := dk_29 (dk_at dksX2_drawCircle_0 0 rfl rfl)
theorem dX2_drawCircle_1 : decode cX2_drawCircle 1 = .ok (.istore 5, 2) := dk_54 5 (dk_at dksX2_drawCircle_0 1 rfl rfl)
theorem dX2_drawCircle_3 : decode cX2_drawCircle 3 = .ok (.iconst 0, 1) := dk_3 (dk_at dksX2_drawCircle_0 3 rfl rfl)
theorem dX2_drawCircle_4 : decode cX2_drawCircle 4 = .ok (.istore 6, 2) := dk_54 6 (dk_at dksX2_drawCircle_0 4 rfl rfl)
theorem dX2_drawCircle_6 : decode cX2_drawCircle 6 = .ok (.iconst 1, 1) := dk_4 (dk_at dksX2_drawCircle_0 6 rfl rfl)
theorem dX2_drawCircle_7 : decode cX2_drawCircle 7 = .ok (.iload_n 3, 1) := dk_29 (dk_at dksX2_drawCircle_0 7 rfl rfl)
theorem dX2_drawCircle_8 : decode cX2_drawCircle 8 = .ok (.isub, 1) := dk_100 (dk_at dksX2_drawCircle_0 8 rfl rfl)
theorem dX2_drawCircle_9 : decode cX2_drawCircle 9 = .ok (.istore 7, 2) := dk_54 7 (dk_at dksX2_drawCircle_0 9 rfl rfl)
theorem dX2_drawCircle_11 : decode cX2_drawCircle 11 = .ok (.iload 5, 2) := dk_21 5 (dk_at dksX2_drawCircle_0 11 rfl rfl)
theorem dX2_drawCircle_13 : decode cX2_drawCircle 13 = .ok (.iload 6, 2) := dk_21 6 (dk_at dksX2_drawCircle_0 13 rfl rfl)
theorem dX2_drawCircle_15 : decode cX2_drawCircle 15 = .ok (.if_icmp .lt 129, 3) := dk_161 0 129 (dk_at dksX2_drawCircle_0 15 rfl rfl)
theorem dX2_drawCircle_18 : decode cX2_drawCircle 18 = .ok (.iconst 0, 1) := dk_3 (dk_at dksX2_drawCircle_0 18 rfl rfl)
theorem dX2_drawCircle_19 : decode cX2_drawCircle 19 = .ok (.istore 8, 2) := dk_54 8 (dk_at dksX2_drawCircle_0 19 rfl rfl)
theorem dX2_drawCircle_21 : decode cX2_drawCircle 21 = .ok (.iload 8, 2) := dk_21 8 (dk_at dksX2_drawCircle_0 21 rfl rfl)
theorem dX2_drawCircle_23 : decode cX2_drawCircle 23 = .ok (.iconst 4, 1) := dk_7 (dk_at dksX2_drawCircle_0 23 rfl rfl)
theorem dX2_drawCircle_24 : decode cX2_drawCircle 24 = .ok (.if_icmp .ge 78, 3) := dk_162 0 78 (dk_at dksX2_drawCircle_1 0 rfl rfl)
theorem dX2_drawCircle_27 : decode cX2_drawCircle 27 = .ok (.iload 8, 2) := dk_21 8 (dk_at dksX2_drawCircle_1 3 rfl rfl)
theorem dX2_drawCircle_29 : decode cX2_drawCircle 29 = .ok (.iconst 2, 1) := dk_5 (dk_at dksX2_drawCircle_1 5 rfl rfl)
theorem dX2_drawCircle_30 : decode cX2_drawCircle 30 = .ok (.irem, 1) := dk_112 (dk_at dksX2_drawCircle_1 6 rfl rfl)
theorem dX2_drawCircle_31 : decode cX2_drawCircle 31 = .ok (.ifCond .ne 7, 3) := dk_154 0 7 (dk_at dksX2_drawCircle_1 7 rfl rfl)
theorem dX2_drawCircle_34 : decode cX2_drawCircle 34 = .ok (.iconst 1, 1) := dk_4 (dk_at dksX2_drawCircle_1 10 rfl rfl)
theorem dX2_drawCircle_35 : decode cX2_drawCircle 35 = .ok (.goto 4, 3) := dk_167 0 4 (dk_at dksX2_drawCircle_1 11 rfl rfl)
theorem dX2_drawCircle_38 : decode cX2_drawCircle 38 = .ok (.iconst (-1), 1) := dk_2 (dk_at dksX2_drawCircle_1 14 rfl rfl)
theorem dX2_drawCircle_39 : decode cX2_drawCircle 39 = .ok (.istore 9, 2) := dk_54 9 (dk_at dksX2_drawCircle_1 15 rfl rfl)
theorem dX2_drawCircle_41 : decode cX2_drawCircle 41 = .ok (.iload 8, 2) := dk_21 8 (dk_at dksX2_drawCircle_1 17 rfl rfl)
theorem dX2_drawCircle_43 : decode cX2_drawCircle 43 = .ok (.iconst 2, 1) := dk_5 (dk_at dksX2_drawCircle_1 19 rfl rfl)
theorem dX2_drawCircle_44 : decode cX2_drawCircle 44 = .ok (.if_icmp .ge 7, 3) := dk_162 0 7 (dk_at dksX2_drawCircle_1 20 rfl rfl)
theorem dX2_drawCircle_47 : decode cX2_drawCircle 47 = .ok (.iconst 1, 1) := dk_4 (dk_at dksX2_drawCircle_1 23 rfl rfl)
theorem dX2_drawCircle_48 : decode cX2_drawCircle 48 = .ok (.goto 4, 3) := dk_167 0 4 (dk_at dksX2_drawCircle_2 0 rfl rfl)
theorem dX2_drawCircle_51 : decode cX2_drawCircle 51 = .ok (.iconst (-1), 1) := dk_2 (dk_at dksX2_drawCircle_2 3 rfl rfl)
theorem dX2_drawCircle_52 : decode cX2_drawCircle 52 = .ok (.istore 10, 2) := dk_54 10 (dk_at dksX2_drawCircle_2 4 rfl rfl)
theorem dX2_drawCircle_54 : decode cX2_drawCircle 54 = .ok (.aload 4, 2) := dk_25 4 (dk_at dksX2_drawCircle_2 6 rfl rfl)
theorem dX2_drawCircle_56 : decode cX2_drawCircle 56 = .ok (.iload_n 1, 1) := dk_27 (dk_at dksX2_drawCircle_2 8 rfl rfl)
theorem dX2_drawCircle_57 : decode cX2_drawCircle 57 = .ok (.iload 9, 2) := dk_21 9 (dk_at dksX2_drawCircle_2 9 rfl rfl)
theorem dX2_drawCircle_59 : decode cX2_drawCircle 59 = .ok (.iload 5, 2) := dk_21 5 (dk_at dksX2_drawCircle_2 11 rfl rfl)
theorem dX2_drawCircle_61 : decode cX2_drawCircle 61 = .ok (.imul, 1) := dk_104 (dk_at dksX2_drawCircle_2 13 rfl rfl)
theorem dX2_drawCircle_62 : decode cX2_drawCircle 62 = .ok (.iadd, 1) := dk_96 (dk_at dksX2_drawCircle_2 14 rfl rfl)
theorem dX2_drawCircle_63 : decode cX2_drawCircle 63 = .ok (.iload_n 2, 1) := dk_28 (dk_at dksX2_drawCircle_2 15 rfl rfl)
theorem dX2_drawCircle_64 : decode cX2_drawCircle 64 = .ok (.iload 10, 2) := dk_21 10 (dk_at dksX2_drawCircle_2 16 rfl rfl)
theorem dX2_drawCircle_66 : decode cX2_drawCircle 66 = .ok (.iload 6, 2) := dk_21 6 (dk_at dksX2_drawCircle_2 18 rfl rfl)
theorem dX2_drawCircle_68 : decode cX2_drawCircle 68 = .ok (.imul, 1) := dk_104 (dk_at dksX2_drawCircle_2 20 rfl rfl)
theorem dX2_drawCircle_69 : decode cX2_drawCircle 69 = .ok (.iadd, 1) := dk_96 (dk_at dksX2_drawCircle_2 21 rfl rfl)
theorem dX2_drawCircle_70 : decode cX2_drawCircle 70 = .ok (.invokeinterface 59 3, 5) := by decide +kernel
theorem dX2_drawCircle_75 : decode cX2_drawCircle 75 = .ok (.aload 4, 2) := dk_25 4 (dk_at dksX2_drawCircle_3 5 rfl rfl)
theorem dX2_drawCircle_77 : decode cX2_drawCircle 77 = .ok (.iload_n 1, 1) := dk_27 (dk_at dksX2_drawCircle_3 7 rfl rfl)
theorem dX2_drawCircle_78 : decode cX2_drawCircle 78 = .ok (.iload 9, 2) := dk_21 9 (dk_at dksX2_drawCircle_3 8 rfl rfl)
theorem dX2_drawCircle_80 : decode cX2_drawCircle 80 = .ok (.iload 6, 2) := dk_21 6 (dk_at dksX2_drawCircle_3 10 rfl rfl)
theorem dX2_drawCircle_82 : decode cX2_drawCircle 82 = .ok (.imul, 1) := dk_104 (dk_at dksX2_drawCircle_3 12 rfl rfl)
theorem dX2_drawCircle_83 : decode cX2_drawCircle 83 = .ok (.iadd, 1) := dk_96 (dk_at dksX2_drawCircle_3 13 rfl rfl)
theorem dX2_drawCircle_84 : decode cX2_drawCircle 84 = .ok (.iload_n 2, 1) := dk_28 (dk_at dksX2_drawCircle_3 14 rfl rfl)
theorem dX2_drawCircle_85 : decode cX2_drawCircle 85 = .ok (.iload 10, 2) := dk_21 10 (dk_at dksX2_drawCircle_3 15 rfl rfl)
theorem dX2_drawCircle_87 : decode cX2_drawCircle 87 = .ok (.iload 5, 2) := dk_21 5 (dk_at dksX2_drawCircle_3 17 rfl rfl)
theorem dX2_drawCircle_89 : decode cX2_drawCircle 89 = .ok (.imul, 1) := dk_104 (dk_at dksX2_drawCircle_3 19 rfl rfl)
theorem dX2_drawCircle_90 : decode cX2_drawCircle 90 = .ok (.iadd, 1) := dk_96 (dk_at dksX2_drawCircle_3 20 rfl rfl)
theorem dX2_drawCircle_91 : decode cX2_drawCircle 91 = .ok (.invokeinterface 59 3, 5) := by decide +kernel
theorem dX2_drawCircle_96 : decode cX2_drawCircle 96 = .ok (.iinc 8 1, 3) := dk_132 8 1 (dk_at dksX2_drawCircle_4 5 rfl rfl)
theorem dX2_drawCircle_99 : decode cX2_drawCircle 99 = .ok (.goto (-78), 3) := dk_167 255 178 (dk_at dksX2_drawCircle_4 8 rfl rfl)
theorem dX2_drawCircle_102 : decode cX2_drawCircle 102 = .ok (.iinc 6 1, 3) := dk_132 6 1 (dk_at dksX2_drawCircle_4 11 rfl rfl)
theorem dX2_drawCircle_105 : decode cX2_drawCircle 105 = .ok (.iload 7, 2) := dk_21 7 (dk_at dksX2_drawCircle_4 14 rfl rfl)
theorem dX2_drawCircle_107 : decode cX2_drawCircle 107 = .ok (.ifCond .ge 17, 3) := dk_156 0 17 (dk_at dksX2_drawCircle_4 16 rfl rfl)
theorem dX2_drawCircle_110 : decode cX2_drawCircle 110 = .ok (.iload 7, 2) := dk_21 7 (dk_at dksX2_drawCircle_4 19 rfl rfl)
theorem dX2_drawCircle_112 : decode cX2_drawCircle 112 = .ok (.iconst 2, 1) := dk_5 (dk_at dksX2_drawCircle_4 21 rfl rfl)
theorem dX2_drawCircle_113 : decode cX2_drawCircle 113 = .ok (.iload 6, 2) := dk_21 6 (dk_at dksX2_drawCircle_4 22 rfl rfl)
theorem dX2_drawCircle_115 : decode cX2_drawCircle 115 = .ok (.imul, 1) := dk_104 (dk_at dksX2_drawCircle_5 0 rfl rfl)
theorem dX2_drawCircle_116 : decode cX2_drawCircle 116 = .ok (.iconst 1, 1) := dk_4 (dk_at dksX2_drawCircle_5 1 rfl rfl)
theorem dX2_drawCircle_117 : decode cX2_drawCircle 117 = .ok (.iadd, 1) := dk_96 (dk_at dksX2_drawCircle_5 2 rfl rfl)
theorem dX2_drawCircle_118 : decode cX2_drawCircle 118 = .ok (.iadd, 1) := dk_96 (dk_at dksX2_drawCircle_5 3 rfl rfl)
theorem dX2_drawCircle_119 : decode cX2_drawCircle 119 = .ok (.istore 7, 2) := dk_54 7 (dk_at dksX2_drawCircle_5 4 rfl rfl)
theorem dX2_drawCircle_121 : decode cX2_drawCircle 121 = .ok (.goto (-110), 3) := dk_167 255 146 (dk_at dksX2_drawCircle_5 6 rfl rfl)
theorem dX2_drawCircle_124 : decode cX2_drawCircle 124 = .ok (.iinc 5 (-1), 3) := dk_132 5 255 (dk_at dksX2_drawCircle_5 9 rfl rfl)
theorem dX2_drawCircle_127 : decode cX2_drawCircle 127 = .ok (.iload 7, 2) := dk_21 7 (dk_at dksX2_drawCircle_5 12 rfl rfl)
theorem dX2_drawCircle_129 : decode cX2_drawCircle 129 = .ok (.iconst 2, 1) := dk_5 (dk_at dksX2_drawCircle_5 14 rfl rfl)
theorem dX2_drawCircle_130 : decode cX2_drawCircle 130 = .ok (.iload 6, 2) := dk_21 6 (dk_at dksX2_drawCircle_5 15 rfl rfl)
theorem dX2_drawCircle_132 : decode cX2_drawCircle 132 = .ok (.iload 5, 2) := dk_21 5 (dk_at dksX2_drawCircle_5 17 rfl rfl)
theorem dX2_drawCircle_134 : decode cX2_drawCircle 134 = .ok (.isub, 1) := dk_100 (dk_at dksX2_drawCircle_5 19 rfl rfl)
theorem dX2_drawCircle_135 : decode cX2_drawCircle 135 = .ok (.imul, 1) := dk_104 (dk_at dksX2_drawCircle_5 20 rfl rfl)
theorem dX2_drawCircle_136 : decode cX2_drawCircle 136 = .ok (.iconst 1, 1) := dk_4 (dk_at dksX2_drawCircle_5 21 rfl rfl)
theorem dX2_drawCircle_137 : decode cX2_drawCircle 137 = .ok (.iadd, 1) := dk_96 (dk_at dksX2_drawCircle_5 22 rfl rfl)
theorem dX2_drawCircle_138 : decode cX2_drawCircle 138 = .ok (.iadd, 1) := dk_96 (dk_at dksX2_drawCircle_5 23 rfl rfl)
theorem dX2_drawCircle_139 : decode cX2_drawCircle 139 = .ok (.istore 7, 2) := dk_54 7 (dk_at dksX2_drawCircle_6 0 rfl rfl)
theorem dX2_drawCircle_141 : decode cX2_drawCircle 141 = .ok (.goto (-130), 3) := dk_167 255 126 (dk_at dksX2_drawCircle_6 2 rfl rfl)
theorem dX2_drawCircle_144 : decode cX2_drawCircle 144 = .ok (.return_, 1) := dk_177 (dk_at dksX2_drawCircle_6 5 rfl rfl)
theorem q60 : (Jvm.Cond.initialized "TufaSteps$Picture") ∈ lw_all := lw_g (lw_at lw_m1 2 rfl) rfl
theorem q105 : (Jvm.Cond.instantiable "TufaSteps$Picture" (3 : Nat)) ∈ lw_all := lw_g (lw_at lw_m1 47 rfl) rfl
theorem q107 : (Jvm.Cond.instanceMethod ({ cls := "TufaSteps$Picture", name := "<init>", desc := "(II)V" } : Jvm.MethodName)) ∈ lw_all := lw_g (lw_at lw_m1 49 rfl) rfl
theorem q108 : (Jvm.Cond.code ({ cls := "TufaSteps$Picture", name := "<init>", desc := "(II)V" } : Jvm.MethodName) prog_3_method_1_code (3 : Nat) (Option.none : Option Jvm.ClassFile.FieldType)) ∈ lw_all := lw_g (lw_at lw_m1 50 rfl) rfl
theorem q109 : (Jvm.Cond.classLink "TufaSteps$Picture" (3 : Nat) "java/util/BitSet") ∈ lw_all := lw_g (lw_at lw_m1 51 rfl) rfl
theorem q111 : (Jvm.Cond.methodLink "TufaSteps$Picture" (5 : Nat) ({ cls := "java/util/BitSet", name := "<init>", desc := "()V" } : Jvm.MethodName)) ∈ lw_all := lw_g (lw_at lw_m1 53 rfl) rfl
theorem q133 : (Jvm.Cond.methodLink "TufaSteps$Picture" (9 : Nat) ({ cls := "TufaSteps$Picture", name := "<init>", desc := "(IILjava/util/BitSet;)V" } : Jvm.MethodName)) ∈ lw_all := lw_g (lw_at lw_m1 75 rfl) rfl
theorem q134 : (Jvm.Cond.instanceMethod ({ cls := "TufaSteps$Picture", name := "<init>", desc := "(IILjava/util/BitSet;)V" } : Jvm.MethodName)) ∈ lw_all := lw_g (lw_at lw_m1 76 rfl) rfl
theorem q135 : (Jvm.Cond.code ({ cls := "TufaSteps$Picture", name := "<init>", desc := "(IILjava/util/BitSet;)V" } : Jvm.MethodName) prog_3_method_2_code (4 : Nat) (Option.none : Option Jvm.ClassFile.FieldType)) ∈ lw_all := lw_g (lw_at lw_m1 77 rfl) rfl
theorem q136 : (Jvm.Cond.methodLink "TufaSteps$Picture" (14 : Nat) ({ cls := "java/lang/Object", name := "<init>", desc := "()V" } : Jvm.MethodName)) ∈ lw_all := lw_g (lw_at lw_m1 78 rfl) rfl
theorem q137 : (Jvm.Cond.fieldLink "TufaSteps$Picture" (17 : Nat) "TufaSteps$Picture" "width" "I") ∈ lw_all := lw_g (lw_at lw_m1 79 rfl) rfl
theorem q139 : (Jvm.Cond.fieldLink "TufaSteps$Picture" (21 : Nat) "TufaSteps$Picture" "height" "I") ∈ lw_all := lw_g (lw_at lw_m1 81 rfl) rfl
theorem q141 : (Jvm.Cond.fieldLink "TufaSteps$Picture" (24 : Nat) "TufaSteps$Picture" "ink" "Ljava/util/BitSet;") ∈ lw_all := lw_g (lw_at lw_m1 83 rfl) rfl
theorem q143 : (Jvm.Cond.laysFinal "TufaSteps$Picture" "TufaSteps$Picture" "width" "I") ∈ lw_all := lw_g (lw_at lw_m1 85 rfl) rfl
theorem q144 : (Jvm.Cond.soleField "TufaSteps$Picture" "width") ∈ lw_all := lw_g (lw_at lw_m1 86 rfl) rfl
theorem q145 : (Jvm.Cond.laysFinal "TufaSteps$Picture" "TufaSteps$Picture" "height" "I") ∈ lw_all := lw_g (lw_at lw_m1 87 rfl) rfl
theorem q146 : (Jvm.Cond.soleField "TufaSteps$Picture" "height") ∈ lw_all := lw_g (lw_at lw_m1 88 rfl) rfl
theorem q147 : (Jvm.Cond.laysFinal "TufaSteps$Picture" "TufaSteps$Picture" "ink" "Ljava/util/BitSet;") ∈ lw_all := lw_g (lw_at lw_m1 89 rfl) rfl
theorem q148 : (Jvm.Cond.soleField "TufaSteps$Picture" "ink") ∈ lw_all := lw_g (lw_at lw_m1 90 rfl) rfl
theorem q149 : (Jvm.Cond.superclass "TufaSteps$Picture" "java/lang/Object") ∈ lw_all := lw_g (lw_at lw_m1 91 rfl) rfl
theorem q164 : (Jvm.Cond.instanceMethod ({ cls := "TufaSteps$Picture", name := "cells", desc := "()I" } : Jvm.MethodName)) ∈ lw_all := lw_g (lw_at lw_m1 106 rfl) rfl
theorem q165 : (Jvm.Cond.selects "TufaSteps$Picture" ({ cls := "TufaSteps$Picture", name := "cells", desc := "()I" } : Jvm.MethodName) ({ cls := "TufaSteps$Picture", name := "cells", desc := "()I" } : Jvm.MethodName)) ∈ lw_all := lw_g (lw_at lw_m1 107 rfl) rfl
theorem q166 : (Jvm.Cond.code ({ cls := "TufaSteps$Picture", name := "cells", desc := "()I" } : Jvm.MethodName) prog_3_method_4_code (1 : Nat) (Option.some Jvm.ClassFile.FieldType.int)) ∈ lw_all := lw_g (lw_at lw_m1 108 rfl) rfl
theorem q550 : (Jvm.Cond.instanceMethod ({ cls := "TufaSteps$Picture", name := "changes", desc := "(Ljava/util/BitSet;)I" } : Jvm.MethodName)) ∈ lw_all := lw_g (lw_at lw_m3 12 rfl) rfl
theorem q551 : (Jvm.Cond.selects "TufaSteps$Picture" ({ cls := "TufaSteps$Picture", name := "changes", desc := "(Ljava/util/BitSet;)I" } : Jvm.MethodName) ({ cls := "TufaSteps$Picture", name := "changes", desc := "(Ljava/util/BitSet;)I" } : Jvm.MethodName)) ∈ lw_all := lw_g (lw_at lw_m3 13 rfl) rfl
theorem q552 : (Jvm.Cond.code ({ cls := "TufaSteps$Picture", name := "changes", desc := "(Ljava/util/BitSet;)I" } : Jvm.MethodName) prog_3_method_12_code (3 : Nat) (Option.some Jvm.ClassFile.FieldType.int)) ∈ lw_all := lw_g (lw_at lw_m3 14 rfl) rfl
theorem q553 : (Jvm.Cond.methodLink "TufaSteps$Picture" (73 : Nat) ({ cls := "TufaSteps$Picture", name := "like", desc := "()LTufaSteps$Picture;" } : Jvm.MethodName)) ∈ lw_all := lw_g (lw_at lw_m3 15 rfl) rfl
theorem q554 : (Jvm.Cond.instanceMethod ({ cls := "TufaSteps$Picture", name := "like", desc := "()LTufaSteps$Picture;" } : Jvm.MethodName)) ∈ lw_all := lw_g (lw_at lw_m3 16 rfl) rfl
theorem q555 : (Jvm.Cond.selects "TufaSteps$Picture" ({ cls := "TufaSteps$Picture", name := "like", desc := "()LTufaSteps$Picture;" } : Jvm.MethodName) ({ cls := "TufaSteps$Picture", name := "like", desc := "()LTufaSteps$Picture;" } : Jvm.MethodName)) ∈ lw_all := lw_g (lw_at lw_m3 17 rfl) rfl
theorem q556 : (Jvm.Cond.code ({ cls := "TufaSteps$Picture", name := "like", desc := "()LTufaSteps$Picture;" } : Jvm.MethodName) prog_3_method_3_code (2 : Nat) (Option.some (Jvm.ClassFile.FieldType.object "TufaSteps$Picture"))) ∈ lw_all := lw_g (lw_at lw_m3 18 rfl) rfl
theorem q557 : (Jvm.Cond.methodLink "TufaSteps$Picture" (28 : Nat) ({ cls := "java/util/BitSet", name := "or", desc := "(Ljava/util/BitSet;)V" } : Jvm.MethodName)) ∈ lw_all := lw_g (lw_at lw_m3 19 rfl) rfl
theorem q563 : (Jvm.Cond.classLink "TufaSteps$Picture" (10 : Nat) "TufaSteps$Picture") ∈ lw_all := lw_g (lw_at lw_m3 25 rfl) rfl
theorem q564 : (Jvm.Cond.methodLink "TufaSteps$Picture" (77 : Nat) ({ cls := "java/util/BitSet", name := "xor", desc := "(Ljava/util/BitSet;)V" } : Jvm.MethodName)) ∈ lw_all := lw_g (lw_at lw_m3 26 rfl) rfl
theorem q568 : (Jvm.Cond.methodLink "TufaSteps$Picture" (80 : Nat) ({ cls := "java/util/BitSet", name := "cardinality", desc := "()I" } : Jvm.MethodName)) ∈ lw_all := lw_g (lw_at lw_m3 30 rfl) rfl
theorem q575 : (Jvm.Cond.instanceMethod ({ cls := "TufaSteps$Picture", name := "thin", desc := "()I" } : Jvm.MethodName)) ∈ lw_all := lw_g (lw_at lw_m3 37 rfl) rfl
theorem q576 : (Jvm.Cond.selects "TufaSteps$Picture" ({ cls := "TufaSteps$Picture", name := "thin", desc := "()I" } : Jvm.MethodName) ({ cls := "TufaSteps$Picture", name := "thin", desc := "()I" } : Jvm.MethodName)) ∈ lw_all := lw_g (lw_at lw_m3 38 rfl) rfl
theorem q577 : (Jvm.Cond.code ({ cls := "TufaSteps$Picture", name := "thin", desc := "()I" } : Jvm.MethodName) prog_3_method_25_code (2 : Nat) (Option.some Jvm.ClassFile.FieldType.int)) ∈ lw_all := lw_g (lw_at lw_m3 39 rfl) rfl
theorem q578 : (Jvm.Cond.methodLink "TufaSteps$Picture" (176 : Nat) ({ cls := "TufaSteps$Picture", name := "thins", desc := "(Z)Z" } : Jvm.MethodName)) ∈ lw_all := lw_g (lw_at lw_m3 40 rfl) rfl
theorem q579 : (Jvm.Cond.privateMethod ({ cls := "TufaSteps$Picture", name := "thins", desc := "(Z)Z" } : Jvm.MethodName)) ∈ lw_tbl := lw_at lw_m3 41 rfl
theorem q580 : (Jvm.Cond.instanceMethod ({ cls := "TufaSteps$Picture", name := "thins", desc := "(Z)Z" } : Jvm.MethodName)) ∈ lw_all := lw_g (lw_at lw_m3 42 rfl) rfl
theorem q581 : (Jvm.Cond.code ({ cls := "TufaSteps$Picture", name := "thins", desc := "(Z)Z" } : Jvm.MethodName) prog_3_method_24_code (4 : Nat) (Option.some Jvm.ClassFile.FieldType.boolean)) ∈ lw_all := lw_g (lw_at lw_m3 43 rfl) rfl
theorem q582 : (Jvm.Cond.methodLink "TufaSteps$Picture" (118 : Nat) ({ cls := "java/util/BitSet", name := "nextSetBit", desc := "(I)I" } : Jvm.MethodName)) ∈ lw_all := lw_g (lw_at lw_m3 44 rfl) rfl
theorem q593 : (Jvm.Cond.methodLink "TufaSteps$Picture" (165 : Nat) ({ cls := "TufaSteps$Picture", name := "isDoomed", desc := "(IZ)Z" } : Jvm.MethodName)) ∈ lw_all := lw_g (lw_at lw_m3 55 rfl) rfl
theorem q594 : (Jvm.Cond.privateMethod ({ cls := "TufaSteps$Picture", name := "isDoomed", desc := "(IZ)Z" } : Jvm.MethodName)) ∈ lw_tbl := lw_at lw_m3 56 rfl
theorem q595 : (Jvm.Cond.instanceMethod ({ cls := "TufaSteps$Picture", name := "isDoomed", desc := "(IZ)Z" } : Jvm.MethodName)) ∈ lw_all := lw_g (lw_at lw_m3 57 rfl) rfl
theorem q596 : (Jvm.Cond.code ({ cls := "TufaSteps$Picture", name := "isDoomed", desc := "(IZ)Z" } : Jvm.MethodName) prog_3_method_22_code (6 : Nat) (Option.some Jvm.ClassFile.FieldType.boolean)) ∈ lw_all := lw_g (lw_at lw_m3 58 rfl) rfl
theorem q597 : (Jvm.Cond.methodLink "TufaSteps$Picture" (132 : Nat) ({ cls := "TufaSteps$Picture", name := "isInkBeside", desc := "(II)Z" } : Jvm.MethodName)) ∈ lw_all := lw_g (lw_at lw_m3 59 rfl) rfl
theorem q598 : (Jvm.Cond.instanceMethod ({ cls := "TufaSteps$Picture", name := "isInkBeside", desc := "(II)Z" } : Jvm.MethodName)) ∈ lw_all := lw_g (lw_at lw_m3 60 rfl) rfl
theorem q599 : (Jvm.Cond.selects "TufaSteps$Picture" ({ cls := "TufaSteps$Picture", name := "isInkBeside", desc := "(II)Z" } : Jvm.MethodName) ({ cls := "TufaSteps$Picture", name := "isInkBeside", desc := "(II)Z" } : Jvm.MethodName)) ∈ lw_all := lw_g (lw_at lw_m3 61 rfl) rfl
theorem q600 : (Jvm.Cond.code ({ cls := "TufaSteps$Picture", name := "isInkBeside", desc := "(II)Z" } : Jvm.MethodName) prog_3_method_8_code (3 : Nat) (Option.some Jvm.ClassFile.FieldType.boolean)) ∈ lw_all := lw_g (lw_at lw_m3 62 rfl) rfl
theorem q601 : (Jvm.Cond.methodLinkNest "TufaSteps$Picture" (44 : Nat) ({ cls := "TufaSteps", name := "right", desc := "(I)I" } : Jvm.MethodName) "TufaSteps") ∈ lw_tbl := lw_at lw_m3 63 rfl
theorem q604 : (Jvm.Cond.methodLinkNest "TufaSteps$Picture" (48 : Nat) ({ cls := "TufaSteps", name := "down", desc := "(I)I" } : Jvm.MethodName) "TufaSteps") ∈ lw_tbl := lw_at lw_m3 66 rfl
theorem q608 : (Jvm.Cond.methodLink "TufaSteps$Picture" (51 : Nat) ({ cls := "TufaSteps$Picture", name := "has", desc := "(II)Z" } : Jvm.MethodName)) ∈ lw_all := lw_g (lw_at lw_m3 70 rfl) rfl
theorem q609 : (Jvm.Cond.instanceMethod ({ cls := "TufaSteps$Picture", name := "has", desc := "(II)Z" } : Jvm.MethodName)) ∈ lw_all := lw_g (lw_at lw_m3 71 rfl) rfl
theorem q610 : (Jvm.Cond.selects "TufaSteps$Picture" ({ cls := "TufaSteps$Picture", name := "has", desc := "(II)Z" } : Jvm.MethodName) ({ cls := "TufaSteps$Picture", name := "has", desc := "(II)Z" } : Jvm.MethodName)) ∈ lw_all := lw_g (lw_at lw_m3 72 rfl) rfl
theorem q611 : (Jvm.Cond.code ({ cls := "TufaSteps$Picture", name := "has", desc := "(II)Z" } : Jvm.MethodName) prog_3_method_6_code (3 : Nat) (Option.some Jvm.ClassFile.FieldType.boolean)) ∈ lw_all := lw_g (lw_at lw_m3 73 rfl) rfl
theorem q612 : (Jvm.Cond.methodLink "TufaSteps$Picture" (36 : Nat) ({ cls := "TufaSteps$Picture", name := "isOn", desc := "(II)Z" } : Jvm.MethodName)) ∈ lw_all := lw_g (lw_at lw_m3 74 rfl) rfl
theorem q613 : (Jvm.Cond.instanceMethod ({ cls := "TufaSteps$Picture", name := "isOn", desc := "(II)Z" } : Jvm.MethodName)) ∈ lw_all := lw_g (lw_at lw_m3 75 rfl) rfl
theorem q614 : (Jvm.Cond.selects "TufaSteps$Picture" ({ cls := "TufaSteps$Picture", name := "isOn", desc := "(II)Z" } : Jvm.MethodName) ({ cls := "TufaSteps$Picture", name := "isOn", desc := "(II)Z" } : Jvm.MethodName)) ∈ lw_all := lw_g (lw_at lw_m3 76 rfl) rfl
theorem q615 : (Jvm.Cond.code ({ cls := "TufaSteps$Picture", name := "isOn", desc := "(II)Z" } : Jvm.MethodName) prog_3_method_5_code (3 : Nat) (Option.some Jvm.ClassFile.FieldType.boolean)) ∈ lw_all := lw_g (lw_at lw_m3 77 rfl) rfl
theorem q616 : (Jvm.Cond.methodLinkNest "TufaSteps$Picture" (32 : Nat) ({ cls := "TufaSteps", name := "isIn", desc := "(III)Z" } : Jvm.MethodName) "TufaSteps") ∈ lw_tbl := lw_at lw_m3 78 rfl
theorem q619 : (Jvm.Cond.methodLink "TufaSteps$Picture" (40 : Nat) ({ cls := "java/util/BitSet", name := "get", desc := "(I)Z" } : Jvm.MethodName)) ∈ lw_all := lw_g (lw_at lw_m3 81 rfl) rfl
theorem q624 : (Jvm.Cond.methodLink "TufaSteps$Picture" (162 : Nat) ({ cls := "TufaSteps$Picture", name := "areInk", desc := "(II)Z" } : Jvm.MethodName)) ∈ lw_all := lw_g (lw_at lw_m3 86 rfl) rfl
theorem q625 : (Jvm.Cond.privateMethod ({ cls := "TufaSteps$Picture", name := "areInk", desc := "(II)Z" } : Jvm.MethodName)) ∈ lw_tbl := lw_at lw_m3 87 rfl
theorem q626 : (Jvm.Cond.instanceMethod ({ cls := "TufaSteps$Picture", name := "areInk", desc := "(II)Z" } : Jvm.MethodName)) ∈ lw_all := lw_g (lw_at lw_m3 88 rfl) rfl
theorem q627 : (Jvm.Cond.code ({ cls := "TufaSteps$Picture", name := "areInk", desc := "(II)Z" } : Jvm.MethodName) prog_3_method_23_code (3 : Nat) (Option.some Jvm.ClassFile.FieldType.boolean)) ∈ lw_all := lw_g (lw_at lw_m3 89 rfl) rfl
theorem q628 : (Jvm.Cond.methodLink "TufaSteps$Picture" (169 : Nat) ({ cls := "java/util/BitSet", name := "set", desc := "(IZ)V" } : Jvm.MethodName)) ∈ lw_all := lw_g (lw_at lw_m3 90 rfl) rfl
theorem q640 : (Jvm.Cond.methodLink "TufaSteps$Picture" (172 : Nat) ({ cls := "java/util/BitSet", name := "andNot", desc := "(Ljava/util/BitSet;)V" } : Jvm.MethodName)) ∈ lw_all := lw_g (lw_at lw_m3 102 rfl) rfl
theorem q644 : (Jvm.Cond.methodLink "TufaSteps$Picture" (175 : Nat) ({ cls := "java/util/BitSet", name := "isEmpty", desc := "()Z" } : Jvm.MethodName)) ∈ lw_all := lw_g (lw_at lw_m3 106 rfl) rfl
theorem q662 : (Jvm.Cond.instanceMethod ({ cls := "TufaSteps$Picture", name := "depths", desc := "(Z)[[S" } : Jvm.MethodName)) ∈ lw_all := lw_g (lw_at lw_m3 124 rfl) rfl
theorem q663 : (Jvm.Cond.selects "TufaSteps$Picture" ({ cls := "TufaSteps$Picture", name := "depths", desc := "(Z)[[S" } : Jvm.MethodName) ({ cls := "TufaSteps$Picture", name := "depths", desc := "(Z)[[S" } : Jvm.MethodName)) ∈ lw_all := lw_g (lw_at lw_m3 125 rfl) rfl
theorem q664 : (Jvm.Cond.code ({ cls := "TufaSteps$Picture", name := "depths", desc := "(Z)[[S" } : Jvm.MethodName) prog_3_method_19_code (5 : Nat) (Option.some (Jvm.ClassFile.FieldType.array (Jvm.ClassFile.FieldType.array Jvm.ClassFile.FieldType.short)))) ∈ lw_all := lw_g (lw_at lw_m3 126 rfl) rfl
theorem q665 : (Jvm.Cond.classLink "TufaSteps$Picture" (149 : Nat) "[[S") ∈ lw_all := lw_g (lw_at lw_m3 127 rfl) rfl
theorem q667 : (Jvm.Cond.methodLink "TufaSteps$Picture" (151 : Nat) ({ cls := "TufaSteps$Picture", name := "least", desc := "([[SIIZI)I" } : Jvm.MethodName)) ∈ lw_all := lw_g (lw_at lw_m3 129 rfl) rfl
theorem q668 : (Jvm.Cond.static ({ cls := "TufaSteps$Picture", name := "least", desc := "([[SIIZI)I" } : Jvm.MethodName)) ∈ lw_all := lw_g (lw_at lw_m3 130 rfl) rfl
theorem q669 : (Jvm.Cond.code ({ cls := "TufaSteps$Picture", name := "least", desc := "([[SIIZI)I" } : Jvm.MethodName) prog_3_method_20_code (6 : Nat) (Option.some Jvm.ClassFile.FieldType.int)) ∈ lw_all := lw_g (lw_at lw_m3 131 rfl) rfl
theorem q670 : (Jvm.Cond.methodLink "TufaSteps$Picture" (155 : Nat) ({ cls := "java/lang/Math", name := "min", desc := "(II)I" } : Jvm.MethodName)) ∈ lw_all := lw_g (lw_at lw_m3 132 rfl) rfl
theorem q706 : (Jvm.Cond.instanceMethod ({ cls := "TufaSteps$Picture", name := "runs", desc := "(I)Ljava/util/LinkedList;" } : Jvm.MethodName)) ∈ lw_all := lw_g (lw_at lw_m3 168 rfl) rfl
theorem q707 : (Jvm.Cond.selects "TufaSteps$Picture" ({ cls := "TufaSteps$Picture", name := "runs", desc := "(I)Ljava/util/LinkedList;" } : Jvm.MethodName) ({ cls := "TufaSteps$Picture", name := "runs", desc := "(I)Ljava/util/LinkedList;" } : Jvm.MethodName)) ∈ lw_all := lw_g (lw_at lw_m3 169 rfl) rfl
theorem q708 : (Jvm.Cond.code ({ cls := "TufaSteps$Picture", name := "runs", desc := "(I)Ljava/util/LinkedList;" } : Jvm.MethodName) prog_3_method_18_code (4 : Nat) (Option.some (Jvm.ClassFile.FieldType.object "java/util/LinkedList"))) ∈ lw_all := lw_g (lw_at lw_m3 170 rfl) rfl
theorem q709 : (Jvm.Cond.classLink "TufaSteps$Picture" (135 : Nat) "java/util/LinkedList") ∈ lw_all := lw_g (lw_at lw_m3 171 rfl) rfl
theorem q711 : (Jvm.Cond.methodLink "TufaSteps$Picture" (137 : Nat) ({ cls := "java/util/LinkedList", name := "<init>", desc := "()V" } : Jvm.MethodName)) ∈ lw_all := lw_g (lw_at lw_m3 173 rfl) rfl
theorem q742 : (Jvm.Cond.methodLink "TufaSteps$Picture" (138 : Nat) ({ cls := "java/util/LinkedList", name := "getLast", desc := "()Ljava/lang/Object;" } : Jvm.MethodName)) ∈ lw_all := lw_g (lw_at lw_m3 204 rfl) rfl
theorem q761 : (Jvm.Cond.classLink "TufaSteps$Picture" (141 : Nat) "TufaSteps$Run") ∈ lw_all := lw_g (lw_at lw_m3 223 rfl) rfl
theorem q763 : (Jvm.Cond.methodLink "TufaSteps$Picture" (146 : Nat) ({ cls := "TufaSteps$Run", name := "<init>", desc := "(I)V" } : Jvm.MethodName)) ∈ lw_all := lw_g (lw_at lw_m3 225 rfl) rfl
theorem q770 : (Jvm.Cond.fieldLinkNest "TufaSteps$Picture" (143 : Nat) "TufaSteps$Run" "length" "I" "TufaSteps") ∈ lw_tbl := lw_at lw_m3 232 rfl
theorem q777 : (Jvm.Cond.methodLink "TufaSteps$Picture" (148 : Nat) ({ cls := "java/util/LinkedList", name := "addLast", desc := "(Ljava/lang/Object;)V" } : Jvm.MethodName)) ∈ lw_all := lw_g (lw_at lw_m3 239 rfl) rfl
theorem q815 : (Jvm.Cond.instanceMethod ({ cls := "TufaSteps$Picture", name := "parts", desc := "()I" } : Jvm.MethodName)) ∈ lw_all := lw_g (lw_at lw_m4 37 rfl) rfl
theorem q816 : (Jvm.Cond.selects "TufaSteps$Picture" ({ cls := "TufaSteps$Picture", name := "parts", desc := "()I" } : Jvm.MethodName) ({ cls := "TufaSteps$Picture", name := "parts", desc := "()I" } : Jvm.MethodName)) ∈ lw_all := lw_g (lw_at lw_m4 38 rfl) rfl
theorem q817 : (Jvm.Cond.code ({ cls := "TufaSteps$Picture", name := "parts", desc := "()I" } : Jvm.MethodName) prog_3_method_14_code (4 : Nat) (Option.some Jvm.ClassFile.FieldType.int)) ∈ lw_all := lw_g (lw_at lw_m4 39 rfl) rfl
theorem q818 : (Jvm.Cond.methodLink "TufaSteps$Picture" (121 : Nat) ({ cls := "TufaSteps$Picture", name := "reached", desc := "(II)Ljava/util/BitSet;" } : Jvm.MethodName)) ∈ lw_all := lw_g (lw_at lw_m4 40 rfl) rfl
theorem q819 : (Jvm.Cond.instanceMethod ({ cls := "TufaSteps$Picture", name := "reached", desc := "(II)Ljava/util/BitSet;" } : Jvm.MethodName)) ∈ lw_all := lw_g (lw_at lw_m4 41 rfl) rfl
theorem q820 : (Jvm.Cond.selects "TufaSteps$Picture" ({ cls := "TufaSteps$Picture", name := "reached", desc := "(II)Ljava/util/BitSet;" } : Jvm.MethodName) ({ cls := "TufaSteps$Picture", name := "reached", desc := "(II)Ljava/util/BitSet;" } : Jvm.MethodName)) ∈ lw_all := lw_g (lw_at lw_m4 42 rfl) rfl
theorem q821 : (Jvm.Cond.code ({ cls := "TufaSteps$Picture", name := "reached", desc := "(II)Ljava/util/BitSet;" } : Jvm.MethodName) prog_3_method_13_code (8 : Nat) (Option.some (Jvm.ClassFile.FieldType.object "java/util/BitSet"))) ∈ lw_all := lw_g (lw_at lw_m4 43 rfl) rfl
theorem q822 : (Jvm.Cond.classLink "TufaSteps$Picture" (84 : Nat) "java/util/ArrayDeque") ∈ lw_all := lw_g (lw_at lw_m4 44 rfl) rfl
theorem q824 : (Jvm.Cond.methodLink "TufaSteps$Picture" (86 : Nat) ({ cls := "java/util/ArrayDeque", name := "<init>", desc := "()V" } : Jvm.MethodName)) ∈ lw_all := lw_g (lw_at lw_m4 46 rfl) rfl
theorem q840 : (Jvm.Cond.methodLink "TufaSteps$Picture" (87 : Nat) ({ cls := "java/util/BitSet", name := "set", desc := "(I)V" } : Jvm.MethodName)) ∈ lw_all := lw_g (lw_at lw_m4 62 rfl) rfl
theorem q841 : (Jvm.Cond.methodLink "TufaSteps$Picture" (91 : Nat) ({ cls := "java/lang/Integer", name := "valueOf", desc := "(I)Ljava/lang/Integer;" } : Jvm.MethodName)) ∈ lw_all := lw_g (lw_at lw_m4 63 rfl) rfl
theorem q861 : (Jvm.Cond.methodLink "TufaSteps$Picture" (95 : Nat) ({ cls := "java/util/ArrayDeque", name := "add", desc := "(Ljava/lang/Object;)Z" } : Jvm.MethodName)) ∈ lw_all := lw_g (lw_at lw_m4 83 rfl) rfl
theorem q889 : (Jvm.Cond.selects "TufaSteps$Picture" ({ cls := "java/lang/Object", name := "getClass", desc := "()Ljava/lang/Class;" } : Jvm.MethodName) ({ cls := "java/lang/Object", name := "getClass", desc := "()Ljava/lang/Class;" } : Jvm.MethodName)) ∈ lw_all := lw_g (lw_at lw_m4 111 rfl) rfl
theorem q916 : (Jvm.Cond.methodLink "TufaSteps$Picture" (99 : Nat) ({ cls := "java/util/ArrayDeque", name := "isEmpty", desc := "()Z" } : Jvm.MethodName)) ∈ lw_all := lw_g (lw_at lw_m4 138 rfl) rfl
theorem q920 : (Jvm.Cond.methodLink "TufaSteps$Picture" (103 : Nat) ({ cls := "java/util/ArrayDeque", name := "remove", desc := "()Ljava/lang/Object;" } : Jvm.MethodName)) ∈ lw_all := lw_g (lw_at lw_m4 142 rfl) rfl
theorem q937 : (Jvm.Cond.classLink "TufaSteps$Picture" (66 : Nat) "java/lang/Integer") ∈ lw_all := lw_g (lw_at lw_m4 159 rfl) rfl
theorem q938 : (Jvm.Cond.methodLink "TufaSteps$Picture" (107 : Nat) ({ cls := "java/lang/Integer", name := "intValue", desc := "()I" } : Jvm.MethodName)) ∈ lw_all := lw_g (lw_at lw_m4 160 rfl) rfl
theorem q942 : (Jvm.Cond.methodLink "TufaSteps$Picture" (110 : Nat) ({ cls := "TufaSteps$Picture", name := "beside", desc := "(II)I" } : Jvm.MethodName)) ∈ lw_all := lw_g (lw_at lw_m4 164 rfl) rfl
theorem q943 : (Jvm.Cond.instanceMethod ({ cls := "TufaSteps$Picture", name := "beside", desc := "(II)I" } : Jvm.MethodName)) ∈ lw_all := lw_g (lw_at lw_m4 165 rfl) rfl
theorem q944 : (Jvm.Cond.selects "TufaSteps$Picture" ({ cls := "TufaSteps$Picture", name := "beside", desc := "(II)I" } : Jvm.MethodName) ({ cls := "TufaSteps$Picture", name := "beside", desc := "(II)I" } : Jvm.MethodName)) ∈ lw_all := lw_g (lw_at lw_m4 166 rfl) rfl
theorem q945 : (Jvm.Cond.code ({ cls := "TufaSteps$Picture", name := "beside", desc := "(II)I" } : Jvm.MethodName) prog_3_method_7_code (5 : Nat) (Option.some Jvm.ClassFile.FieldType.int)) ∈ lw_all := lw_g (lw_at lw_m4 167 rfl) rfl
theorem q946 : (Jvm.Cond.methodLink "TufaSteps$Picture" (114 : Nat) ({ cls := "java/util/ArrayDeque", name := "addLast", desc := "(Ljava/lang/Object;)V" } : Jvm.MethodName)) ∈ lw_all := lw_g (lw_at lw_m4 168 rfl) rfl
theorem q952 : (Jvm.Cond.instanceMethod ({ cls := "TufaSteps$Picture", name := "holes", desc := "()I" } : Jvm.MethodName)) ∈ lw_all := lw_g (lw_at lw_m4 174 rfl) rfl
theorem q953 : (Jvm.Cond.selects "TufaSteps$Picture" ({ cls := "TufaSteps$Picture", name := "holes", desc := "()I" } : Jvm.MethodName) ({ cls := "TufaSteps$Picture", name := "holes", desc := "()I" } : Jvm.MethodName)) ∈ lw_all := lw_g (lw_at lw_m4 175 rfl) rfl
theorem q954 : (Jvm.Cond.code ({ cls := "TufaSteps$Picture", name := "holes", desc := "()I" } : Jvm.MethodName) prog_3_method_16_code (5 : Nat) (Option.some Jvm.ClassFile.FieldType.int)) ∈ lw_all := lw_g (lw_at lw_m4 176 rfl) rfl
theorem q955 : (Jvm.Cond.methodLink "TufaSteps$Picture" (125 : Nat) ({ cls := "TufaSteps$Picture", name := "cells", desc := "()I" } : Jvm.MethodName)) ∈ lw_all := lw_g (lw_at lw_m4 177 rfl) rfl
theorem q956 : (Jvm.Cond.methodLink "TufaSteps$Picture" (128 : Nat) ({ cls := "TufaSteps$Picture", name := "touches", desc := "(Ljava/util/BitSet;)Z" } : Jvm.MethodName)) ∈ lw_all := lw_g (lw_at lw_m4 178 rfl) rfl
theorem q957 : (Jvm.Cond.privateMethod ({ cls := "TufaSteps$Picture", name := "touches", desc := "(Ljava/util/BitSet;)Z" } : Jvm.MethodName)) ∈ lw_tbl := lw_at lw_m4 179 rfl
theorem q958 : (Jvm.Cond.instanceMethod ({ cls := "TufaSteps$Picture", name := "touches", desc := "(Ljava/util/BitSet;)Z" } : Jvm.MethodName)) ∈ lw_all := lw_g (lw_at lw_m4 180 rfl) rfl
theorem q959 : (Jvm.Cond.code ({ cls := "TufaSteps$Picture", name := "touches", desc := "(Ljava/util/BitSet;)Z" } : Jvm.MethodName) prog_3_method_15_code (5 : Nat) (Option.some Jvm.ClassFile.FieldType.boolean)) ∈ lw_all := lw_g (lw_at lw_m4 181 rfl) rfl
theorem q965 : (Jvm.Cond.instanceMethod ({ cls := "TufaSteps$Picture", name := "edges", desc := "()I" } : Jvm.MethodName)) ∈ lw_all := lw_g (lw_at lw_m4 187 rfl) rfl
theorem q966 : (Jvm.Cond.selects "TufaSteps$Picture" ({ cls := "TufaSteps$Picture", name := "edges", desc := "()I" } : Jvm.MethodName) ({ cls := "TufaSteps$Picture", name := "edges", desc := "()I" } : Jvm.MethodName)) ∈ lw_all := lw_g (lw_at lw_m4 188 rfl) rfl
theorem q967 : (Jvm.Cond.code ({ cls := "TufaSteps$Picture", name := "edges", desc := "()I" } : Jvm.MethodName) prog_3_method_17_code (4 : Nat) (Option.some Jvm.ClassFile.FieldType.int)) ∈ lw_all := lw_g (lw_at lw_m4 189 rfl) rfl
theorem q991 : (Jvm.Cond.instanceMethod ({ cls := "TufaSteps$Picture", name := "seen", desc := "(IIZ)I" } : Jvm.MethodName)) ∈ lw_all := lw_g (lw_at lw_m4 213 rfl) rfl
theorem q992 : (Jvm.Cond.selects "TufaSteps$Picture" ({ cls := "TufaSteps$Picture", name := "seen", desc := "(IIZ)I" } : Jvm.MethodName) ({ cls := "TufaSteps$Picture", name := "seen", desc := "(IIZ)I" } : Jvm.MethodName)) ∈ lw_all := lw_g (lw_at lw_m4 214 rfl) rfl
theorem q993 : (Jvm.Cond.code ({ cls := "TufaSteps$Picture", name := "seen", desc := "(IIZ)I" } : Jvm.MethodName) prog_3_method_21_code (9 : Nat) (Option.some Jvm.ClassFile.FieldType.int)) ∈ lw_all := lw_g (lw_at lw_m4 215 rfl) rfl
theorem q994 : (Jvm.Cond.constant "TufaSteps$Picture" (158 : Nat) (2147483647 : Int32)) ∈ lw_all := lw_g (lw_at lw_m4 216 rfl) rfl
theorem q995 : (Jvm.Cond.methodLink "TufaSteps$Picture" (54 : Nat) ({ cls := "java/lang/Math", name := "abs", desc := "(I)I" } : Jvm.MethodName)) ∈ lw_all := lw_g (lw_at lw_m4 217 rfl) rfl
theorem q998 : (Jvm.Cond.methodLink "TufaSteps$Picture" (159 : Nat) ({ cls := "java/lang/Math", name := "max", desc := "(II)I" } : Jvm.MethodName)) ∈ lw_all := lw_g (lw_at lw_m4 220 rfl) rfl
theorem q1235 : (Jvm.Cond.privateMethod ({ cls := "TufaSteps$Picture", name := "pen", desc := "(Z)LTufaSteps$Pen;" } : Jvm.MethodName)) ∈ lw_tbl := lw_at lw_m5 217 rfl
theorem q1236 : (Jvm.Cond.instanceMethod ({ cls := "TufaSteps$Picture", name := "pen", desc := "(Z)LTufaSteps$Pen;" } : Jvm.MethodName)) ∈ lw_all := lw_g (lw_at lw_m5 218 rfl) rfl
theorem q1237 : (Jvm.Cond.code ({ cls := "TufaSteps$Picture", name := "pen", desc := "(Z)LTufaSteps$Pen;" } : Jvm.MethodName) prog_3_method_11_code (2 : Nat) (Option.some (Jvm.ClassFile.FieldType.object "TufaSteps$Pen"))) ∈ lw_all := lw_g (lw_at lw_m5 219 rfl) rfl
theorem q1238 : (Jvm.Cond.privateMethod ({ cls := "TufaSteps$Picture", name := "lambda$pen$0", desc := "(ZII)V" } : Jvm.MethodName)) ∈ lw_tbl := lw_at lw_m5 220 rfl
theorem q1239 : (Jvm.Cond.instanceMethod ({ cls := "TufaSteps$Picture", name := "lambda$pen$0", desc := "(ZII)V" } : Jvm.MethodName)) ∈ lw_all := lw_g (lw_at lw_m5 221 rfl) rfl
theorem q1240 : (Jvm.Cond.code ({ cls := "TufaSteps$Picture", name := "lambda$pen$0", desc := "(ZII)V" } : Jvm.MethodName) prog_3_method_26_code (4 : Nat) (Option.none : Option Jvm.ClassFile.FieldType)) ∈ lw_all := lw_g (lw_at lw_m5 222 rfl) rfl
theorem q1242 : (Jvm.Cond.privateMethod ({ cls := "TufaSteps$Picture", name := "drawLine", desc := "(IIIILTufaSteps$Pen;)V" } : Jvm.MethodName)) ∈ lw_tbl := lw_at lw_m5 224 rfl
theorem q1243 : (Jvm.Cond.instanceMethod ({ cls := "TufaSteps$Picture", name := "drawLine", desc := "(IIIILTufaSteps$Pen;)V" } : Jvm.MethodName)) ∈ lw_all := lw_g (lw_at lw_m5 225 rfl) rfl
theorem q1244 : (Jvm.Cond.code ({ cls := "TufaSteps$Picture", name := "drawLine", desc := "(IIIILTufaSteps$Pen;)V" } : Jvm.MethodName) prog_3_method_9_code (12 : Nat) (Option.none : Option Jvm.ClassFile.FieldType)) ∈ lw_all := lw_g (lw_at lw_m5 226 rfl) rfl
theorem q1245 : (Jvm.Cond.interfaceEntry "TufaSteps$Picture" (59 : Nat)) ∈ lw_tbl := lw_at lw_m5 227 rfl
theorem q1246 : (Jvm.Cond.methodLink "TufaSteps$Picture" (59 : Nat) ({ cls := "TufaSteps$Pen", name := "draw", desc := "(II)V" } : Jvm.MethodName)) ∈ lw_all := lw_g (lw_at lw_m5 228 rfl) rfl
theorem q1249 : (Jvm.Cond.methodLink "TufaSteps$Picture" (65 : Nat) ({ cls := "java/lang/Integer", name := "signum", desc := "(I)I" } : Jvm.MethodName)) ∈ lw_all := lw_g (lw_at lw_m5 231 rfl) rfl
theorem q1261 : (Jvm.Cond.privateMethod ({ cls := "TufaSteps$Picture", name := "drawCircle", desc := "(IIILTufaSteps$Pen;)V" } : Jvm.MethodName)) ∈ lw_tbl := lw_at lw_m6 3 rfl
theorem q1262 : (Jvm.Cond.instanceMethod ({ cls := "TufaSteps$Picture", name := "drawCircle", desc := "(IIILTufaSteps$Pen;)V" } : Jvm.MethodName)) ∈ lw_all := lw_g (lw_at lw_m6 4 rfl) rfl
theorem q1263 : (Jvm.Cond.code ({ cls := "TufaSteps$Picture", name := "drawCircle", desc := "(IIILTufaSteps$Pen;)V" } : Jvm.MethodName) prog_3_method_10_code (11 : Nat) (Option.none : Option Jvm.ClassFile.FieldType)) ∈ lw_all := lw_g (lw_at lw_m6 5 rfl) rfl
theorem q1694 : (Jvm.Cond.castable "TufaSteps$Picture" "java/lang/Object") ∈ lw_tbl := lw_at lw_m7 196 rfl
theorem in_X2 : ∀ w ∈ wsX20, w ∈ lw_all := lw_in wsX20 [143, 145, 147] (by decide +kernel) (by decide +kernel)
/-! TufaStepsModel -/
set_option maxRecDepth 100000
def RX3 : String := "TufaStepsModel"
def TX3 : u_T := fun k => match k with
  | 0 => ("TufaStepsModel", "thrown", "I", false)
  | 1 => ("TufaStepsModel", "ink", "[Z", true)
  | 2 => ("TufaStepsModel", "stored", "[Z", true)
  | 3 => ("TufaStepsModel", "kept", "[Z", true)
  | 4 => ("TufaStepsModel", "goes", "[Z", true)
  | 5 => ("TufaStepsModel", "depth", "[I", true)
  | 6 => ("TufaStepsModel", "part", "[I", true)
  | 7 => ("TufaStepsModel", "wide", "I", false)
  | _ => ("TufaStepsModel", "high", "I", false)
def tyX3 : Nat → FieldType := fun k => match k with
  | 0 => .int
  | 1 => .array .boolean
  | 2 => .array .boolean
  | 3 => .array .boolean
  | 4 => .array .boolean
  | 5 => .array .int
  | 6 => .array .int
  | 7 => .int
  | _ => .int
abbrev wsX30 : List Cond := u_ws RX3 TX3 9
theorem nmX3 : ∀ a, a < 9 → ∀ b, b < 9 → a ≠ b → (TX3 a).2.1 ≠ (TX3 b).2.1 := by decide +kernel
theorem tyX3_ok : ∀ k, k < 9 → parseFieldDescriptor (TX3 k).2.2.1 = some (tyX3 k) := by decide +kernel
abbrev cX3_init : ByteArray := prog_11_method_1_code
def yX3_init : MethodName := ⟨RX3, "<init>", "()V"⟩
def dkwX3_init_2 : List UInt8 := [181, 0, 22, 42, 17, 4, 0, 188, 10, 181, 0, 26, 42, 16, 8, 16, 8, 182, 0, 29, 177]
abbrev dktX3_init_2 : List UInt8 := dkwX3_init_2 ++ []
def dkwX3_init_1 : List UInt8 := [17, 4, 0, 188, 4, 181, 0, 16, 42, 17, 4, 0, 188, 4, 181, 0, 19, 42, 17, 4, 0, 188, 10]
abbrev dktX3_init_1 : List UInt8 := dkwX3_init_1 ++ dktX3_init_2
def dkwX3_init_0 : List UInt8 := [42, 183, 0, 1, 42, 17, 4, 0, 188, 4, 181, 0, 7, 42, 17, 4, 0, 188, 4, 181, 0, 13, 42]
abbrev dktX3_init_0 : List UInt8 := dkwX3_init_0 ++ dktX3_init_1
theorem dksX3_init_0 : cX3_init.data.toList.drop 0 = dktX3_init_0 := by decide +kernel
theorem dksX3_init_1 : cX3_init.data.toList.drop 23 = dktX3_init_1 := dk_seg dksX3_init_0 23 rfl rfl
theorem dksX3_init_2 : cX3_init.data.toList.drop 46 = dktX3_init_2 := dk_seg dksX3_init_1 23 rfl rfl
theorem dX3_init_0 : decode cX3_init 0 = .ok (.aload_n 0, 1) := dk_42 (dk_at dksX3_init_0 0 rfl rfl)
theorem dX3_init_1 : decode cX3_init 1 = .ok (.invokespecial 1, 3) := dk_183 0 1 (dk_at dksX3_init_0 1 rfl rfl)
theorem dX3_init_4 : decode cX3_init 4 = .ok (.aload_n 0, 1) := dk_42 (dk_at dksX3_init_0 4 rfl rfl)
theorem dX3_init_5 : decode cX3_init 5 = .ok (.sipush 1024, 3) := dk_17 4 0 (dk_at dksX3_init_0 5 rfl rfl)
theorem dX3_init_8 : decode cX3_init 8 = .ok (.newarray .boolean, 2) := dk_188_4 (dk_at dksX3_init_0 8 rfl rfl)
theorem dX3_init_10 : decode cX3_init 10 = .ok (.putfield 7, 3) := dk_181 0 7 (dk_at dksX3_init_0 10 rfl rfl)
theorem dX3_init_13 : decode cX3_init 13 = .ok (.aload_n 0, 1) := dk_42 (dk_at dksX3_init_0 13 rfl rfl)
theorem dX3_init_14 : decode cX3_init 14 = .ok (.sipush 1024, 3) := dk_17 4 0 (dk_at dksX3_init_0 14 rfl rfl)
theorem dX3_init_17 : decode cX3_init 17 = .ok (.newarray .boolean, 2) := dk_188_4 (dk_at dksX3_init_0 17 rfl rfl)
theorem dX3_init_19 : decode cX3_init 19 = .ok (.putfield 13, 3) := dk_181 0 13 (dk_at dksX3_init_0 19 rfl rfl)
theorem dX3_init_22 : decode cX3_init 22 = .ok (.aload_n 0, 1) := dk_42 (dk_at dksX3_init_0 22 rfl rfl)
theorem dX3_init_23 : decode cX3_init 23 = .ok (.sipush 1024, 3) := dk_17 4 0 (dk_at dksX3_init_1 0 rfl rfl)
theorem dX3_init_26 : decode cX3_init 26 = .ok (.newarray .boolean, 2) := dk_188_4 (dk_at dksX3_init_1 3 rfl rfl)
theorem dX3_init_28 : decode cX3_init 28 = .ok (.putfield 16, 3) := dk_181 0 16 (dk_at dksX3_init_1 5 rfl rfl)
theorem dX3_init_31 : decode cX3_init 31 = .ok (.aload_n 0, 1) := dk_42 (dk_at dksX3_init_1 8 rfl rfl)
theorem dX3_init_32 : decode cX3_init 32 = .ok (.sipush 1024, 3) := dk_17 4 0 (dk_at dksX3_init_1 9 rfl rfl)
theorem dX3_init_35 : decode cX3_init 35 = .ok (.newarray .boolean, 2) := dk_188_4 (dk_at dksX3_init_1 12 rfl rfl)
theorem dX3_init_37 : decode cX3_init 37 = .ok (.putfield 19, 3) := dk_181 0 19 (dk_at dksX3_init_1 14 rfl rfl)
theorem dX3_init_40 : decode cX3_init 40 = .ok (.aload_n 0, 1) := dk_42 (dk_at dksX3_init_1 17 rfl rfl)
theorem dX3_init_41 : decode cX3_init 41 = .ok (.sipush 1024, 3) := dk_17 4 0 (dk_at dksX3_init_1 18 rfl rfl)
theorem dX3_init_44 : decode cX3_init 44 = .ok (.newarray .int, 2) := dk_188_10 (dk_at dksX3_init_1 21 rfl rfl)
theorem dX3_init_46 : decode cX3_init 46 = .ok (.putfield 22, 3) := dk_181 0 22 (dk_at dksX3_init_2 0 rfl rfl)
theorem dX3_init_49 : decode cX3_init 49 = .ok (.aload_n 0, 1) := dk_42 (dk_at dksX3_init_2 3 rfl rfl)
theorem dX3_init_50 : decode cX3_init 50 = .ok (.sipush 1024, 3) := dk_17 4 0 (dk_at dksX3_init_2 4 rfl rfl)
theorem dX3_init_53 : decode cX3_init 53 = .ok (.newarray .int, 2) := dk_188_10 (dk_at dksX3_init_2 7 rfl rfl)
theorem dX3_init_55 : decode cX3_init 55 = .ok (.putfield 26, 3) := dk_181 0 26 (dk_at dksX3_init_2 9 rfl rfl)
theorem dX3_init_58 : decode cX3_init 58 = .ok (.aload_n 0, 1) := dk_42 (dk_at dksX3_init_2 12 rfl rfl)
theorem dX3_init_59 : decode cX3_init 59 = .ok (.bipush 8, 2) := dk_16 8 (dk_at dksX3_init_2 13 rfl rfl)
theorem dX3_init_61 : decode cX3_init 61 = .ok (.bipush 8, 2) := dk_16 8 (dk_at dksX3_init_2 15 rfl rfl)
theorem dX3_init_63 : decode cX3_init 63 = .ok (.invokevirtual 29, 3) := dk_182 0 29 (dk_at dksX3_init_2 17 rfl rfl)
theorem dX3_init_66 : decode cX3_init 66 = .ok (.return_, 1) := dk_177 (dk_at dksX3_init_2 20 rfl rfl)
abbrev cX3_begins : ByteArray := prog_11_method_5_code
def yX3_begins : MethodName := ⟨RX3, "begins", "(II)V"⟩
def dkwX3_begins_1 : List UInt8 := [3, 84, 42, 180, 0, 13, 29, 3, 84, 132, 3, 1, 167, 255, 232, 177]
abbrev dktX3_begins_1 : List UInt8 := dkwX3_begins_1 ++ []
def dkwX3_begins_0 : List UInt8 := [42, 27, 181, 0, 37, 42, 28, 181, 0, 40, 3, 62, 29, 17, 4, 0, 162, 0, 23, 42, 180, 0, 7, 29]
abbrev dktX3_begins_0 : List UInt8 := dkwX3_begins_0 ++ dktX3_begins_1
theorem dksX3_begins_0 : cX3_begins.data.toList.drop 0 = dktX3_begins_0 := by decide +kernel
theorem dksX3_begins_1 : cX3_begins.data.toList.drop 24 = dktX3_begins_1 := dk_seg dksX3_begins_0 24 rfl rfl
theorem dX3_begins_0 : decode cX3_begins 0 = .ok (.aload_n 0, 1) := dk_42 (dk_at dksX3_begins_0 0 rfl rfl)
theorem dX3_begins_1 : decode cX3_begins 1 = .ok (.iload_n 1, 1) := dk_27 (dk_at dksX3_begins_0 1 rfl rfl)
theorem dX3_begins_2 : decode cX3_begins 2 = .ok (.putfield 37, 3) := dk_181 0 37 (dk_at dksX3_begins_0 2 rfl rfl)
theorem dX3_begins_5 : decode cX3_begins 5 = .ok (.aload_n 0, 1) := dk_42 (dk_at dksX3_begins_0 5 rfl rfl)
theorem dX3_begins_6 : decode cX3_begins 6 = .ok (.iload_n 2, 1) := dk_28 (dk_at dksX3_begins_0 6 rfl rfl)
theorem dX3_begins_7 : decode cX3_begins 7 = .ok (.putfield 40, 3) := dk_181 0 40 (dk_at dksX3_begins_0 7 rfl rfl)
theorem dX3_begins_10 : decode cX3_begins 10 = .ok (.iconst 0, 1) := dk_3 (dk_at dksX3_begins_0 10 rfl rfl)
theorem dX3_begins_11 : decode cX3_begins 11 = .ok (.istore_n 3, 1) := dk_62 (dk_at dksX3_begins_0 11 rfl rfl)
theorem dX3_begins_12 : decode cX3_begins 12 = .ok (.iload_n 3, 1) := dk_29 (dk_at dksX3_begins_0 12 rfl rfl)
theorem dX3_begins_13 : decode cX3_begins 13 = .ok (.sipush 1024, 3) := dk_17 4 0 (dk_at dksX3_begins_0 13 rfl rfl)
theorem dX3_begins_16 : decode cX3_begins 16 = .ok (.if_icmp .ge 23, 3) := dk_162 0 23 (dk_at dksX3_begins_0 16 rfl rfl)
theorem dX3_begins_19 : decode cX3_begins 19 = .ok (.aload_n 0, 1) := dk_42 (dk_at dksX3_begins_0 19 rfl rfl)
theorem dX3_begins_20 : decode cX3_begins 20 = .ok (.getfield 7, 3) := dk_180 0 7 (dk_at dksX3_begins_0 20 rfl rfl)
theorem dX3_begins_23 : decode cX3_begins 23 = .ok (.iload_n 3, 1) := dk_29 (dk_at dksX3_begins_0 23 rfl rfl)
theorem dX3_begins_24 : decode cX3_begins 24 = .ok (.iconst 0, 1) := dk_3 (dk_at dksX3_begins_1 0 rfl rfl)
theorem dX3_begins_25 : decode cX3_begins 25 = .ok (.bastore, 1) := dk_84 (dk_at dksX3_begins_1 1 rfl rfl)
theorem dX3_begins_26 : decode cX3_begins 26 = .ok (.aload_n 0, 1) := dk_42 (dk_at dksX3_begins_1 2 rfl rfl)
theorem dX3_begins_27 : decode cX3_begins 27 = .ok (.getfield 13, 3) := dk_180 0 13 (dk_at dksX3_begins_1 3 rfl rfl)
theorem dX3_begins_30 : decode cX3_begins 30 = .ok (.iload_n 3, 1) := dk_29 (dk_at dksX3_begins_1 6 rfl rfl)
theorem dX3_begins_31 : decode cX3_begins 31 = .ok (.iconst 0, 1) := dk_3 (dk_at dksX3_begins_1 7 rfl rfl)
theorem dX3_begins_32 : decode cX3_begins 32 = .ok (.bastore, 1) := dk_84 (dk_at dksX3_begins_1 8 rfl rfl)
theorem dX3_begins_33 : decode cX3_begins 33 = .ok (.iinc 3 1, 3) := dk_132 3 1 (dk_at dksX3_begins_1 9 rfl rfl)
theorem dX3_begins_36 : decode cX3_begins 36 = .ok (.goto (-24), 3) := dk_167 255 232 (dk_at dksX3_begins_1 12 rfl rfl)
theorem dX3_begins_39 : decode cX3_begins 39 = .ok (.return_, 1) := dk_177 (dk_at dksX3_begins_1 15 rfl rfl)
abbrev cX3_thrown : ByteArray := prog_11_method_2_code
def yX3_thrown : MethodName := ⟨RX3, "thrown", "()I"⟩
theorem dX3_thrown_0 : decode cX3_thrown 0 = .ok (.aload_n 0, 1) := by decide +kernel
theorem dX3_thrown_1 : decode cX3_thrown 1 = .ok (.getfield 33, 3) := by decide +kernel
theorem dX3_thrown_4 : decode cX3_thrown 4 = .ok (.ireturn, 1) := by decide +kernel
abbrev cX3_open : ByteArray := prog_11_method_36_code
def yX3_open : MethodName := ⟨RX3, "open", "(II)I"⟩
def dkwX3_open_2 : List UInt8 := [42, 180, 0, 40, 96, 62, 42, 27, 28, 182, 0, 29, 29, 172]
abbrev dktX3_open_2 : List UInt8 := dkwX3_open_2 ++ []
def dkwX3_open_1 : List UInt8 := [153, 0, 7, 4, 167, 0, 4, 3, 4, 182, 0, 121, 154, 0, 5, 3, 172, 16, 100, 42, 180, 0, 37, 104]
abbrev dktX3_open_1 : List UInt8 := dkwX3_open_1 ++ dktX3_open_2
def dkwX3_open_0 : List UInt8 := [42, 3, 181, 0, 33, 42, 27, 4, 16, 32, 184, 0, 43, 153, 0, 17, 28, 4, 16, 32, 184, 0, 43]
abbrev dktX3_open_0 : List UInt8 := dkwX3_open_0 ++ dktX3_open_1
theorem dksX3_open_0 : cX3_open.data.toList.drop 0 = dktX3_open_0 := by decide +kernel
theorem dksX3_open_1 : cX3_open.data.toList.drop 23 = dktX3_open_1 := dk_seg dksX3_open_0 23 rfl rfl
theorem dksX3_open_2 : cX3_open.data.toList.drop 47 = dktX3_open_2 := dk_seg dksX3_open_1 24 rfl rfl
theorem dX3_open_0 : decode cX3_open 0 = .ok (.aload_n 0, 1) := dk_42 (dk_at dksX3_open_0 0 rfl rfl)
theorem dX3_open_1 : decode cX3_open 1 = .ok (.iconst 0, 1) := dk_3 (dk_at dksX3_open_0 1 rfl rfl)
theorem dX3_open_2 : decode cX3_open 2 = .ok (.putfield 33, 3) := dk_181 0 33 (dk_at dksX3_open_0 2 rfl rfl)
theorem dX3_open_5 : decode cX3_open 5 = .ok (.aload_n 0, 1) := dk_42 (dk_at dksX3_open_0 5 rfl rfl)
theorem dX3_open_6 : decode cX3_open 6 = .ok (.iload_n 1, 1) := dk_27 (dk_at dksX3_open_0 6 rfl rfl)
theorem dX3_open_7 : decode cX3_open 7 = .ok (.iconst 1, 1) := dk_4 (dk_at dksX3_open_0 7 rfl rfl)
theorem dX3_open_8 : decode cX3_open 8 = .ok (.bipush 32, 2) := dk_16 32 (dk_at dksX3_open_0 8 rfl rfl)
theorem dX3_open_10 : decode cX3_open 10 = .ok (.invokestatic 43, 3) := dk_184 0 43 (dk_at dksX3_open_0 10 rfl rfl)
theorem dX3_open_13 : decode cX3_open 13 = .ok (.ifCond .eq 17, 3) := dk_153 0 17 (dk_at dksX3_open_0 13 rfl rfl)
theorem dX3_open_16 : decode cX3_open 16 = .ok (.iload_n 2, 1) := dk_28 (dk_at dksX3_open_0 16 rfl rfl)
theorem dX3_open_17 : decode cX3_open 17 = .ok (.iconst 1, 1) := dk_4 (dk_at dksX3_open_0 17 rfl rfl)
theorem dX3_open_18 : decode cX3_open 18 = .ok (.bipush 32, 2) := dk_16 32 (dk_at dksX3_open_0 18 rfl rfl)
theorem dX3_open_20 : decode cX3_open 20 = .ok (.invokestatic 43, 3) := dk_184 0 43 (dk_at dksX3_open_0 20 rfl rfl)
theorem dX3_open_23 : decode cX3_open 23 = .ok (.ifCond .eq 7, 3) := dk_153 0 7 (dk_at dksX3_open_1 0 rfl rfl)
theorem dX3_open_26 : decode cX3_open 26 = .ok (.iconst 1, 1) := dk_4 (dk_at dksX3_open_1 3 rfl rfl)
theorem dX3_open_27 : decode cX3_open 27 = .ok (.goto 4, 3) := dk_167 0 4 (dk_at dksX3_open_1 4 rfl rfl)
theorem dX3_open_30 : decode cX3_open 30 = .ok (.iconst 0, 1) := dk_3 (dk_at dksX3_open_1 7 rfl rfl)
theorem dX3_open_31 : decode cX3_open 31 = .ok (.iconst 1, 1) := dk_4 (dk_at dksX3_open_1 8 rfl rfl)
theorem dX3_open_32 : decode cX3_open 32 = .ok (.invokevirtual 121, 3) := dk_182 0 121 (dk_at dksX3_open_1 9 rfl rfl)
theorem dX3_open_35 : decode cX3_open 35 = .ok (.ifCond .ne 5, 3) := dk_154 0 5 (dk_at dksX3_open_1 12 rfl rfl)
theorem dX3_open_38 : decode cX3_open 38 = .ok (.iconst 0, 1) := dk_3 (dk_at dksX3_open_1 15 rfl rfl)
theorem dX3_open_39 : decode cX3_open 39 = .ok (.ireturn, 1) := dk_172 (dk_at dksX3_open_1 16 rfl rfl)
theorem dX3_open_40 : decode cX3_open 40 = .ok (.bipush 100, 2) := dk_16 100 (dk_at dksX3_open_1 17 rfl rfl)
theorem dX3_open_42 : decode cX3_open 42 = .ok (.aload_n 0, 1) := dk_42 (dk_at dksX3_open_1 19 rfl rfl)
theorem dX3_open_43 : decode cX3_open 43 = .ok (.getfield 37, 3) := dk_180 0 37 (dk_at dksX3_open_1 20 rfl rfl)
theorem dX3_open_46 : decode cX3_open 46 = .ok (.imul, 1) := dk_104 (dk_at dksX3_open_1 23 rfl rfl)
theorem dX3_open_47 : decode cX3_open 47 = .ok (.aload_n 0, 1) := dk_42 (dk_at dksX3_open_2 0 rfl rfl)
theorem dX3_open_48 : decode cX3_open 48 = .ok (.getfield 40, 3) := dk_180 0 40 (dk_at dksX3_open_2 1 rfl rfl)
theorem dX3_open_51 : decode cX3_open 51 = .ok (.iadd, 1) := dk_96 (dk_at dksX3_open_2 4 rfl rfl)
theorem dX3_open_52 : decode cX3_open 52 = .ok (.istore_n 3, 1) := dk_62 (dk_at dksX3_open_2 5 rfl rfl)
theorem dX3_open_53 : decode cX3_open 53 = .ok (.aload_n 0, 1) := dk_42 (dk_at dksX3_open_2 6 rfl rfl)
theorem dX3_open_54 : decode cX3_open 54 = .ok (.iload_n 1, 1) := dk_27 (dk_at dksX3_open_2 7 rfl rfl)
theorem dX3_open_55 : decode cX3_open 55 = .ok (.iload_n 2, 1) := dk_28 (dk_at dksX3_open_2 8 rfl rfl)
theorem dX3_open_56 : decode cX3_open 56 = .ok (.invokevirtual 29, 3) := dk_182 0 29 (dk_at dksX3_open_2 9 rfl rfl)
theorem dX3_open_59 : decode cX3_open 59 = .ok (.iload_n 3, 1) := dk_29 (dk_at dksX3_open_2 12 rfl rfl)
theorem dX3_open_60 : decode cX3_open 60 = .ok (.ireturn, 1) := dk_172 (dk_at dksX3_open_2 13 rfl rfl)
abbrev cX3_isIn : ByteArray := prog_11_method_3_code
def yX3_isIn : MethodName := ⟨RX3, "isIn", "(III)Z"⟩
def dkwX3_isIn_0 : List UInt8 := [26, 27, 161, 0, 12, 26, 28, 163, 0, 7, 4, 167, 0, 4, 3, 172]
abbrev dktX3_isIn_0 : List UInt8 := dkwX3_isIn_0 ++ []
theorem dksX3_isIn_0 : cX3_isIn.data.toList.drop 0 = dktX3_isIn_0 := by decide +kernel
theorem dX3_isIn_0 : decode cX3_isIn 0 = .ok (.iload_n 0, 1) := dk_26 (dk_at dksX3_isIn_0 0 rfl rfl)
theorem dX3_isIn_1 : decode cX3_isIn 1 = .ok (.iload_n 1, 1) := dk_27 (dk_at dksX3_isIn_0 1 rfl rfl)
theorem dX3_isIn_2 : decode cX3_isIn 2 = .ok (.if_icmp .lt 12, 3) := dk_161 0 12 (dk_at dksX3_isIn_0 2 rfl rfl)
theorem dX3_isIn_5 : decode cX3_isIn 5 = .ok (.iload_n 0, 1) := dk_26 (dk_at dksX3_isIn_0 5 rfl rfl)
theorem dX3_isIn_6 : decode cX3_isIn 6 = .ok (.iload_n 2, 1) := dk_28 (dk_at dksX3_isIn_0 6 rfl rfl)
theorem dX3_isIn_7 : decode cX3_isIn 7 = .ok (.if_icmp .gt 7, 3) := dk_163 0 7 (dk_at dksX3_isIn_0 7 rfl rfl)
theorem dX3_isIn_10 : decode cX3_isIn 10 = .ok (.iconst 1, 1) := dk_4 (dk_at dksX3_isIn_0 10 rfl rfl)
theorem dX3_isIn_11 : decode cX3_isIn 11 = .ok (.goto 4, 3) := dk_167 0 4 (dk_at dksX3_isIn_0 11 rfl rfl)
theorem dX3_isIn_14 : decode cX3_isIn 14 = .ok (.iconst 0, 1) := dk_3 (dk_at dksX3_isIn_0 14 rfl rfl)
theorem dX3_isIn_15 : decode cX3_isIn 15 = .ok (.ireturn, 1) := dk_172 (dk_at dksX3_isIn_0 15 rfl rfl)
abbrev cX3_right : ByteArray := prog_11_method_4_code
def yX3_right : MethodName := ⟨RX3, "right", "(ZI)Z"⟩
def dkwX3_right_1 : List UInt8 := [167, 0, 4, 3, 172]
abbrev dktX3_right_1 : List UInt8 := dkwX3_right_1 ++ []
def dkwX3_right_0 : List UInt8 := [42, 180, 0, 33, 154, 0, 12, 27, 154, 0, 8, 42, 28, 181, 0, 33, 42, 180, 0, 33, 154, 0, 7, 4]
abbrev dktX3_right_0 : List UInt8 := dkwX3_right_0 ++ dktX3_right_1
theorem dksX3_right_0 : cX3_right.data.toList.drop 0 = dktX3_right_0 := by decide +kernel
theorem dksX3_right_1 : cX3_right.data.toList.drop 24 = dktX3_right_1 := dk_seg dksX3_right_0 24 rfl rfl
theorem dX3_right_0 : decode cX3_right 0 = .ok (.aload_n 0, 1) := dk_42 (dk_at dksX3_right_0 0 rfl rfl)
theorem dX3_right_1 : decode cX3_right 1 = .ok (.getfield 33, 3) := dk_180 0 33 (dk_at dksX3_right_0 1 rfl rfl)
theorem dX3_right_4 : decode cX3_right 4 = .ok (.ifCond .ne 12, 3) := dk_154 0 12 (dk_at dksX3_right_0 4 rfl rfl)
theorem dX3_right_7 : decode cX3_right 7 = .ok (.iload_n 1, 1) := dk_27 (dk_at dksX3_right_0 7 rfl rfl)
theorem dX3_right_8 : decode cX3_right 8 = .ok (.ifCond .ne 8, 3) := dk_154 0 8 (dk_at dksX3_right_0 8 rfl rfl)
theorem dX3_right_11 : decode cX3_right 11 = .ok (.aload_n 0, 1) := dk_42 (dk_at dksX3_right_0 11 rfl rfl)
theorem dX3_right_12 : decode cX3_right 12 = .ok (.iload_n 2, 1) := dk_28 (dk_at dksX3_right_0 12 rfl rfl)
theorem dX3_right_13 : decode cX3_right 13 = .ok (.putfield 33, 3) := dk_181 0 33 (dk_at dksX3_right_0 13 rfl rfl)
theorem dX3_right_16 : decode cX3_right 16 = .ok (.aload_n 0, 1) := dk_42 (dk_at dksX3_right_0 16 rfl rfl)
theorem dX3_right_17 : decode cX3_right 17 = .ok (.getfield 33, 3) := dk_180 0 33 (dk_at dksX3_right_0 17 rfl rfl)
theorem dX3_right_20 : decode cX3_right 20 = .ok (.ifCond .ne 7, 3) := dk_154 0 7 (dk_at dksX3_right_0 20 rfl rfl)
theorem dX3_right_23 : decode cX3_right 23 = .ok (.iconst 1, 1) := dk_4 (dk_at dksX3_right_0 23 rfl rfl)
theorem dX3_right_24 : decode cX3_right 24 = .ok (.goto 4, 3) := dk_167 0 4 (dk_at dksX3_right_1 0 rfl rfl)
theorem dX3_right_27 : decode cX3_right 27 = .ok (.iconst 0, 1) := dk_3 (dk_at dksX3_right_1 3 rfl rfl)
theorem dX3_right_28 : decode cX3_right 28 = .ok (.ireturn, 1) := dk_172 (dk_at dksX3_right_1 4 rfl rfl)
abbrev cX3_set : ByteArray := prog_11_method_37_code
def yX3_set : MethodName := ⟨RX3, "set", "(IIZ)Z"⟩
def dkwX3_set_1 : List UInt8 := [3, 29, 159, 0, 7, 4, 167, 0, 4, 3, 172]
abbrev dktX3_set_1 : List UInt8 := dkwX3_set_1 ++ []
def dkwX3_set_0 : List UInt8 := [42, 27, 28, 182, 0, 125, 153, 0, 27, 42, 27, 28, 29, 182, 0, 70, 4, 160, 0, 7, 4, 167, 0, 4]
abbrev dktX3_set_0 : List UInt8 := dkwX3_set_0 ++ dktX3_set_1
theorem dksX3_set_0 : cX3_set.data.toList.drop 0 = dktX3_set_0 := by decide +kernel
theorem dksX3_set_1 : cX3_set.data.toList.drop 24 = dktX3_set_1 := dk_seg dksX3_set_0 24 rfl rfl
theorem dX3_set_0 : decode cX3_set 0 = .ok (.aload_n 0, 1) := dk_42 (dk_at dksX3_set_0 0 rfl rfl)
theorem dX3_set_1 : decode cX3_set 1 = .ok (.iload_n 1, 1) := dk_27 (dk_at dksX3_set_0 1 rfl rfl)
theorem dX3_set_2 : decode cX3_set 2 = .ok (.iload_n 2, 1) := dk_28 (dk_at dksX3_set_0 2 rfl rfl)
theorem dX3_set_3 : decode cX3_set 3 = .ok (.invokevirtual 125, 3) := dk_182 0 125 (dk_at dksX3_set_0 3 rfl rfl)
theorem dX3_set_6 : decode cX3_set 6 = .ok (.ifCond .eq 27, 3) := dk_153 0 27 (dk_at dksX3_set_0 6 rfl rfl)
theorem dX3_set_9 : decode cX3_set 9 = .ok (.aload_n 0, 1) := dk_42 (dk_at dksX3_set_0 9 rfl rfl)
theorem dX3_set_10 : decode cX3_set 10 = .ok (.iload_n 1, 1) := dk_27 (dk_at dksX3_set_0 10 rfl rfl)
theorem dX3_set_11 : decode cX3_set 11 = .ok (.iload_n 2, 1) := dk_28 (dk_at dksX3_set_0 11 rfl rfl)
theorem dX3_set_12 : decode cX3_set 12 = .ok (.iload_n 3, 1) := dk_29 (dk_at dksX3_set_0 12 rfl rfl)
theorem dX3_set_13 : decode cX3_set 13 = .ok (.invokevirtual 70, 3) := dk_182 0 70 (dk_at dksX3_set_0 13 rfl rfl)
theorem dX3_set_16 : decode cX3_set 16 = .ok (.iconst 1, 1) := dk_4 (dk_at dksX3_set_0 16 rfl rfl)
theorem dX3_set_17 : decode cX3_set 17 = .ok (.if_icmp .ne 7, 3) := dk_160 0 7 (dk_at dksX3_set_0 17 rfl rfl)
theorem dX3_set_20 : decode cX3_set 20 = .ok (.iconst 1, 1) := dk_4 (dk_at dksX3_set_0 20 rfl rfl)
theorem dX3_set_21 : decode cX3_set 21 = .ok (.goto 4, 3) := dk_167 0 4 (dk_at dksX3_set_0 21 rfl rfl)
theorem dX3_set_24 : decode cX3_set 24 = .ok (.iconst 0, 1) := dk_3 (dk_at dksX3_set_1 0 rfl rfl)
theorem dX3_set_25 : decode cX3_set 25 = .ok (.iload_n 3, 1) := dk_29 (dk_at dksX3_set_1 1 rfl rfl)
theorem dX3_set_26 : decode cX3_set 26 = .ok (.if_icmp .eq 7, 3) := dk_159 0 7 (dk_at dksX3_set_1 2 rfl rfl)
theorem dX3_set_29 : decode cX3_set 29 = .ok (.iconst 1, 1) := dk_4 (dk_at dksX3_set_1 5 rfl rfl)
theorem dX3_set_30 : decode cX3_set 30 = .ok (.goto 4, 3) := dk_167 0 4 (dk_at dksX3_set_1 6 rfl rfl)
theorem dX3_set_33 : decode cX3_set 33 = .ok (.iconst 0, 1) := dk_3 (dk_at dksX3_set_1 9 rfl rfl)
theorem dX3_set_34 : decode cX3_set 34 = .ok (.ireturn, 1) := dk_172 (dk_at dksX3_set_1 10 rfl rfl)
abbrev cX3_cell : ByteArray := prog_11_method_34_code
def yX3_cell : MethodName := ⟨RX3, "cell", "(II)Z"⟩
def dkwX3_cell_0 : List UInt8 := [42, 3, 181, 0, 33, 42, 42, 27, 28, 182, 0, 47, 4, 182, 0, 121, 172]
abbrev dktX3_cell_0 : List UInt8 := dkwX3_cell_0 ++ []
theorem dksX3_cell_0 : cX3_cell.data.toList.drop 0 = dktX3_cell_0 := by decide +kernel
theorem dX3_cell_0 : decode cX3_cell 0 = .ok (.aload_n 0, 1) := dk_42 (dk_at dksX3_cell_0 0 rfl rfl)
theorem dX3_cell_1 : decode cX3_cell 1 = .ok (.iconst 0, 1) := dk_3 (dk_at dksX3_cell_0 1 rfl rfl)
theorem dX3_cell_2 : decode cX3_cell 2 = .ok (.putfield 33, 3) := dk_181 0 33 (dk_at dksX3_cell_0 2 rfl rfl)
theorem dX3_cell_5 : decode cX3_cell 5 = .ok (.aload_n 0, 1) := dk_42 (dk_at dksX3_cell_0 5 rfl rfl)
theorem dX3_cell_6 : decode cX3_cell 6 = .ok (.aload_n 0, 1) := dk_42 (dk_at dksX3_cell_0 6 rfl rfl)
theorem dX3_cell_7 : decode cX3_cell 7 = .ok (.iload_n 1, 1) := dk_27 (dk_at dksX3_cell_0 7 rfl rfl)
theorem dX3_cell_8 : decode cX3_cell 8 = .ok (.iload_n 2, 1) := dk_28 (dk_at dksX3_cell_0 8 rfl rfl)
theorem dX3_cell_9 : decode cX3_cell 9 = .ok (.invokevirtual 47, 3) := dk_182 0 47 (dk_at dksX3_cell_0 9 rfl rfl)
theorem dX3_cell_12 : decode cX3_cell 12 = .ok (.iconst 1, 1) := dk_4 (dk_at dksX3_cell_0 12 rfl rfl)
theorem dX3_cell_13 : decode cX3_cell 13 = .ok (.invokevirtual 121, 3) := dk_182 0 121 (dk_at dksX3_cell_0 13 rfl rfl)
theorem dX3_cell_16 : decode cX3_cell 16 = .ok (.ireturn, 1) := dk_172 (dk_at dksX3_cell_0 16 rfl rfl)
abbrev cX3_isBoard : ByteArray := prog_11_method_7_code
def yX3_isBoard : MethodName := ⟨RX3, "isBoard", "(II)Z"⟩
def dkwX3_isBoard_1 : List UInt8 := [184, 0, 43, 153, 0, 7, 4, 167, 0, 4, 3, 172]
abbrev dktX3_isBoard_1 : List UInt8 := dkwX3_isBoard_1 ++ []
def dkwX3_isBoard_0 : List UInt8 := [27, 3, 42, 180, 0, 37, 4, 100, 184, 0, 43, 153, 0, 21, 28, 3, 42, 180, 0, 40, 4, 100]
abbrev dktX3_isBoard_0 : List UInt8 := dkwX3_isBoard_0 ++ dktX3_isBoard_1
theorem dksX3_isBoard_0 : cX3_isBoard.data.toList.drop 0 = dktX3_isBoard_0 := by decide +kernel
theorem dksX3_isBoard_1 : cX3_isBoard.data.toList.drop 22 = dktX3_isBoard_1 := dk_seg dksX3_isBoard_0 22 rfl rfl
theorem dX3_isBoard_0 : decode cX3_isBoard 0 = .ok (.iload_n 1, 1) := dk_27 (dk_at dksX3_isBoard_0 0 rfl rfl)
theorem dX3_isBoard_1 : decode cX3_isBoard 1 = .ok (.iconst 0, 1) := dk_3 (dk_at dksX3_isBoard_0 1 rfl rfl)
theorem dX3_isBoard_2 : decode cX3_isBoard 2 = .ok (.aload_n 0, 1) := dk_42 (dk_at dksX3_isBoard_0 2 rfl rfl)
theorem dX3_isBoard_3 : decode cX3_isBoard 3 = .ok (.getfield 37, 3) := dk_180 0 37 (dk_at dksX3_isBoard_0 3 rfl rfl)
theorem dX3_isBoard_6 : decode cX3_isBoard 6 = .ok (.iconst 1, 1) := dk_4 (dk_at dksX3_isBoard_0 6 rfl rfl)
theorem dX3_isBoard_7 : decode cX3_isBoard 7 = .ok (.isub, 1) := dk_100 (dk_at dksX3_isBoard_0 7 rfl rfl)
theorem dX3_isBoard_8 : decode cX3_isBoard 8 = .ok (.invokestatic 43, 3) := dk_184 0 43 (dk_at dksX3_isBoard_0 8 rfl rfl)
theorem dX3_isBoard_11 : decode cX3_isBoard 11 = .ok (.ifCond .eq 21, 3) := dk_153 0 21 (dk_at dksX3_isBoard_0 11 rfl rfl)
theorem dX3_isBoard_14 : decode cX3_isBoard 14 = .ok (.iload_n 2, 1) := dk_28 (dk_at dksX3_isBoard_0 14 rfl rfl)
theorem dX3_isBoard_15 : decode cX3_isBoard 15 = .ok (.iconst 0, 1) := dk_3 (dk_at dksX3_isBoard_0 15 rfl rfl)
theorem dX3_isBoard_16 : decode cX3_isBoard 16 = .ok (.aload_n 0, 1) := dk_42 (dk_at dksX3_isBoard_0 16 rfl rfl)
theorem dX3_isBoard_17 : decode cX3_isBoard 17 = .ok (.getfield 40, 3) := dk_180 0 40 (dk_at dksX3_isBoard_0 17 rfl rfl)
theorem dX3_isBoard_20 : decode cX3_isBoard 20 = .ok (.iconst 1, 1) := dk_4 (dk_at dksX3_isBoard_0 20 rfl rfl)
theorem dX3_isBoard_21 : decode cX3_isBoard 21 = .ok (.isub, 1) := dk_100 (dk_at dksX3_isBoard_0 21 rfl rfl)
theorem dX3_isBoard_22 : decode cX3_isBoard 22 = .ok (.invokestatic 43, 3) := dk_184 0 43 (dk_at dksX3_isBoard_1 0 rfl rfl)
theorem dX3_isBoard_25 : decode cX3_isBoard 25 = .ok (.ifCond .eq 7, 3) := dk_153 0 7 (dk_at dksX3_isBoard_1 3 rfl rfl)
theorem dX3_isBoard_28 : decode cX3_isBoard 28 = .ok (.iconst 1, 1) := dk_4 (dk_at dksX3_isBoard_1 6 rfl rfl)
theorem dX3_isBoard_29 : decode cX3_isBoard 29 = .ok (.goto 4, 3) := dk_167 0 4 (dk_at dksX3_isBoard_1 7 rfl rfl)
theorem dX3_isBoard_32 : decode cX3_isBoard 32 = .ok (.iconst 0, 1) := dk_3 (dk_at dksX3_isBoard_1 10 rfl rfl)
theorem dX3_isBoard_33 : decode cX3_isBoard 33 = .ok (.ireturn, 1) := dk_172 (dk_at dksX3_isBoard_1 11 rfl rfl)
abbrev cX3_draws : ByteArray := prog_11_method_9_code
def yX3_draws : MethodName := ⟨RX3, "draws", "(IIZ)I"⟩
def dkwX3_draws_1 : List UInt8 := [160, 0, 5, 3, 172, 42, 180, 0, 7, 28, 42, 180, 0, 37, 104, 27, 96, 29, 84, 4, 172]
abbrev dktX3_draws_1 : List UInt8 := dkwX3_draws_1 ++ []
def dkwX3_draws_0 : List UInt8 := [42, 27, 28, 182, 0, 47, 153, 0, 20, 42, 180, 0, 7, 28, 42, 180, 0, 37, 104, 27, 96, 51, 29]
abbrev dktX3_draws_0 : List UInt8 := dkwX3_draws_0 ++ dktX3_draws_1
theorem dksX3_draws_0 : cX3_draws.data.toList.drop 0 = dktX3_draws_0 := by decide +kernel
theorem dksX3_draws_1 : cX3_draws.data.toList.drop 23 = dktX3_draws_1 := dk_seg dksX3_draws_0 23 rfl rfl
theorem dX3_draws_0 : decode cX3_draws 0 = .ok (.aload_n 0, 1) := dk_42 (dk_at dksX3_draws_0 0 rfl rfl)
theorem dX3_draws_1 : decode cX3_draws 1 = .ok (.iload_n 1, 1) := dk_27 (dk_at dksX3_draws_0 1 rfl rfl)
theorem dX3_draws_2 : decode cX3_draws 2 = .ok (.iload_n 2, 1) := dk_28 (dk_at dksX3_draws_0 2 rfl rfl)
theorem dX3_draws_3 : decode cX3_draws 3 = .ok (.invokevirtual 47, 3) := dk_182 0 47 (dk_at dksX3_draws_0 3 rfl rfl)
theorem dX3_draws_6 : decode cX3_draws 6 = .ok (.ifCond .eq 20, 3) := dk_153 0 20 (dk_at dksX3_draws_0 6 rfl rfl)
theorem dX3_draws_9 : decode cX3_draws 9 = .ok (.aload_n 0, 1) := dk_42 (dk_at dksX3_draws_0 9 rfl rfl)
theorem dX3_draws_10 : decode cX3_draws 10 = .ok (.getfield 7, 3) := dk_180 0 7 (dk_at dksX3_draws_0 10 rfl rfl)
theorem dX3_draws_13 : decode cX3_draws 13 = .ok (.iload_n 2, 1) := dk_28 (dk_at dksX3_draws_0 13 rfl rfl)
theorem dX3_draws_14 : decode cX3_draws 14 = .ok (.aload_n 0, 1) := dk_42 (dk_at dksX3_draws_0 14 rfl rfl)
theorem dX3_draws_15 : decode cX3_draws 15 = .ok (.getfield 37, 3) := dk_180 0 37 (dk_at dksX3_draws_0 15 rfl rfl)
theorem dX3_draws_18 : decode cX3_draws 18 = .ok (.imul, 1) := dk_104 (dk_at dksX3_draws_0 18 rfl rfl)
theorem dX3_draws_19 : decode cX3_draws 19 = .ok (.iload_n 1, 1) := dk_27 (dk_at dksX3_draws_0 19 rfl rfl)
theorem dX3_draws_20 : decode cX3_draws 20 = .ok (.iadd, 1) := dk_96 (dk_at dksX3_draws_0 20 rfl rfl)
theorem dX3_draws_21 : decode cX3_draws 21 = .ok (.baload, 1) := dk_51 (dk_at dksX3_draws_0 21 rfl rfl)
theorem dX3_draws_22 : decode cX3_draws 22 = .ok (.iload_n 3, 1) := dk_29 (dk_at dksX3_draws_0 22 rfl rfl)
theorem dX3_draws_23 : decode cX3_draws 23 = .ok (.if_icmp .ne 5, 3) := dk_160 0 5 (dk_at dksX3_draws_1 0 rfl rfl)
theorem dX3_draws_26 : decode cX3_draws 26 = .ok (.iconst 0, 1) := dk_3 (dk_at dksX3_draws_1 3 rfl rfl)
theorem dX3_draws_27 : decode cX3_draws 27 = .ok (.ireturn, 1) := dk_172 (dk_at dksX3_draws_1 4 rfl rfl)
theorem dX3_draws_28 : decode cX3_draws 28 = .ok (.aload_n 0, 1) := dk_42 (dk_at dksX3_draws_1 5 rfl rfl)
theorem dX3_draws_29 : decode cX3_draws 29 = .ok (.getfield 7, 3) := dk_180 0 7 (dk_at dksX3_draws_1 6 rfl rfl)
theorem dX3_draws_32 : decode cX3_draws 32 = .ok (.iload_n 2, 1) := dk_28 (dk_at dksX3_draws_1 9 rfl rfl)
theorem dX3_draws_33 : decode cX3_draws 33 = .ok (.aload_n 0, 1) := dk_42 (dk_at dksX3_draws_1 10 rfl rfl)
theorem dX3_draws_34 : decode cX3_draws 34 = .ok (.getfield 37, 3) := dk_180 0 37 (dk_at dksX3_draws_1 11 rfl rfl)
theorem dX3_draws_37 : decode cX3_draws 37 = .ok (.imul, 1) := dk_104 (dk_at dksX3_draws_1 14 rfl rfl)
theorem dX3_draws_38 : decode cX3_draws 38 = .ok (.iload_n 1, 1) := dk_27 (dk_at dksX3_draws_1 15 rfl rfl)
theorem dX3_draws_39 : decode cX3_draws 39 = .ok (.iadd, 1) := dk_96 (dk_at dksX3_draws_1 16 rfl rfl)
theorem dX3_draws_40 : decode cX3_draws 40 = .ok (.iload_n 3, 1) := dk_29 (dk_at dksX3_draws_1 17 rfl rfl)
theorem dX3_draws_41 : decode cX3_draws 41 = .ok (.bastore, 1) := dk_84 (dk_at dksX3_draws_1 18 rfl rfl)
theorem dX3_draws_42 : decode cX3_draws 42 = .ok (.iconst 1, 1) := dk_4 (dk_at dksX3_draws_1 19 rfl rfl)
theorem dX3_draws_43 : decode cX3_draws 43 = .ok (.ireturn, 1) := dk_172 (dk_at dksX3_draws_1 20 rfl rfl)
abbrev cX3_line : ByteArray := prog_11_method_38_code
def yX3_line : MethodName := ⟨RX3, "line", "(IIIIZ)I"⟩
def dkwX3_line_2 : List UInt8 := [27, 28, 29, 21, 4, 21, 5, 182, 0, 131, 167, 0, 4, 3, 172]
abbrev dktX3_line_2 : List UInt8 := dkwX3_line_2 ++ []
def dkwX3_line_1 : List UInt8 := [153, 0, 15, 21, 4, 184, 0, 128, 153, 0, 7, 4, 167, 0, 4, 3, 4, 182, 0, 121, 153, 0, 17, 42]
abbrev dktX3_line_1 : List UInt8 := dkwX3_line_1 ++ dktX3_line_2
def dkwX3_line_0 : List UInt8 := [42, 3, 181, 0, 33, 42, 27, 184, 0, 128, 153, 0, 29, 28, 184, 0, 128, 153, 0, 22, 29, 184, 0, 128]
abbrev dktX3_line_0 : List UInt8 := dkwX3_line_0 ++ dktX3_line_1
theorem dksX3_line_0 : cX3_line.data.toList.drop 0 = dktX3_line_0 := by decide +kernel
theorem dksX3_line_1 : cX3_line.data.toList.drop 24 = dktX3_line_1 := dk_seg dksX3_line_0 24 rfl rfl
theorem dksX3_line_2 : cX3_line.data.toList.drop 48 = dktX3_line_2 := dk_seg dksX3_line_1 24 rfl rfl
theorem dX3_line_0 : decode cX3_line 0 = .ok (.aload_n 0, 1) := dk_42 (dk_at dksX3_line_0 0 rfl rfl)
theorem dX3_line_1 : decode cX3_line 1 = .ok (.iconst 0, 1) := dk_3 (dk_at dksX3_line_0 1 rfl rfl)
theorem dX3_line_2 : decode cX3_line 2 = .ok (.putfield 33, 3) := dk_181 0 33 (dk_at dksX3_line_0 2 rfl rfl)
theorem dX3_line_5 : decode cX3_line 5 = .ok (.aload_n 0, 1) := dk_42 (dk_at dksX3_line_0 5 rfl rfl)
theorem dX3_line_6 : decode cX3_line 6 = .ok (.iload_n 1, 1) := dk_27 (dk_at dksX3_line_0 6 rfl rfl)
theorem dX3_line_7 : decode cX3_line 7 = .ok (.invokestatic 128, 3) := dk_184 0 128 (dk_at dksX3_line_0 7 rfl rfl)
theorem dX3_line_10 : decode cX3_line 10 = .ok (.ifCond .eq 29, 3) := dk_153 0 29 (dk_at dksX3_line_0 10 rfl rfl)
theorem dX3_line_13 : decode cX3_line 13 = .ok (.iload_n 2, 1) := dk_28 (dk_at dksX3_line_0 13 rfl rfl)
theorem dX3_line_14 : decode cX3_line 14 = .ok (.invokestatic 128, 3) := dk_184 0 128 (dk_at dksX3_line_0 14 rfl rfl)
theorem dX3_line_17 : decode cX3_line 17 = .ok (.ifCond .eq 22, 3) := dk_153 0 22 (dk_at dksX3_line_0 17 rfl rfl)
theorem dX3_line_20 : decode cX3_line 20 = .ok (.iload_n 3, 1) := dk_29 (dk_at dksX3_line_0 20 rfl rfl)
theorem dX3_line_21 : decode cX3_line 21 = .ok (.invokestatic 128, 3) := dk_184 0 128 (dk_at dksX3_line_0 21 rfl rfl)
theorem dX3_line_24 : decode cX3_line 24 = .ok (.ifCond .eq 15, 3) := dk_153 0 15 (dk_at dksX3_line_1 0 rfl rfl)
theorem dX3_line_27 : decode cX3_line 27 = .ok (.iload 4, 2) := dk_21 4 (dk_at dksX3_line_1 3 rfl rfl)
theorem dX3_line_29 : decode cX3_line 29 = .ok (.invokestatic 128, 3) := dk_184 0 128 (dk_at dksX3_line_1 5 rfl rfl)
theorem dX3_line_32 : decode cX3_line 32 = .ok (.ifCond .eq 7, 3) := dk_153 0 7 (dk_at dksX3_line_1 8 rfl rfl)
theorem dX3_line_35 : decode cX3_line 35 = .ok (.iconst 1, 1) := dk_4 (dk_at dksX3_line_1 11 rfl rfl)
theorem dX3_line_36 : decode cX3_line 36 = .ok (.goto 4, 3) := dk_167 0 4 (dk_at dksX3_line_1 12 rfl rfl)
theorem dX3_line_39 : decode cX3_line 39 = .ok (.iconst 0, 1) := dk_3 (dk_at dksX3_line_1 15 rfl rfl)
theorem dX3_line_40 : decode cX3_line 40 = .ok (.iconst 1, 1) := dk_4 (dk_at dksX3_line_1 16 rfl rfl)
theorem dX3_line_41 : decode cX3_line 41 = .ok (.invokevirtual 121, 3) := dk_182 0 121 (dk_at dksX3_line_1 17 rfl rfl)
theorem dX3_line_44 : decode cX3_line 44 = .ok (.ifCond .eq 17, 3) := dk_153 0 17 (dk_at dksX3_line_1 20 rfl rfl)
theorem dX3_line_47 : decode cX3_line 47 = .ok (.aload_n 0, 1) := dk_42 (dk_at dksX3_line_1 23 rfl rfl)
theorem dX3_line_48 : decode cX3_line 48 = .ok (.iload_n 1, 1) := dk_27 (dk_at dksX3_line_2 0 rfl rfl)
theorem dX3_line_49 : decode cX3_line 49 = .ok (.iload_n 2, 1) := dk_28 (dk_at dksX3_line_2 1 rfl rfl)
theorem dX3_line_50 : decode cX3_line 50 = .ok (.iload_n 3, 1) := dk_29 (dk_at dksX3_line_2 2 rfl rfl)
theorem dX3_line_51 : decode cX3_line 51 = .ok (.iload 4, 2) := dk_21 4 (dk_at dksX3_line_2 3 rfl rfl)
theorem dX3_line_53 : decode cX3_line 53 = .ok (.iload 5, 2) := dk_21 5 (dk_at dksX3_line_2 5 rfl rfl)
theorem dX3_line_55 : decode cX3_line 55 = .ok (.invokevirtual 131, 3) := dk_182 0 131 (dk_at dksX3_line_2 7 rfl rfl)
theorem dX3_line_58 : decode cX3_line 58 = .ok (.goto 4, 3) := dk_167 0 4 (dk_at dksX3_line_2 10 rfl rfl)
theorem dX3_line_61 : decode cX3_line 61 = .ok (.iconst 0, 1) := dk_3 (dk_at dksX3_line_2 13 rfl rfl)
theorem dX3_line_62 : decode cX3_line 62 = .ok (.ireturn, 1) := dk_172 (dk_at dksX3_line_2 14 rfl rfl)
abbrev cX3_isNear : ByteArray := prog_11_method_35_code
def yX3_isNear : MethodName := ⟨RX3, "isNear", "(I)Z"⟩
def dkwX3_isNear_0 : List UInt8 := [26, 16, 216, 16, 72, 184, 0, 43, 172]
abbrev dktX3_isNear_0 : List UInt8 := dkwX3_isNear_0 ++ []
theorem dksX3_isNear_0 : cX3_isNear.data.toList.drop 0 = dktX3_isNear_0 := by decide +kernel
theorem dX3_isNear_0 : decode cX3_isNear 0 = .ok (.iload_n 0, 1) := dk_26 (dk_at dksX3_isNear_0 0 rfl rfl)
theorem dX3_isNear_1 : decode cX3_isNear 1 = .ok (.bipush (-40), 2) := dk_16 216 (dk_at dksX3_isNear_0 1 rfl rfl)
theorem dX3_isNear_3 : decode cX3_isNear 3 = .ok (.bipush 72, 2) := dk_16 72 (dk_at dksX3_isNear_0 3 rfl rfl)
theorem dX3_isNear_5 : decode cX3_isNear 5 = .ok (.invokestatic 43, 3) := dk_184 0 43 (dk_at dksX3_isNear_0 5 rfl rfl)
theorem dX3_isNear_8 : decode cX3_isNear 8 = .ok (.ireturn, 1) := dk_172 (dk_at dksX3_isNear_0 8 rfl rfl)
abbrev cX3_lines : ByteArray := prog_11_method_14_code
def yX3_lines : MethodName := ⟨RX3, "lines", "(IIIIZ)I"⟩
def dkwX3_lines_5 : List UInt8 := [21, 10, 21, 5, 182, 0, 70, 96, 54, 11, 167, 255, 170, 21, 11, 172]
abbrev dktX3_lines_5 : List UInt8 := dkwX3_lines_5 ++ []
def dkwX3_lines_4 : List UInt8 := [21, 8, 21, 6, 96, 54, 8, 21, 10, 21, 4, 28, 100, 184, 0, 74, 96, 54, 10, 21, 11, 42, 21, 9]
abbrev dktX3_lines_4 : List UInt8 := dkwX3_lines_4 ++ dktX3_lines_5
def dkwX3_lines_3 : List UInt8 := [21, 7, 100, 54, 8, 21, 9, 29, 27, 100, 184, 0, 74, 96, 54, 9, 21, 12, 21, 6, 162, 0, 22]
abbrev dktX3_lines_3 : List UInt8 := dkwX3_lines_3 ++ dktX3_lines_4
def dkwX3_lines_2 : List UInt8 := [21, 10, 21, 4, 159, 0, 79, 5, 21, 8, 104, 54, 12, 21, 12, 21, 7, 116, 164, 0, 21, 21, 8]
abbrev dktX3_lines_2 : List UInt8 := dkwX3_lines_2 ++ dktX3_lines_3
def dkwX3_lines_1 : List UInt8 := [27, 54, 9, 28, 54, 10, 42, 21, 9, 21, 10, 21, 5, 182, 0, 70, 54, 11, 21, 9, 29, 160, 0, 10]
abbrev dktX3_lines_1 : List UInt8 := dkwX3_lines_1 ++ dktX3_lines_2
def dkwX3_lines_0 : List UInt8 := [29, 27, 100, 184, 0, 65, 54, 6, 21, 4, 28, 100, 184, 0, 65, 54, 7, 21, 6, 21, 7, 100, 54, 8]
abbrev dktX3_lines_0 : List UInt8 := dkwX3_lines_0 ++ dktX3_lines_1
theorem dksX3_lines_0 : cX3_lines.data.toList.drop 0 = dktX3_lines_0 := by decide +kernel
theorem dksX3_lines_1 : cX3_lines.data.toList.drop 24 = dktX3_lines_1 := dk_seg dksX3_lines_0 24 rfl rfl
theorem dksX3_lines_2 : cX3_lines.data.toList.drop 48 = dktX3_lines_2 := dk_seg dksX3_lines_1 24 rfl rfl
theorem dksX3_lines_3 : cX3_lines.data.toList.drop 71 = dktX3_lines_3 := dk_seg dksX3_lines_2 23 rfl rfl
theorem dksX3_lines_4 : cX3_lines.data.toList.drop 94 = dktX3_lines_4 := dk_seg dksX3_lines_3 23 rfl rfl
theorem dksX3_lines_5 : cX3_lines.data.toList.drop 118 = dktX3_lines_5 := dk_seg dksX3_lines_4 24 rfl rfl
theorem dX3_lines_0 : decode cX3_lines 0 = .ok (.iload_n 3, 1) := dk_29 (dk_at dksX3_lines_0 0 rfl rfl)
theorem dX3_lines_1 : decode cX3_lines 1 = .ok (.iload_n 1, 1) := dk_27 (dk_at dksX3_lines_0 1 rfl rfl)
theorem dX3_lines_2 : decode cX3_lines 2 = .ok (.isub, 1) := dk_100 (dk_at dksX3_lines_0 2 rfl rfl)
theorem dX3_lines_3 : decode cX3_lines 3 = .ok (.invokestatic 65, 3) := dk_184 0 65 (dk_at dksX3_lines_0 3 rfl rfl)
theorem dX3_lines_6 : decode cX3_lines 6 = .ok (.istore 6, 2) := dk_54 6 (dk_at dksX3_lines_0 6 rfl rfl)
theorem dX3_lines_8 : decode cX3_lines 8 = .ok (.iload 4, 2) := dk_21 4 (dk_at dksX3_lines_0 8 rfl rfl)
theorem dX3_lines_10 : decode cX3_lines 10 = .ok (.iload_n 2, 1) := dk_28 (dk_at dksX3_lines_0 10 rfl rfl)
theorem dX3_lines_11 : decode cX3_lines 11 = .ok (.isub, 1) := dk_100 (dk_at dksX3_lines_0 11 rfl rfl)
theorem dX3_lines_12 : decode cX3_lines 12 = .ok (.invokestatic 65, 3) := dk_184 0 65 (dk_at dksX3_lines_0 12 rfl rfl)
theorem dX3_lines_15 : decode cX3_lines 15 = .ok (.istore 7, 2) := dk_54 7 (dk_at dksX3_lines_0 15 rfl rfl)
theorem dX3_lines_17 : decode cX3_lines 17 = .ok (.iload 6, 2) := dk_21 6 (dk_at dksX3_lines_0 17 rfl rfl)
theorem dX3_lines_19 : decode cX3_lines 19 = .ok (.iload 7, 2) := dk_21 7 (dk_at dksX3_lines_0 19 rfl rfl)
theorem dX3_lines_21 : decode cX3_lines 21 = .ok (.isub, 1) := dk_100 (dk_at dksX3_lines_0 21 rfl rfl)
theorem dX3_lines_22 : decode cX3_lines 22 = .ok (.istore 8, 2) := dk_54 8 (dk_at dksX3_lines_0 22 rfl rfl)
theorem dX3_lines_24 : decode cX3_lines 24 = .ok (.iload_n 1, 1) := dk_27 (dk_at dksX3_lines_1 0 rfl rfl)
theorem dX3_lines_25 : decode cX3_lines 25 = .ok (.istore 9, 2) := dk_54 9 (dk_at dksX3_lines_1 1 rfl rfl)
theorem dX3_lines_27 : decode cX3_lines 27 = .ok (.iload_n 2, 1) := dk_28 (dk_at dksX3_lines_1 3 rfl rfl)
theorem dX3_lines_28 : decode cX3_lines 28 = .ok (.istore 10, 2) := dk_54 10 (dk_at dksX3_lines_1 4 rfl rfl)
theorem dX3_lines_30 : decode cX3_lines 30 = .ok (.aload_n 0, 1) := dk_42 (dk_at dksX3_lines_1 6 rfl rfl)
theorem dX3_lines_31 : decode cX3_lines 31 = .ok (.iload 9, 2) := dk_21 9 (dk_at dksX3_lines_1 7 rfl rfl)
theorem dX3_lines_33 : decode cX3_lines 33 = .ok (.iload 10, 2) := dk_21 10 (dk_at dksX3_lines_1 9 rfl rfl)
theorem dX3_lines_35 : decode cX3_lines 35 = .ok (.iload 5, 2) := dk_21 5 (dk_at dksX3_lines_1 11 rfl rfl)
theorem dX3_lines_37 : decode cX3_lines 37 = .ok (.invokevirtual 70, 3) := dk_182 0 70 (dk_at dksX3_lines_1 13 rfl rfl)
theorem dX3_lines_40 : decode cX3_lines 40 = .ok (.istore 11, 2) := dk_54 11 (dk_at dksX3_lines_1 16 rfl rfl)
theorem dX3_lines_42 : decode cX3_lines 42 = .ok (.iload 9, 2) := dk_21 9 (dk_at dksX3_lines_1 18 rfl rfl)
theorem dX3_lines_44 : decode cX3_lines 44 = .ok (.iload_n 3, 1) := dk_29 (dk_at dksX3_lines_1 20 rfl rfl)
theorem dX3_lines_45 : decode cX3_lines 45 = .ok (.if_icmp .ne 10, 3) := dk_160 0 10 (dk_at dksX3_lines_1 21 rfl rfl)
theorem dX3_lines_48 : decode cX3_lines 48 = .ok (.iload 10, 2) := dk_21 10 (dk_at dksX3_lines_2 0 rfl rfl)
theorem dX3_lines_50 : decode cX3_lines 50 = .ok (.iload 4, 2) := dk_21 4 (dk_at dksX3_lines_2 2 rfl rfl)
theorem dX3_lines_52 : decode cX3_lines 52 = .ok (.if_icmp .eq 79, 3) := dk_159 0 79 (dk_at dksX3_lines_2 4 rfl rfl)
theorem dX3_lines_55 : decode cX3_lines 55 = .ok (.iconst 2, 1) := dk_5 (dk_at dksX3_lines_2 7 rfl rfl)
theorem dX3_lines_56 : decode cX3_lines 56 = .ok (.iload 8, 2) := dk_21 8 (dk_at dksX3_lines_2 8 rfl rfl)
theorem dX3_lines_58 : decode cX3_lines 58 = .ok (.imul, 1) := dk_104 (dk_at dksX3_lines_2 10 rfl rfl)
theorem dX3_lines_59 : decode cX3_lines 59 = .ok (.istore 12, 2) := dk_54 12 (dk_at dksX3_lines_2 11 rfl rfl)
theorem dX3_lines_61 : decode cX3_lines 61 = .ok (.iload 12, 2) := dk_21 12 (dk_at dksX3_lines_2 13 rfl rfl)
theorem dX3_lines_63 : decode cX3_lines 63 = .ok (.iload 7, 2) := dk_21 7 (dk_at dksX3_lines_2 15 rfl rfl)
theorem dX3_lines_65 : decode cX3_lines 65 = .ok (.ineg, 1) := dk_116 (dk_at dksX3_lines_2 17 rfl rfl)
theorem dX3_lines_66 : decode cX3_lines 66 = .ok (.if_icmp .le 21, 3) := dk_164 0 21 (dk_at dksX3_lines_2 18 rfl rfl)
theorem dX3_lines_69 : decode cX3_lines 69 = .ok (.iload 8, 2) := dk_21 8 (dk_at dksX3_lines_2 21 rfl rfl)
theorem dX3_lines_71 : decode cX3_lines 71 = .ok (.iload 7, 2) := dk_21 7 (dk_at dksX3_lines_3 0 rfl rfl)
theorem dX3_lines_73 : decode cX3_lines 73 = .ok (.isub, 1) := dk_100 (dk_at dksX3_lines_3 2 rfl rfl)
theorem dX3_lines_74 : decode cX3_lines 74 = .ok (.istore 8, 2) := dk_54 8 (dk_at dksX3_lines_3 3 rfl rfl)
theorem dX3_lines_76 : decode cX3_lines 76 = .ok (.iload 9, 2) := dk_21 9 (dk_at dksX3_lines_3 5 rfl rfl)
theorem dX3_lines_78 : decode cX3_lines 78 = .ok (.iload_n 3, 1) := dk_29 (dk_at dksX3_lines_3 7 rfl rfl)
theorem dX3_lines_79 : decode cX3_lines 79 = .ok (.iload_n 1, 1) := dk_27 (dk_at dksX3_lines_3 8 rfl rfl)
theorem dX3_lines_80 : decode cX3_lines 80 = .ok (.isub, 1) := dk_100 (dk_at dksX3_lines_3 9 rfl rfl)
theorem dX3_lines_81 : decode cX3_lines 81 = .ok (.invokestatic 74, 3) := dk_184 0 74 (dk_at dksX3_lines_3 10 rfl rfl)
theorem dX3_lines_84 : decode cX3_lines 84 = .ok (.iadd, 1) := dk_96 (dk_at dksX3_lines_3 13 rfl rfl)
theorem dX3_lines_85 : decode cX3_lines 85 = .ok (.istore 9, 2) := dk_54 9 (dk_at dksX3_lines_3 14 rfl rfl)
theorem dX3_lines_87 : decode cX3_lines 87 = .ok (.iload 12, 2) := dk_21 12 (dk_at dksX3_lines_3 16 rfl rfl)
theorem dX3_lines_89 : decode cX3_lines 89 = .ok (.iload 6, 2) := dk_21 6 (dk_at dksX3_lines_3 18 rfl rfl)
theorem dX3_lines_91 : decode cX3_lines 91 = .ok (.if_icmp .ge 22, 3) := dk_162 0 22 (dk_at dksX3_lines_3 20 rfl rfl)
theorem dX3_lines_94 : decode cX3_lines 94 = .ok (.iload 8, 2) := dk_21 8 (dk_at dksX3_lines_4 0 rfl rfl)
theorem dX3_lines_96 : decode cX3_lines 96 = .ok (.iload 6, 2) := dk_21 6 (dk_at dksX3_lines_4 2 rfl rfl)
theorem dX3_lines_98 : decode cX3_lines 98 = .ok (.iadd, 1) := dk_96 (dk_at dksX3_lines_4 4 rfl rfl)
theorem dX3_lines_99 : decode cX3_lines 99 = .ok (.istore 8, 2) := dk_54 8 (dk_at dksX3_lines_4 5 rfl rfl)
theorem dX3_lines_101 : decode cX3_lines 101 = .ok (.iload 10, 2) := dk_21 10 (dk_at dksX3_lines_4 7 rfl rfl)
theorem dX3_lines_103 : decode cX3_lines 103 = .ok (.iload 4, 2) := dk_21 4 (dk_at dksX3_lines_4 9 rfl rfl)
theorem dX3_lines_105 : decode cX3_lines 105 = .ok (.iload_n 2, 1) := dk_28 (dk_at dksX3_lines_4 11 rfl rfl)
theorem dX3_lines_106 : decode cX3_lines 106 = .ok (.isub, 1) := dk_100 (dk_at dksX3_lines_4 12 rfl rfl)
theorem dX3_lines_107 : decode cX3_lines 107 = .ok (.invokestatic 74, 3) := dk_184 0 74 (dk_at dksX3_lines_4 13 rfl rfl)
theorem dX3_lines_110 : decode cX3_lines 110 = .ok (.iadd, 1) := dk_96 (dk_at dksX3_lines_4 16 rfl rfl)
theorem dX3_lines_111 : decode cX3_lines 111 = .ok (.istore 10, 2) := dk_54 10 (dk_at dksX3_lines_4 17 rfl rfl)
theorem dX3_lines_113 : decode cX3_lines 113 = .ok (.iload 11, 2) := dk_21 11 (dk_at dksX3_lines_4 19 rfl rfl)
theorem dX3_lines_115 : decode cX3_lines 115 = .ok (.aload_n 0, 1) := dk_42 (dk_at dksX3_lines_4 21 rfl rfl)
theorem dX3_lines_116 : decode cX3_lines 116 = .ok (.iload 9, 2) := dk_21 9 (dk_at dksX3_lines_4 22 rfl rfl)
theorem dX3_lines_118 : decode cX3_lines 118 = .ok (.iload 10, 2) := dk_21 10 (dk_at dksX3_lines_5 0 rfl rfl)
theorem dX3_lines_120 : decode cX3_lines 120 = .ok (.iload 5, 2) := dk_21 5 (dk_at dksX3_lines_5 2 rfl rfl)
theorem dX3_lines_122 : decode cX3_lines 122 = .ok (.invokevirtual 70, 3) := dk_182 0 70 (dk_at dksX3_lines_5 4 rfl rfl)
theorem dX3_lines_125 : decode cX3_lines 125 = .ok (.iadd, 1) := dk_96 (dk_at dksX3_lines_5 7 rfl rfl)
theorem dX3_lines_126 : decode cX3_lines 126 = .ok (.istore 11, 2) := dk_54 11 (dk_at dksX3_lines_5 8 rfl rfl)
theorem dX3_lines_128 : decode cX3_lines 128 = .ok (.goto (-86), 3) := dk_167 255 170 (dk_at dksX3_lines_5 10 rfl rfl)
theorem dX3_lines_131 : decode cX3_lines 131 = .ok (.iload 11, 2) := dk_21 11 (dk_at dksX3_lines_5 13 rfl rfl)
theorem dX3_lines_133 : decode cX3_lines 133 = .ok (.ireturn, 1) := dk_172 (dk_at dksX3_lines_5 15 rfl rfl)
abbrev cX3_circle : ByteArray := prog_11_method_39_code
def yX3_circle : MethodName := ⟨RX3, "circle", "(IIIZ)I"⟩
def dkwX3_circle_2 : List UInt8 := [182, 0, 134, 167, 0, 4, 3, 172]
abbrev dktX3_circle_2 : List UInt8 := dkwX3_circle_2 ++ []
def dkwX3_circle_1 : List UInt8 := [184, 0, 43, 153, 0, 7, 4, 167, 0, 4, 3, 4, 182, 0, 121, 153, 0, 15, 42, 27, 28, 29, 21, 4]
abbrev dktX3_circle_1 : List UInt8 := dkwX3_circle_1 ++ dktX3_circle_2
def dkwX3_circle_0 : List UInt8 := [42, 3, 181, 0, 33, 42, 27, 184, 0, 128, 153, 0, 24, 28, 184, 0, 128, 153, 0, 17, 29, 3, 16, 40]
abbrev dktX3_circle_0 : List UInt8 := dkwX3_circle_0 ++ dktX3_circle_1
theorem dksX3_circle_0 : cX3_circle.data.toList.drop 0 = dktX3_circle_0 := by decide +kernel
theorem dksX3_circle_1 : cX3_circle.data.toList.drop 24 = dktX3_circle_1 := dk_seg dksX3_circle_0 24 rfl rfl
theorem dksX3_circle_2 : cX3_circle.data.toList.drop 48 = dktX3_circle_2 := dk_seg dksX3_circle_1 24 rfl rfl
theorem dX3_circle_0 : decode cX3_circle 0 = .ok (.aload_n 0, 1) := dk_42 (dk_at dksX3_circle_0 0 rfl rfl)
theorem dX3_circle_1 : decode cX3_circle 1 = .ok (.iconst 0, 1) := dk_3 (dk_at dksX3_circle_0 1 rfl rfl)
theorem dX3_circle_2 : decode cX3_circle 2 = .ok (.putfield 33, 3) := dk_181 0 33 (dk_at dksX3_circle_0 2 rfl rfl)
theorem dX3_circle_5 : decode cX3_circle 5 = .ok (.aload_n 0, 1) := dk_42 (dk_at dksX3_circle_0 5 rfl rfl)
theorem dX3_circle_6 : decode cX3_circle 6 = .ok (.iload_n 1, 1) := dk_27 (dk_at dksX3_circle_0 6 rfl rfl)
theorem dX3_circle_7 : decode cX3_circle 7 = .ok (.invokestatic 128, 3) := dk_184 0 128 (dk_at dksX3_circle_0 7 rfl rfl)
theorem dX3_circle_10 : decode cX3_circle 10 = .ok (.ifCond .eq 24, 3) := dk_153 0 24 (dk_at dksX3_circle_0 10 rfl rfl)
theorem dX3_circle_13 : decode cX3_circle 13 = .ok (.iload_n 2, 1) := dk_28 (dk_at dksX3_circle_0 13 rfl rfl)
theorem dX3_circle_14 : decode cX3_circle 14 = .ok (.invokestatic 128, 3) := dk_184 0 128 (dk_at dksX3_circle_0 14 rfl rfl)
theorem dX3_circle_17 : decode cX3_circle 17 = .ok (.ifCond .eq 17, 3) := dk_153 0 17 (dk_at dksX3_circle_0 17 rfl rfl)
theorem dX3_circle_20 : decode cX3_circle 20 = .ok (.iload_n 3, 1) := dk_29 (dk_at dksX3_circle_0 20 rfl rfl)
theorem dX3_circle_21 : decode cX3_circle 21 = .ok (.iconst 0, 1) := dk_3 (dk_at dksX3_circle_0 21 rfl rfl)
theorem dX3_circle_22 : decode cX3_circle 22 = .ok (.bipush 40, 2) := dk_16 40 (dk_at dksX3_circle_0 22 rfl rfl)
theorem dX3_circle_24 : decode cX3_circle 24 = .ok (.invokestatic 43, 3) := dk_184 0 43 (dk_at dksX3_circle_1 0 rfl rfl)
theorem dX3_circle_27 : decode cX3_circle 27 = .ok (.ifCond .eq 7, 3) := dk_153 0 7 (dk_at dksX3_circle_1 3 rfl rfl)
theorem dX3_circle_30 : decode cX3_circle 30 = .ok (.iconst 1, 1) := dk_4 (dk_at dksX3_circle_1 6 rfl rfl)
theorem dX3_circle_31 : decode cX3_circle 31 = .ok (.goto 4, 3) := dk_167 0 4 (dk_at dksX3_circle_1 7 rfl rfl)
theorem dX3_circle_34 : decode cX3_circle 34 = .ok (.iconst 0, 1) := dk_3 (dk_at dksX3_circle_1 10 rfl rfl)
theorem dX3_circle_35 : decode cX3_circle 35 = .ok (.iconst 1, 1) := dk_4 (dk_at dksX3_circle_1 11 rfl rfl)
theorem dX3_circle_36 : decode cX3_circle 36 = .ok (.invokevirtual 121, 3) := dk_182 0 121 (dk_at dksX3_circle_1 12 rfl rfl)
theorem dX3_circle_39 : decode cX3_circle 39 = .ok (.ifCond .eq 15, 3) := dk_153 0 15 (dk_at dksX3_circle_1 15 rfl rfl)
theorem dX3_circle_42 : decode cX3_circle 42 = .ok (.aload_n 0, 1) := dk_42 (dk_at dksX3_circle_1 18 rfl rfl)
theorem dX3_circle_43 : decode cX3_circle 43 = .ok (.iload_n 1, 1) := dk_27 (dk_at dksX3_circle_1 19 rfl rfl)
theorem dX3_circle_44 : decode cX3_circle 44 = .ok (.iload_n 2, 1) := dk_28 (dk_at dksX3_circle_1 20 rfl rfl)
theorem dX3_circle_45 : decode cX3_circle 45 = .ok (.iload_n 3, 1) := dk_29 (dk_at dksX3_circle_1 21 rfl rfl)
theorem dX3_circle_46 : decode cX3_circle 46 = .ok (.iload 4, 2) := dk_21 4 (dk_at dksX3_circle_1 22 rfl rfl)
theorem dX3_circle_48 : decode cX3_circle 48 = .ok (.invokevirtual 134, 3) := dk_182 0 134 (dk_at dksX3_circle_2 0 rfl rfl)
theorem dX3_circle_51 : decode cX3_circle 51 = .ok (.goto 4, 3) := dk_167 0 4 (dk_at dksX3_circle_2 3 rfl rfl)
theorem dX3_circle_54 : decode cX3_circle 54 = .ok (.iconst 0, 1) := dk_3 (dk_at dksX3_circle_2 6 rfl rfl)
theorem dX3_circle_55 : decode cX3_circle 55 = .ok (.ireturn, 1) := dk_172 (dk_at dksX3_circle_2 7 rfl rfl)
abbrev cX3_circles : ByteArray := prog_11_method_16_code
def yX3_circles : MethodName := ⟨RX3, "circles", "(IIIZ)I"⟩
def dkwX3_circles_3 : List UInt8 := [4, 96, 96, 54, 7, 167, 255, 193, 21, 5, 172]
abbrev dktX3_circles_3 : List UInt8 := dkwX3_circles_3 ++ []
def dkwX3_circles_2 : List UInt8 := [5, 21, 8, 104, 4, 96, 96, 54, 7, 167, 255, 213, 132, 6, 255, 21, 7, 5, 21, 8, 21, 6, 100, 104]
abbrev dktX3_circles_2 : List UInt8 := dkwX3_circles_2 ++ dktX3_circles_3
def dkwX3_circles_1 : List UInt8 := [27, 28, 21, 6, 21, 8, 21, 4, 182, 0, 79, 96, 54, 5, 132, 8, 1, 21, 7, 156, 0, 17, 21, 7]
abbrev dktX3_circles_1 : List UInt8 := dkwX3_circles_1 ++ dktX3_circles_2
def dkwX3_circles_0 : List UInt8 := [3, 54, 5, 29, 54, 6, 4, 29, 100, 54, 7, 3, 54, 8, 21, 6, 21, 8, 161, 0, 62, 21, 5, 42]
abbrev dktX3_circles_0 : List UInt8 := dkwX3_circles_0 ++ dktX3_circles_1
theorem dksX3_circles_0 : cX3_circles.data.toList.drop 0 = dktX3_circles_0 := by decide +kernel
theorem dksX3_circles_1 : cX3_circles.data.toList.drop 24 = dktX3_circles_1 := dk_seg dksX3_circles_0 24 rfl rfl
theorem dksX3_circles_2 : cX3_circles.data.toList.drop 48 = dktX3_circles_2 := dk_seg dksX3_circles_1 24 rfl rfl
theorem dksX3_circles_3 : cX3_circles.data.toList.drop 72 = dktX3_circles_3 := dk_seg dksX3_circles_2 24 rfl rfl
theorem dX3_circles_0 : decode cX3_circles 0 = .ok (.iconst 0, 1) := dk_3 (dk_at dksX3_circles_0 0 rfl rfl)
theorem dX3_circles_1 : decode cX3_circles 1 = .ok (.istore 5, 2) := dk_54 5 (dk_at dksX3_circles_0 1 rfl rfl)
theorem dX3_circles_3 : decode cX3_circles 3 = .ok (.iload_n 3, 1) := dk_29 (dk_at dksX3_circles_0 3 rfl rfl)
theorem dX3_circles_4 : decode cX3_circles 4 = .ok (.istore 6, 2) := dk_54 6 (dk_at dksX3_circles_0 4 rfl rfl)
theorem dX3_circles_6 : decode cX3_circles 6 = .ok (.iconst 1, 1) := dk_4 (dk_at dksX3_circles_0 6 rfl rfl)
theorem dX3_circles_7 : decode cX3_circles 7 = .ok (.iload_n 3, 1) := dk_29 (dk_at dksX3_circles_0 7 rfl rfl)
theorem dX3_circles_8 : decode cX3_circles 8 = .ok (.isub, 1) := dk_100 (dk_at dksX3_circles_0 8 rfl rfl)
theorem dX3_circles_9 : decode cX3_circles 9 = .ok (.istore 7, 2) := dk_54 7 (dk_at dksX3_circles_0 9 rfl rfl)
theorem dX3_circles_11 : decode cX3_circles 11 = .ok (.iconst 0, 1) := dk_3 (dk_at dksX3_circles_0 11 rfl rfl)
theorem dX3_circles_12 : decode cX3_circles 12 = .ok (.istore 8, 2) := dk_54 8 (dk_at dksX3_circles_0 12 rfl rfl)
theorem dX3_circles_14 : decode cX3_circles 14 = .ok (.iload 6, 2) := dk_21 6 (dk_at dksX3_circles_0 14 rfl rfl)
theorem dX3_circles_16 : decode cX3_circles 16 = .ok (.iload 8, 2) := dk_21 8 (dk_at dksX3_circles_0 16 rfl rfl)
theorem dX3_circles_18 : decode cX3_circles 18 = .ok (.if_icmp .lt 62, 3) := dk_161 0 62 (dk_at dksX3_circles_0 18 rfl rfl)
theorem dX3_circles_21 : decode cX3_circles 21 = .ok (.iload 5, 2) := dk_21 5 (dk_at dksX3_circles_0 21 rfl rfl)
theorem dX3_circles_23 : decode cX3_circles 23 = .ok (.aload_n 0, 1) := dk_42 (dk_at dksX3_circles_0 23 rfl rfl)
theorem dX3_circles_24 : decode cX3_circles 24 = .ok (.iload_n 1, 1) := dk_27 (dk_at dksX3_circles_1 0 rfl rfl)
theorem dX3_circles_25 : decode cX3_circles 25 = .ok (.iload_n 2, 1) := dk_28 (dk_at dksX3_circles_1 1 rfl rfl)
theorem dX3_circles_26 : decode cX3_circles 26 = .ok (.iload 6, 2) := dk_21 6 (dk_at dksX3_circles_1 2 rfl rfl)
theorem dX3_circles_28 : decode cX3_circles 28 = .ok (.iload 8, 2) := dk_21 8 (dk_at dksX3_circles_1 4 rfl rfl)
theorem dX3_circles_30 : decode cX3_circles 30 = .ok (.iload 4, 2) := dk_21 4 (dk_at dksX3_circles_1 6 rfl rfl)
theorem dX3_circles_32 : decode cX3_circles 32 = .ok (.invokevirtual 79, 3) := dk_182 0 79 (dk_at dksX3_circles_1 8 rfl rfl)
theorem dX3_circles_35 : decode cX3_circles 35 = .ok (.iadd, 1) := dk_96 (dk_at dksX3_circles_1 11 rfl rfl)
theorem dX3_circles_36 : decode cX3_circles 36 = .ok (.istore 5, 2) := dk_54 5 (dk_at dksX3_circles_1 12 rfl rfl)
theorem dX3_circles_38 : decode cX3_circles 38 = .ok (.iinc 8 1, 3) := dk_132 8 1 (dk_at dksX3_circles_1 14 rfl rfl)
theorem dX3_circles_41 : decode cX3_circles 41 = .ok (.iload 7, 2) := dk_21 7 (dk_at dksX3_circles_1 17 rfl rfl)
theorem dX3_circles_43 : decode cX3_circles 43 = .ok (.ifCond .ge 17, 3) := dk_156 0 17 (dk_at dksX3_circles_1 19 rfl rfl)
theorem dX3_circles_46 : decode cX3_circles 46 = .ok (.iload 7, 2) := dk_21 7 (dk_at dksX3_circles_1 22 rfl rfl)
theorem dX3_circles_48 : decode cX3_circles 48 = .ok (.iconst 2, 1) := dk_5 (dk_at dksX3_circles_2 0 rfl rfl)
theorem dX3_circles_49 : decode cX3_circles 49 = .ok (.iload 8, 2) := dk_21 8 (dk_at dksX3_circles_2 1 rfl rfl)
theorem dX3_circles_51 : decode cX3_circles 51 = .ok (.imul, 1) := dk_104 (dk_at dksX3_circles_2 3 rfl rfl)
theorem dX3_circles_52 : decode cX3_circles 52 = .ok (.iconst 1, 1) := dk_4 (dk_at dksX3_circles_2 4 rfl rfl)
theorem dX3_circles_53 : decode cX3_circles 53 = .ok (.iadd, 1) := dk_96 (dk_at dksX3_circles_2 5 rfl rfl)
theorem dX3_circles_54 : decode cX3_circles 54 = .ok (.iadd, 1) := dk_96 (dk_at dksX3_circles_2 6 rfl rfl)
theorem dX3_circles_55 : decode cX3_circles 55 = .ok (.istore 7, 2) := dk_54 7 (dk_at dksX3_circles_2 7 rfl rfl)
theorem dX3_circles_57 : decode cX3_circles 57 = .ok (.goto (-43), 3) := dk_167 255 213 (dk_at dksX3_circles_2 9 rfl rfl)
theorem dX3_circles_60 : decode cX3_circles 60 = .ok (.iinc 6 (-1), 3) := dk_132 6 255 (dk_at dksX3_circles_2 12 rfl rfl)
theorem dX3_circles_63 : decode cX3_circles 63 = .ok (.iload 7, 2) := dk_21 7 (dk_at dksX3_circles_2 15 rfl rfl)
theorem dX3_circles_65 : decode cX3_circles 65 = .ok (.iconst 2, 1) := dk_5 (dk_at dksX3_circles_2 17 rfl rfl)
theorem dX3_circles_66 : decode cX3_circles 66 = .ok (.iload 8, 2) := dk_21 8 (dk_at dksX3_circles_2 18 rfl rfl)
theorem dX3_circles_68 : decode cX3_circles 68 = .ok (.iload 6, 2) := dk_21 6 (dk_at dksX3_circles_2 20 rfl rfl)
theorem dX3_circles_70 : decode cX3_circles 70 = .ok (.isub, 1) := dk_100 (dk_at dksX3_circles_2 22 rfl rfl)
theorem dX3_circles_71 : decode cX3_circles 71 = .ok (.imul, 1) := dk_104 (dk_at dksX3_circles_2 23 rfl rfl)
theorem dX3_circles_72 : decode cX3_circles 72 = .ok (.iconst 1, 1) := dk_4 (dk_at dksX3_circles_3 0 rfl rfl)
theorem dX3_circles_73 : decode cX3_circles 73 = .ok (.iadd, 1) := dk_96 (dk_at dksX3_circles_3 1 rfl rfl)
theorem dX3_circles_74 : decode cX3_circles 74 = .ok (.iadd, 1) := dk_96 (dk_at dksX3_circles_3 2 rfl rfl)
theorem dX3_circles_75 : decode cX3_circles 75 = .ok (.istore 7, 2) := dk_54 7 (dk_at dksX3_circles_3 3 rfl rfl)
theorem dX3_circles_77 : decode cX3_circles 77 = .ok (.goto (-63), 3) := dk_167 255 193 (dk_at dksX3_circles_3 5 rfl rfl)
theorem dX3_circles_80 : decode cX3_circles 80 = .ok (.iload 5, 2) := dk_21 5 (dk_at dksX3_circles_3 8 rfl rfl)
theorem dX3_circles_82 : decode cX3_circles 82 = .ok (.ireturn, 1) := dk_172 (dk_at dksX3_circles_3 10 rfl rfl)
abbrev cX3_eight : ByteArray := prog_11_method_15_code
def yX3_eight : MethodName := ⟨RX3, "eight", "(IIIIZ)I"⟩
def dkwX3_eight_4 : List UInt8 := [21, 6, 172]
abbrev dktX3_eight_4 : List UInt8 := dkwX3_eight_4 ++ []
def dkwX3_eight_3 : List UInt8 := [21, 9, 167, 0, 6, 21, 9, 116, 96, 21, 5, 182, 0, 70, 96, 54, 6, 132, 7, 1, 167, 255, 172]
abbrev dktX3_eight_3 : List UInt8 := dkwX3_eight_3 ++ dktX3_eight_4
def dkwX3_eight_2 : List UInt8 := [5, 112, 154, 0, 8, 21, 8, 167, 0, 6, 21, 8, 116, 96, 28, 21, 7, 7, 112, 5, 162, 0, 8]
abbrev dktX3_eight_2 : List UInt8 := dkwX3_eight_2 ++ dktX3_eight_3
def dkwX3_eight_1 : List UInt8 := [21, 4, 54, 8, 21, 7, 7, 162, 0, 8, 21, 4, 167, 0, 4, 29, 54, 9, 21, 6, 42, 27, 21, 7]
abbrev dktX3_eight_1 : List UInt8 := dkwX3_eight_1 ++ dktX3_eight_2
def dkwX3_eight_0 : List UInt8 := [3, 54, 6, 3, 54, 7, 21, 7, 16, 8, 162, 0, 83, 21, 7, 7, 162, 0, 7, 29, 167, 0, 5]
abbrev dktX3_eight_0 : List UInt8 := dkwX3_eight_0 ++ dktX3_eight_1
theorem dksX3_eight_0 : cX3_eight.data.toList.drop 0 = dktX3_eight_0 := by decide +kernel
theorem dksX3_eight_1 : cX3_eight.data.toList.drop 23 = dktX3_eight_1 := dk_seg dksX3_eight_0 23 rfl rfl
theorem dksX3_eight_2 : cX3_eight.data.toList.drop 47 = dktX3_eight_2 := dk_seg dksX3_eight_1 24 rfl rfl
theorem dksX3_eight_3 : cX3_eight.data.toList.drop 70 = dktX3_eight_3 := dk_seg dksX3_eight_2 23 rfl rfl
theorem dksX3_eight_4 : cX3_eight.data.toList.drop 93 = dktX3_eight_4 := dk_seg dksX3_eight_3 23 rfl rfl
theorem dX3_eight_0 : decode cX3_eight 0 = .ok (.iconst 0, 1) := dk_3 (dk_at dksX3_eight_0 0 rfl rfl)
theorem dX3_eight_1 : decode cX3_eight 1 = .ok (.istore 6, 2) := dk_54 6 (dk_at dksX3_eight_0 1 rfl rfl)
theorem dX3_eight_3 : decode cX3_eight 3 = .ok (.iconst 0, 1) := dk_3 (dk_at dksX3_eight_0 3 rfl rfl)
theorem dX3_eight_4 : decode cX3_eight 4 = .ok (.istore 7, 2) := dk_54 7 (dk_at dksX3_eight_0 4 rfl rfl)
theorem dX3_eight_6 : decode cX3_eight 6 = .ok (.iload 7, 2) := dk_21 7 (dk_at dksX3_eight_0 6 rfl rfl)
theorem dX3_eight_8 : decode cX3_eight 8 = .ok (.bipush 8, 2) := dk_16 8 (dk_at dksX3_eight_0 8 rfl rfl)
theorem dX3_eight_10 : decode cX3_eight 10 = .ok (.if_icmp .ge 83, 3) := dk_162 0 83 (dk_at dksX3_eight_0 10 rfl rfl)
theorem dX3_eight_13 : decode cX3_eight 13 = .ok (.iload 7, 2) := dk_21 7 (dk_at dksX3_eight_0 13 rfl rfl)
theorem dX3_eight_15 : decode cX3_eight 15 = .ok (.iconst 4, 1) := dk_7 (dk_at dksX3_eight_0 15 rfl rfl)
theorem dX3_eight_16 : decode cX3_eight 16 = .ok (.if_icmp .ge 7, 3) := dk_162 0 7 (dk_at dksX3_eight_0 16 rfl rfl)
theorem dX3_eight_19 : decode cX3_eight 19 = .ok (.iload_n 3, 1) := dk_29 (dk_at dksX3_eight_0 19 rfl rfl)
theorem dX3_eight_20 : decode cX3_eight 20 = .ok (.goto 5, 3) := dk_167 0 5 (dk_at dksX3_eight_0 20 rfl rfl)
theorem dX3_eight_23 : decode cX3_eight 23 = .ok (.iload 4, 2) := dk_21 4 (dk_at dksX3_eight_1 0 rfl rfl)
theorem dX3_eight_25 : decode cX3_eight 25 = .ok (.istore 8, 2) := dk_54 8 (dk_at dksX3_eight_1 2 rfl rfl)
theorem dX3_eight_27 : decode cX3_eight 27 = .ok (.iload 7, 2) := dk_21 7 (dk_at dksX3_eight_1 4 rfl rfl)
theorem dX3_eight_29 : decode cX3_eight 29 = .ok (.iconst 4, 1) := dk_7 (dk_at dksX3_eight_1 6 rfl rfl)
theorem dX3_eight_30 : decode cX3_eight 30 = .ok (.if_icmp .ge 8, 3) := dk_162 0 8 (dk_at dksX3_eight_1 7 rfl rfl)
theorem dX3_eight_33 : decode cX3_eight 33 = .ok (.iload 4, 2) := dk_21 4 (dk_at dksX3_eight_1 10 rfl rfl)
theorem dX3_eight_35 : decode cX3_eight 35 = .ok (.goto 4, 3) := dk_167 0 4 (dk_at dksX3_eight_1 12 rfl rfl)
theorem dX3_eight_38 : decode cX3_eight 38 = .ok (.iload_n 3, 1) := dk_29 (dk_at dksX3_eight_1 15 rfl rfl)
theorem dX3_eight_39 : decode cX3_eight 39 = .ok (.istore 9, 2) := dk_54 9 (dk_at dksX3_eight_1 16 rfl rfl)
theorem dX3_eight_41 : decode cX3_eight 41 = .ok (.iload 6, 2) := dk_21 6 (dk_at dksX3_eight_1 18 rfl rfl)
theorem dX3_eight_43 : decode cX3_eight 43 = .ok (.aload_n 0, 1) := dk_42 (dk_at dksX3_eight_1 20 rfl rfl)
theorem dX3_eight_44 : decode cX3_eight 44 = .ok (.iload_n 1, 1) := dk_27 (dk_at dksX3_eight_1 21 rfl rfl)
theorem dX3_eight_45 : decode cX3_eight 45 = .ok (.iload 7, 2) := dk_21 7 (dk_at dksX3_eight_1 22 rfl rfl)
theorem dX3_eight_47 : decode cX3_eight 47 = .ok (.iconst 2, 1) := dk_5 (dk_at dksX3_eight_2 0 rfl rfl)
theorem dX3_eight_48 : decode cX3_eight 48 = .ok (.irem, 1) := dk_112 (dk_at dksX3_eight_2 1 rfl rfl)
theorem dX3_eight_49 : decode cX3_eight 49 = .ok (.ifCond .ne 8, 3) := dk_154 0 8 (dk_at dksX3_eight_2 2 rfl rfl)
theorem dX3_eight_52 : decode cX3_eight 52 = .ok (.iload 8, 2) := dk_21 8 (dk_at dksX3_eight_2 5 rfl rfl)
theorem dX3_eight_54 : decode cX3_eight 54 = .ok (.goto 6, 3) := dk_167 0 6 (dk_at dksX3_eight_2 7 rfl rfl)
theorem dX3_eight_57 : decode cX3_eight 57 = .ok (.iload 8, 2) := dk_21 8 (dk_at dksX3_eight_2 10 rfl rfl)
theorem dX3_eight_59 : decode cX3_eight 59 = .ok (.ineg, 1) := dk_116 (dk_at dksX3_eight_2 12 rfl rfl)
theorem dX3_eight_60 : decode cX3_eight 60 = .ok (.iadd, 1) := dk_96 (dk_at dksX3_eight_2 13 rfl rfl)
theorem dX3_eight_61 : decode cX3_eight 61 = .ok (.iload_n 2, 1) := dk_28 (dk_at dksX3_eight_2 14 rfl rfl)
theorem dX3_eight_62 : decode cX3_eight 62 = .ok (.iload 7, 2) := dk_21 7 (dk_at dksX3_eight_2 15 rfl rfl)
theorem dX3_eight_64 : decode cX3_eight 64 = .ok (.iconst 4, 1) := dk_7 (dk_at dksX3_eight_2 17 rfl rfl)
theorem dX3_eight_65 : decode cX3_eight 65 = .ok (.irem, 1) := dk_112 (dk_at dksX3_eight_2 18 rfl rfl)
theorem dX3_eight_66 : decode cX3_eight 66 = .ok (.iconst 2, 1) := dk_5 (dk_at dksX3_eight_2 19 rfl rfl)
theorem dX3_eight_67 : decode cX3_eight 67 = .ok (.if_icmp .ge 8, 3) := dk_162 0 8 (dk_at dksX3_eight_2 20 rfl rfl)
theorem dX3_eight_70 : decode cX3_eight 70 = .ok (.iload 9, 2) := dk_21 9 (dk_at dksX3_eight_3 0 rfl rfl)
theorem dX3_eight_72 : decode cX3_eight 72 = .ok (.goto 6, 3) := dk_167 0 6 (dk_at dksX3_eight_3 2 rfl rfl)
theorem dX3_eight_75 : decode cX3_eight 75 = .ok (.iload 9, 2) := dk_21 9 (dk_at dksX3_eight_3 5 rfl rfl)
theorem dX3_eight_77 : decode cX3_eight 77 = .ok (.ineg, 1) := dk_116 (dk_at dksX3_eight_3 7 rfl rfl)
theorem dX3_eight_78 : decode cX3_eight 78 = .ok (.iadd, 1) := dk_96 (dk_at dksX3_eight_3 8 rfl rfl)
theorem dX3_eight_79 : decode cX3_eight 79 = .ok (.iload 5, 2) := dk_21 5 (dk_at dksX3_eight_3 9 rfl rfl)
theorem dX3_eight_81 : decode cX3_eight 81 = .ok (.invokevirtual 70, 3) := dk_182 0 70 (dk_at dksX3_eight_3 11 rfl rfl)
theorem dX3_eight_84 : decode cX3_eight 84 = .ok (.iadd, 1) := dk_96 (dk_at dksX3_eight_3 14 rfl rfl)
theorem dX3_eight_85 : decode cX3_eight 85 = .ok (.istore 6, 2) := dk_54 6 (dk_at dksX3_eight_3 15 rfl rfl)
theorem dX3_eight_87 : decode cX3_eight 87 = .ok (.iinc 7 1, 3) := dk_132 7 1 (dk_at dksX3_eight_3 17 rfl rfl)
theorem dX3_eight_90 : decode cX3_eight 90 = .ok (.goto (-84), 3) := dk_167 255 172 (dk_at dksX3_eight_3 20 rfl rfl)
theorem dX3_eight_93 : decode cX3_eight 93 = .ok (.iload 6, 2) := dk_21 6 (dk_at dksX3_eight_4 0 rfl rfl)
theorem dX3_eight_95 : decode cX3_eight 95 = .ok (.ireturn, 1) := dk_172 (dk_at dksX3_eight_4 2 rfl rfl)
abbrev cX3_fill : ByteArray := prog_11_method_40_code
def yX3_fill : MethodName := ⟨RX3, "fill", "(II)I"⟩
def dkwX3_fill_3 : List UInt8 := [160, 0, 7, 4, 167, 0, 4, 3, 128, 84, 132, 4, 1, 167, 255, 218, 42, 29, 182, 0, 138, 172]
abbrev dktX3_fill_3 : List UInt8 := dkwX3_fill_3 ++ []
def dkwX3_fill_2 : List UInt8 := [182, 0, 61, 162, 0, 35, 42, 180, 0, 7, 21, 4, 92, 51, 42, 180, 0, 26, 21, 4, 46, 29]
abbrev dktX3_fill_2 : List UInt8 := dkwX3_fill_2 ++ dktX3_fill_3
def dkwX3_fill_1 : List UInt8 := [182, 0, 107, 42, 180, 0, 26, 28, 42, 180, 0, 37, 104, 27, 96, 46, 62, 3, 54, 4, 21, 4, 42]
abbrev dktX3_fill_1 : List UInt8 := dkwX3_fill_1 ++ dktX3_fill_2
def dkwX3_fill_0 : List UInt8 := [42, 27, 28, 182, 0, 125, 153, 0, 12, 42, 27, 28, 182, 0, 58, 153, 0, 5, 3, 172, 42, 3]
abbrev dktX3_fill_0 : List UInt8 := dkwX3_fill_0 ++ dktX3_fill_1
theorem dksX3_fill_0 : cX3_fill.data.toList.drop 0 = dktX3_fill_0 := by decide +kernel
theorem dksX3_fill_1 : cX3_fill.data.toList.drop 22 = dktX3_fill_1 := dk_seg dksX3_fill_0 22 rfl rfl
theorem dksX3_fill_2 : cX3_fill.data.toList.drop 45 = dktX3_fill_2 := dk_seg dksX3_fill_1 23 rfl rfl
theorem dksX3_fill_3 : cX3_fill.data.toList.drop 67 = dktX3_fill_3 := dk_seg dksX3_fill_2 22 rfl rfl
theorem dX3_fill_0 : decode cX3_fill 0 = .ok (.aload_n 0, 1) := dk_42 (dk_at dksX3_fill_0 0 rfl rfl)
theorem dX3_fill_1 : decode cX3_fill 1 = .ok (.iload_n 1, 1) := dk_27 (dk_at dksX3_fill_0 1 rfl rfl)
theorem dX3_fill_2 : decode cX3_fill 2 = .ok (.iload_n 2, 1) := dk_28 (dk_at dksX3_fill_0 2 rfl rfl)
theorem dX3_fill_3 : decode cX3_fill 3 = .ok (.invokevirtual 125, 3) := dk_182 0 125 (dk_at dksX3_fill_0 3 rfl rfl)
theorem dX3_fill_6 : decode cX3_fill 6 = .ok (.ifCond .eq 12, 3) := dk_153 0 12 (dk_at dksX3_fill_0 6 rfl rfl)
theorem dX3_fill_9 : decode cX3_fill 9 = .ok (.aload_n 0, 1) := dk_42 (dk_at dksX3_fill_0 9 rfl rfl)
theorem dX3_fill_10 : decode cX3_fill 10 = .ok (.iload_n 1, 1) := dk_27 (dk_at dksX3_fill_0 10 rfl rfl)
theorem dX3_fill_11 : decode cX3_fill 11 = .ok (.iload_n 2, 1) := dk_28 (dk_at dksX3_fill_0 11 rfl rfl)
theorem dX3_fill_12 : decode cX3_fill 12 = .ok (.invokevirtual 58, 3) := dk_182 0 58 (dk_at dksX3_fill_0 12 rfl rfl)
theorem dX3_fill_15 : decode cX3_fill 15 = .ok (.ifCond .eq 5, 3) := dk_153 0 5 (dk_at dksX3_fill_0 15 rfl rfl)
theorem dX3_fill_18 : decode cX3_fill 18 = .ok (.iconst 0, 1) := dk_3 (dk_at dksX3_fill_0 18 rfl rfl)
theorem dX3_fill_19 : decode cX3_fill 19 = .ok (.ireturn, 1) := dk_172 (dk_at dksX3_fill_0 19 rfl rfl)
theorem dX3_fill_20 : decode cX3_fill 20 = .ok (.aload_n 0, 1) := dk_42 (dk_at dksX3_fill_0 20 rfl rfl)
theorem dX3_fill_21 : decode cX3_fill 21 = .ok (.iconst 0, 1) := dk_3 (dk_at dksX3_fill_0 21 rfl rfl)
theorem dX3_fill_22 : decode cX3_fill 22 = .ok (.invokevirtual 107, 3) := dk_182 0 107 (dk_at dksX3_fill_1 0 rfl rfl)
theorem dX3_fill_25 : decode cX3_fill 25 = .ok (.aload_n 0, 1) := dk_42 (dk_at dksX3_fill_1 3 rfl rfl)
theorem dX3_fill_26 : decode cX3_fill 26 = .ok (.getfield 26, 3) := dk_180 0 26 (dk_at dksX3_fill_1 4 rfl rfl)
theorem dX3_fill_29 : decode cX3_fill 29 = .ok (.iload_n 2, 1) := dk_28 (dk_at dksX3_fill_1 7 rfl rfl)
theorem dX3_fill_30 : decode cX3_fill 30 = .ok (.aload_n 0, 1) := dk_42 (dk_at dksX3_fill_1 8 rfl rfl)
theorem dX3_fill_31 : decode cX3_fill 31 = .ok (.getfield 37, 3) := dk_180 0 37 (dk_at dksX3_fill_1 9 rfl rfl)
theorem dX3_fill_34 : decode cX3_fill 34 = .ok (.imul, 1) := dk_104 (dk_at dksX3_fill_1 12 rfl rfl)
theorem dX3_fill_35 : decode cX3_fill 35 = .ok (.iload_n 1, 1) := dk_27 (dk_at dksX3_fill_1 13 rfl rfl)
theorem dX3_fill_36 : decode cX3_fill 36 = .ok (.iadd, 1) := dk_96 (dk_at dksX3_fill_1 14 rfl rfl)
theorem dX3_fill_37 : decode cX3_fill 37 = .ok (.iaload, 1) := dk_46 (dk_at dksX3_fill_1 15 rfl rfl)
theorem dX3_fill_38 : decode cX3_fill 38 = .ok (.istore_n 3, 1) := dk_62 (dk_at dksX3_fill_1 16 rfl rfl)
theorem dX3_fill_39 : decode cX3_fill 39 = .ok (.iconst 0, 1) := dk_3 (dk_at dksX3_fill_1 17 rfl rfl)
theorem dX3_fill_40 : decode cX3_fill 40 = .ok (.istore 4, 2) := dk_54 4 (dk_at dksX3_fill_1 18 rfl rfl)
theorem dX3_fill_42 : decode cX3_fill 42 = .ok (.iload 4, 2) := dk_21 4 (dk_at dksX3_fill_1 20 rfl rfl)
theorem dX3_fill_44 : decode cX3_fill 44 = .ok (.aload_n 0, 1) := dk_42 (dk_at dksX3_fill_1 22 rfl rfl)
theorem dX3_fill_45 : decode cX3_fill 45 = .ok (.invokevirtual 61, 3) := dk_182 0 61 (dk_at dksX3_fill_2 0 rfl rfl)
theorem dX3_fill_48 : decode cX3_fill 48 = .ok (.if_icmp .ge 35, 3) := dk_162 0 35 (dk_at dksX3_fill_2 3 rfl rfl)
theorem dX3_fill_51 : decode cX3_fill 51 = .ok (.aload_n 0, 1) := dk_42 (dk_at dksX3_fill_2 6 rfl rfl)
theorem dX3_fill_52 : decode cX3_fill 52 = .ok (.getfield 7, 3) := dk_180 0 7 (dk_at dksX3_fill_2 7 rfl rfl)
theorem dX3_fill_55 : decode cX3_fill 55 = .ok (.iload 4, 2) := dk_21 4 (dk_at dksX3_fill_2 10 rfl rfl)
theorem dX3_fill_57 : decode cX3_fill 57 = .ok (.dup2, 1) := dk_92 (dk_at dksX3_fill_2 12 rfl rfl)
theorem dX3_fill_58 : decode cX3_fill 58 = .ok (.baload, 1) := dk_51 (dk_at dksX3_fill_2 13 rfl rfl)
theorem dX3_fill_59 : decode cX3_fill 59 = .ok (.aload_n 0, 1) := dk_42 (dk_at dksX3_fill_2 14 rfl rfl)
theorem dX3_fill_60 : decode cX3_fill 60 = .ok (.getfield 26, 3) := dk_180 0 26 (dk_at dksX3_fill_2 15 rfl rfl)
theorem dX3_fill_63 : decode cX3_fill 63 = .ok (.iload 4, 2) := dk_21 4 (dk_at dksX3_fill_2 18 rfl rfl)
theorem dX3_fill_65 : decode cX3_fill 65 = .ok (.iaload, 1) := dk_46 (dk_at dksX3_fill_2 20 rfl rfl)
theorem dX3_fill_66 : decode cX3_fill 66 = .ok (.iload_n 3, 1) := dk_29 (dk_at dksX3_fill_2 21 rfl rfl)
theorem dX3_fill_67 : decode cX3_fill 67 = .ok (.if_icmp .ne 7, 3) := dk_160 0 7 (dk_at dksX3_fill_3 0 rfl rfl)
theorem dX3_fill_70 : decode cX3_fill 70 = .ok (.iconst 1, 1) := dk_4 (dk_at dksX3_fill_3 3 rfl rfl)
theorem dX3_fill_71 : decode cX3_fill 71 = .ok (.goto 4, 3) := dk_167 0 4 (dk_at dksX3_fill_3 4 rfl rfl)
theorem dX3_fill_74 : decode cX3_fill 74 = .ok (.iconst 0, 1) := dk_3 (dk_at dksX3_fill_3 7 rfl rfl)
theorem dX3_fill_75 : decode cX3_fill 75 = .ok (.ior, 1) := dk_128 (dk_at dksX3_fill_3 8 rfl rfl)
theorem dX3_fill_76 : decode cX3_fill 76 = .ok (.bastore, 1) := dk_84 (dk_at dksX3_fill_3 9 rfl rfl)
theorem dX3_fill_77 : decode cX3_fill 77 = .ok (.iinc 4 1, 3) := dk_132 4 1 (dk_at dksX3_fill_3 10 rfl rfl)
theorem dX3_fill_80 : decode cX3_fill 80 = .ok (.goto (-38), 3) := dk_167 255 218 (dk_at dksX3_fill_3 13 rfl rfl)
theorem dX3_fill_83 : decode cX3_fill 83 = .ok (.aload_n 0, 1) := dk_42 (dk_at dksX3_fill_3 16 rfl rfl)
theorem dX3_fill_84 : decode cX3_fill 84 = .ok (.iload_n 3, 1) := dk_29 (dk_at dksX3_fill_3 17 rfl rfl)
theorem dX3_fill_85 : decode cX3_fill 85 = .ok (.invokevirtual 138, 3) := dk_182 0 138 (dk_at dksX3_fill_3 18 rfl rfl)
theorem dX3_fill_88 : decode cX3_fill 88 = .ok (.ireturn, 1) := dk_172 (dk_at dksX3_fill_3 21 rfl rfl)
abbrev cX3_isInk : ByteArray := prog_11_method_8_code
def yX3_isInk : MethodName := ⟨RX3, "isInk", "(II)Z"⟩
def dkwX3_isInk_1 : List UInt8 := [153, 0, 7, 4, 167, 0, 4, 3, 172]
abbrev dktX3_isInk_1 : List UInt8 := dkwX3_isInk_1 ++ []
def dkwX3_isInk_0 : List UInt8 := [42, 27, 28, 182, 0, 47, 153, 0, 23, 42, 180, 0, 7, 28, 42, 180, 0, 37, 104, 27, 96, 51]
abbrev dktX3_isInk_0 : List UInt8 := dkwX3_isInk_0 ++ dktX3_isInk_1
theorem dksX3_isInk_0 : cX3_isInk.data.toList.drop 0 = dktX3_isInk_0 := by decide +kernel
theorem dksX3_isInk_1 : cX3_isInk.data.toList.drop 22 = dktX3_isInk_1 := dk_seg dksX3_isInk_0 22 rfl rfl
theorem dX3_isInk_0 : decode cX3_isInk 0 = .ok (.aload_n 0, 1) := dk_42 (dk_at dksX3_isInk_0 0 rfl rfl)
theorem dX3_isInk_1 : decode cX3_isInk 1 = .ok (.iload_n 1, 1) := dk_27 (dk_at dksX3_isInk_0 1 rfl rfl)
theorem dX3_isInk_2 : decode cX3_isInk 2 = .ok (.iload_n 2, 1) := dk_28 (dk_at dksX3_isInk_0 2 rfl rfl)
theorem dX3_isInk_3 : decode cX3_isInk 3 = .ok (.invokevirtual 47, 3) := dk_182 0 47 (dk_at dksX3_isInk_0 3 rfl rfl)
theorem dX3_isInk_6 : decode cX3_isInk 6 = .ok (.ifCond .eq 23, 3) := dk_153 0 23 (dk_at dksX3_isInk_0 6 rfl rfl)
theorem dX3_isInk_9 : decode cX3_isInk 9 = .ok (.aload_n 0, 1) := dk_42 (dk_at dksX3_isInk_0 9 rfl rfl)
theorem dX3_isInk_10 : decode cX3_isInk 10 = .ok (.getfield 7, 3) := dk_180 0 7 (dk_at dksX3_isInk_0 10 rfl rfl)
theorem dX3_isInk_13 : decode cX3_isInk 13 = .ok (.iload_n 2, 1) := dk_28 (dk_at dksX3_isInk_0 13 rfl rfl)
theorem dX3_isInk_14 : decode cX3_isInk 14 = .ok (.aload_n 0, 1) := dk_42 (dk_at dksX3_isInk_0 14 rfl rfl)
theorem dX3_isInk_15 : decode cX3_isInk 15 = .ok (.getfield 37, 3) := dk_180 0 37 (dk_at dksX3_isInk_0 15 rfl rfl)
theorem dX3_isInk_18 : decode cX3_isInk 18 = .ok (.imul, 1) := dk_104 (dk_at dksX3_isInk_0 18 rfl rfl)
theorem dX3_isInk_19 : decode cX3_isInk 19 = .ok (.iload_n 1, 1) := dk_27 (dk_at dksX3_isInk_0 19 rfl rfl)
theorem dX3_isInk_20 : decode cX3_isInk 20 = .ok (.iadd, 1) := dk_96 (dk_at dksX3_isInk_0 20 rfl rfl)
theorem dX3_isInk_21 : decode cX3_isInk 21 = .ok (.baload, 1) := dk_51 (dk_at dksX3_isInk_0 21 rfl rfl)
theorem dX3_isInk_22 : decode cX3_isInk 22 = .ok (.ifCond .eq 7, 3) := dk_153 0 7 (dk_at dksX3_isInk_1 0 rfl rfl)
theorem dX3_isInk_25 : decode cX3_isInk 25 = .ok (.iconst 1, 1) := dk_4 (dk_at dksX3_isInk_1 3 rfl rfl)
theorem dX3_isInk_26 : decode cX3_isInk 26 = .ok (.goto 4, 3) := dk_167 0 4 (dk_at dksX3_isInk_1 4 rfl rfl)
theorem dX3_isInk_29 : decode cX3_isInk 29 = .ok (.iconst 0, 1) := dk_3 (dk_at dksX3_isInk_1 7 rfl rfl)
theorem dX3_isInk_30 : decode cX3_isInk 30 = .ok (.ireturn, 1) := dk_172 (dk_at dksX3_isInk_1 8 rfl rfl)
abbrev cX3_spreads : ByteArray := prog_11_method_24_code
def yX3_spreads : MethodName := ⟨RX3, "spreads", "(Z)V"⟩
def dkwX3_spreads_8 : List UInt8 := [167, 255, 107, 177]
abbrev dktX3_spreads_8 : List UInt8 := dkwX3_spreads_8 ++ []
def dkwX3_spreads_7 : List UInt8 := [21, 4, 27, 153, 0, 7, 4, 167, 0, 4, 5, 96, 54, 4, 167, 255, 135, 132, 3, 1, 167, 255, 118]
abbrev dktX3_spreads_7 : List UInt8 := dkwX3_spreads_7 ++ dktX3_spreads_8
def dkwX3_spreads_6 : List UInt8 := [21, 7, 42, 180, 0, 26, 29, 46, 161, 0, 6, 167, 0, 13, 42, 180, 0, 26, 29, 21, 7, 79, 4, 61]
abbrev dktX3_spreads_6 : List UInt8 := dkwX3_spreads_6 ++ dktX3_spreads_7
def dkwX3_spreads_5 : List UInt8 := [21, 6, 42, 180, 0, 37, 104, 21, 5, 96, 46, 167, 0, 4, 2, 54, 7, 21, 7, 2, 159, 0, 27]
abbrev dktX3_spreads_5 : List UInt8 := dkwX3_spreads_5 ++ dktX3_spreads_6
def dkwX3_spreads_4 : List UInt8 := [108, 21, 4, 184, 0, 55, 96, 54, 6, 42, 21, 5, 21, 6, 182, 0, 47, 153, 0, 21, 42, 180, 0, 26]
abbrev dktX3_spreads_4 : List UInt8 := dkwX3_spreads_4 ++ dktX3_spreads_5
def dkwX3_spreads_3 : List UInt8 := [16, 8, 162, 0, 110, 29, 42, 180, 0, 37, 112, 21, 4, 184, 0, 51, 96, 54, 5, 29, 42, 180, 0, 37]
abbrev dktX3_spreads_3 : List UInt8 := dkwX3_spreads_3 ++ dktX3_spreads_4
def dkwX3_spreads_2 : List UInt8 := [62, 29, 42, 182, 0, 61, 162, 0, 136, 3, 54, 4, 42, 180, 0, 26, 29, 46, 2, 159, 0, 117, 21, 4]
abbrev dktX3_spreads_2 : List UInt8 := dkwX3_spreads_2 ++ dktX3_spreads_3
def dkwX3_spreads_1 : List UInt8 := [160, 0, 7, 28, 167, 0, 4, 2, 79, 132, 2, 1, 167, 255, 224, 4, 61, 28, 153, 0, 151, 3, 61, 3]
abbrev dktX3_spreads_1 : List UInt8 := dkwX3_spreads_1 ++ dktX3_spreads_2
def dkwX3_spreads_0 : List UInt8 := [3, 61, 28, 42, 182, 0, 61, 162, 0, 30, 42, 180, 0, 26, 28, 42, 180, 0, 7, 28, 51, 27]
abbrev dktX3_spreads_0 : List UInt8 := dkwX3_spreads_0 ++ dktX3_spreads_1
theorem dksX3_spreads_0 : cX3_spreads.data.toList.drop 0 = dktX3_spreads_0 := by decide +kernel
theorem dksX3_spreads_1 : cX3_spreads.data.toList.drop 22 = dktX3_spreads_1 := dk_seg dksX3_spreads_0 22 rfl rfl
theorem dksX3_spreads_2 : cX3_spreads.data.toList.drop 46 = dktX3_spreads_2 := dk_seg dksX3_spreads_1 24 rfl rfl
theorem dksX3_spreads_3 : cX3_spreads.data.toList.drop 70 = dktX3_spreads_3 := dk_seg dksX3_spreads_2 24 rfl rfl
theorem dksX3_spreads_4 : cX3_spreads.data.toList.drop 94 = dktX3_spreads_4 := dk_seg dksX3_spreads_3 24 rfl rfl
theorem dksX3_spreads_5 : cX3_spreads.data.toList.drop 118 = dktX3_spreads_5 := dk_seg dksX3_spreads_4 24 rfl rfl
theorem dksX3_spreads_6 : cX3_spreads.data.toList.drop 141 = dktX3_spreads_6 := dk_seg dksX3_spreads_5 23 rfl rfl
theorem dksX3_spreads_7 : cX3_spreads.data.toList.drop 165 = dktX3_spreads_7 := dk_seg dksX3_spreads_6 24 rfl rfl
theorem dksX3_spreads_8 : cX3_spreads.data.toList.drop 188 = dktX3_spreads_8 := dk_seg dksX3_spreads_7 23 rfl rfl
theorem dX3_spreads_0 : decode cX3_spreads 0 = .ok (.iconst 0, 1) := dk_3 (dk_at dksX3_spreads_0 0 rfl rfl)
theorem dX3_spreads_1 : decode cX3_spreads 1 = .ok (.istore_n 2, 1) := dk_61 (dk_at dksX3_spreads_0 1 rfl rfl)
theorem dX3_spreads_2 : decode cX3_spreads 2 = .ok (.iload_n 2, 1) := dk_28 (dk_at dksX3_spreads_0 2 rfl rfl)
theorem dX3_spreads_3 : decode cX3_spreads 3 = .ok (.aload_n 0, 1) := dk_42 (dk_at dksX3_spreads_0 3 rfl rfl)
theorem dX3_spreads_4 : decode cX3_spreads 4 = .ok (.invokevirtual 61, 3) := dk_182 0 61 (dk_at dksX3_spreads_0 4 rfl rfl)
theorem dX3_spreads_7 : decode cX3_spreads 7 = .ok (.if_icmp .ge 30, 3) := dk_162 0 30 (dk_at dksX3_spreads_0 7 rfl rfl)
theorem dX3_spreads_10 : decode cX3_spreads 10 = .ok (.aload_n 0, 1) := dk_42 (dk_at dksX3_spreads_0 10 rfl rfl)
theorem dX3_spreads_11 : decode cX3_spreads 11 = .ok (.getfield 26, 3) := dk_180 0 26 (dk_at dksX3_spreads_0 11 rfl rfl)
theorem dX3_spreads_14 : decode cX3_spreads 14 = .ok (.iload_n 2, 1) := dk_28 (dk_at dksX3_spreads_0 14 rfl rfl)
theorem dX3_spreads_15 : decode cX3_spreads 15 = .ok (.aload_n 0, 1) := dk_42 (dk_at dksX3_spreads_0 15 rfl rfl)
theorem dX3_spreads_16 : decode cX3_spreads 16 = .ok (.getfield 7, 3) := dk_180 0 7 (dk_at dksX3_spreads_0 16 rfl rfl)
theorem dX3_spreads_19 : decode cX3_spreads 19 = .ok (.iload_n 2, 1) := dk_28 (dk_at dksX3_spreads_0 19 rfl rfl)
theorem dX3_spreads_20 : decode cX3_spreads 20 = .ok (.baload, 1) := dk_51 (dk_at dksX3_spreads_0 20 rfl rfl)
theorem dX3_spreads_21 : decode cX3_spreads 21 = .ok (.iload_n 1, 1) := dk_27 (dk_at dksX3_spreads_0 21 rfl rfl)
theorem dX3_spreads_22 : decode cX3_spreads 22 = .ok (.if_icmp .ne 7, 3) := dk_160 0 7 (dk_at dksX3_spreads_1 0 rfl rfl)
theorem dX3_spreads_25 : decode cX3_spreads 25 = .ok (.iload_n 2, 1) := dk_28 (dk_at dksX3_spreads_1 3 rfl rfl)
theorem dX3_spreads_26 : decode cX3_spreads 26 = .ok (.goto 4, 3) := dk_167 0 4 (dk_at dksX3_spreads_1 4 rfl rfl)
theorem dX3_spreads_29 : decode cX3_spreads 29 = .ok (.iconst (-1), 1) := dk_2 (dk_at dksX3_spreads_1 7 rfl rfl)
theorem dX3_spreads_30 : decode cX3_spreads 30 = .ok (.iastore, 1) := dk_79 (dk_at dksX3_spreads_1 8 rfl rfl)
theorem dX3_spreads_31 : decode cX3_spreads 31 = .ok (.iinc 2 1, 3) := dk_132 2 1 (dk_at dksX3_spreads_1 9 rfl rfl)
theorem dX3_spreads_34 : decode cX3_spreads 34 = .ok (.goto (-32), 3) := dk_167 255 224 (dk_at dksX3_spreads_1 12 rfl rfl)
theorem dX3_spreads_37 : decode cX3_spreads 37 = .ok (.iconst 1, 1) := dk_4 (dk_at dksX3_spreads_1 15 rfl rfl)
theorem dX3_spreads_38 : decode cX3_spreads 38 = .ok (.istore_n 2, 1) := dk_61 (dk_at dksX3_spreads_1 16 rfl rfl)
theorem dX3_spreads_39 : decode cX3_spreads 39 = .ok (.iload_n 2, 1) := dk_28 (dk_at dksX3_spreads_1 17 rfl rfl)
theorem dX3_spreads_40 : decode cX3_spreads 40 = .ok (.ifCond .eq 151, 3) := dk_153 0 151 (dk_at dksX3_spreads_1 18 rfl rfl)
theorem dX3_spreads_43 : decode cX3_spreads 43 = .ok (.iconst 0, 1) := dk_3 (dk_at dksX3_spreads_1 21 rfl rfl)
theorem dX3_spreads_44 : decode cX3_spreads 44 = .ok (.istore_n 2, 1) := dk_61 (dk_at dksX3_spreads_1 22 rfl rfl)
theorem dX3_spreads_45 : decode cX3_spreads 45 = .ok (.iconst 0, 1) := dk_3 (dk_at dksX3_spreads_1 23 rfl rfl)
theorem dX3_spreads_46 : decode cX3_spreads 46 = .ok (.istore_n 3, 1) := dk_62 (dk_at dksX3_spreads_2 0 rfl rfl)
theorem dX3_spreads_47 : decode cX3_spreads 47 = .ok (.iload_n 3, 1) := dk_29 (dk_at dksX3_spreads_2 1 rfl rfl)
theorem dX3_spreads_48 : decode cX3_spreads 48 = .ok (.aload_n 0, 1) := dk_42 (dk_at dksX3_spreads_2 2 rfl rfl)
theorem dX3_spreads_49 : decode cX3_spreads 49 = .ok (.invokevirtual 61, 3) := dk_182 0 61 (dk_at dksX3_spreads_2 3 rfl rfl)
theorem dX3_spreads_52 : decode cX3_spreads 52 = .ok (.if_icmp .ge 136, 3) := dk_162 0 136 (dk_at dksX3_spreads_2 6 rfl rfl)
theorem dX3_spreads_55 : decode cX3_spreads 55 = .ok (.iconst 0, 1) := dk_3 (dk_at dksX3_spreads_2 9 rfl rfl)
theorem dX3_spreads_56 : decode cX3_spreads 56 = .ok (.istore 4, 2) := dk_54 4 (dk_at dksX3_spreads_2 10 rfl rfl)
theorem dX3_spreads_58 : decode cX3_spreads 58 = .ok (.aload_n 0, 1) := dk_42 (dk_at dksX3_spreads_2 12 rfl rfl)
theorem dX3_spreads_59 : decode cX3_spreads 59 = .ok (.getfield 26, 3) := dk_180 0 26 (dk_at dksX3_spreads_2 13 rfl rfl)
theorem dX3_spreads_62 : decode cX3_spreads 62 = .ok (.iload_n 3, 1) := dk_29 (dk_at dksX3_spreads_2 16 rfl rfl)
theorem dX3_spreads_63 : decode cX3_spreads 63 = .ok (.iaload, 1) := dk_46 (dk_at dksX3_spreads_2 17 rfl rfl)
theorem dX3_spreads_64 : decode cX3_spreads 64 = .ok (.iconst (-1), 1) := dk_2 (dk_at dksX3_spreads_2 18 rfl rfl)
theorem dX3_spreads_65 : decode cX3_spreads 65 = .ok (.if_icmp .eq 117, 3) := dk_159 0 117 (dk_at dksX3_spreads_2 19 rfl rfl)
theorem dX3_spreads_68 : decode cX3_spreads 68 = .ok (.iload 4, 2) := dk_21 4 (dk_at dksX3_spreads_2 22 rfl rfl)
theorem dX3_spreads_70 : decode cX3_spreads 70 = .ok (.bipush 8, 2) := dk_16 8 (dk_at dksX3_spreads_3 0 rfl rfl)
theorem dX3_spreads_72 : decode cX3_spreads 72 = .ok (.if_icmp .ge 110, 3) := dk_162 0 110 (dk_at dksX3_spreads_3 2 rfl rfl)
theorem dX3_spreads_75 : decode cX3_spreads 75 = .ok (.iload_n 3, 1) := dk_29 (dk_at dksX3_spreads_3 5 rfl rfl)
theorem dX3_spreads_76 : decode cX3_spreads 76 = .ok (.aload_n 0, 1) := dk_42 (dk_at dksX3_spreads_3 6 rfl rfl)
theorem dX3_spreads_77 : decode cX3_spreads 77 = .ok (.getfield 37, 3) := dk_180 0 37 (dk_at dksX3_spreads_3 7 rfl rfl)
theorem dX3_spreads_80 : decode cX3_spreads 80 = .ok (.irem, 1) := dk_112 (dk_at dksX3_spreads_3 10 rfl rfl)
theorem dX3_spreads_81 : decode cX3_spreads 81 = .ok (.iload 4, 2) := dk_21 4 (dk_at dksX3_spreads_3 11 rfl rfl)
theorem dX3_spreads_83 : decode cX3_spreads 83 = .ok (.invokestatic 51, 3) := dk_184 0 51 (dk_at dksX3_spreads_3 13 rfl rfl)
theorem dX3_spreads_86 : decode cX3_spreads 86 = .ok (.iadd, 1) := dk_96 (dk_at dksX3_spreads_3 16 rfl rfl)
theorem dX3_spreads_87 : decode cX3_spreads 87 = .ok (.istore 5, 2) := dk_54 5 (dk_at dksX3_spreads_3 17 rfl rfl)
theorem dX3_spreads_89 : decode cX3_spreads 89 = .ok (.iload_n 3, 1) := dk_29 (dk_at dksX3_spreads_3 19 rfl rfl)
theorem dX3_spreads_90 : decode cX3_spreads 90 = .ok (.aload_n 0, 1) := dk_42 (dk_at dksX3_spreads_3 20 rfl rfl)
theorem dX3_spreads_91 : decode cX3_spreads 91 = .ok (.getfield 37, 3) := dk_180 0 37 (dk_at dksX3_spreads_3 21 rfl rfl)
theorem dX3_spreads_94 : decode cX3_spreads 94 = .ok (.idiv, 1) := dk_108 (dk_at dksX3_spreads_4 0 rfl rfl)
theorem dX3_spreads_95 : decode cX3_spreads 95 = .ok (.iload 4, 2) := dk_21 4 (dk_at dksX3_spreads_4 1 rfl rfl)
theorem dX3_spreads_97 : decode cX3_spreads 97 = .ok (.invokestatic 55, 3) := dk_184 0 55 (dk_at dksX3_spreads_4 3 rfl rfl)
theorem dX3_spreads_100 : decode cX3_spreads 100 = .ok (.iadd, 1) := dk_96 (dk_at dksX3_spreads_4 6 rfl rfl)
theorem dX3_spreads_101 : decode cX3_spreads 101 = .ok (.istore 6, 2) := dk_54 6 (dk_at dksX3_spreads_4 7 rfl rfl)
theorem dX3_spreads_103 : decode cX3_spreads 103 = .ok (.aload_n 0, 1) := dk_42 (dk_at dksX3_spreads_4 9 rfl rfl)
theorem dX3_spreads_104 : decode cX3_spreads 104 = .ok (.iload 5, 2) := dk_21 5 (dk_at dksX3_spreads_4 10 rfl rfl)
theorem dX3_spreads_106 : decode cX3_spreads 106 = .ok (.iload 6, 2) := dk_21 6 (dk_at dksX3_spreads_4 12 rfl rfl)
theorem dX3_spreads_108 : decode cX3_spreads 108 = .ok (.invokevirtual 47, 3) := dk_182 0 47 (dk_at dksX3_spreads_4 14 rfl rfl)
theorem dX3_spreads_111 : decode cX3_spreads 111 = .ok (.ifCond .eq 21, 3) := dk_153 0 21 (dk_at dksX3_spreads_4 17 rfl rfl)
theorem dX3_spreads_114 : decode cX3_spreads 114 = .ok (.aload_n 0, 1) := dk_42 (dk_at dksX3_spreads_4 20 rfl rfl)
theorem dX3_spreads_115 : decode cX3_spreads 115 = .ok (.getfield 26, 3) := dk_180 0 26 (dk_at dksX3_spreads_4 21 rfl rfl)
theorem dX3_spreads_118 : decode cX3_spreads 118 = .ok (.iload 6, 2) := dk_21 6 (dk_at dksX3_spreads_5 0 rfl rfl)
theorem dX3_spreads_120 : decode cX3_spreads 120 = .ok (.aload_n 0, 1) := dk_42 (dk_at dksX3_spreads_5 2 rfl rfl)
theorem dX3_spreads_121 : decode cX3_spreads 121 = .ok (.getfield 37, 3) := dk_180 0 37 (dk_at dksX3_spreads_5 3 rfl rfl)
theorem dX3_spreads_124 : decode cX3_spreads 124 = .ok (.imul, 1) := dk_104 (dk_at dksX3_spreads_5 6 rfl rfl)
theorem dX3_spreads_125 : decode cX3_spreads 125 = .ok (.iload 5, 2) := dk_21 5 (dk_at dksX3_spreads_5 7 rfl rfl)
theorem dX3_spreads_127 : decode cX3_spreads 127 = .ok (.iadd, 1) := dk_96 (dk_at dksX3_spreads_5 9 rfl rfl)
theorem dX3_spreads_128 : decode cX3_spreads 128 = .ok (.iaload, 1) := dk_46 (dk_at dksX3_spreads_5 10 rfl rfl)
theorem dX3_spreads_129 : decode cX3_spreads 129 = .ok (.goto 4, 3) := dk_167 0 4 (dk_at dksX3_spreads_5 11 rfl rfl)
theorem dX3_spreads_132 : decode cX3_spreads 132 = .ok (.iconst (-1), 1) := dk_2 (dk_at dksX3_spreads_5 14 rfl rfl)
theorem dX3_spreads_133 : decode cX3_spreads 133 = .ok (.istore 7, 2) := dk_54 7 (dk_at dksX3_spreads_5 15 rfl rfl)
theorem dX3_spreads_135 : decode cX3_spreads 135 = .ok (.iload 7, 2) := dk_21 7 (dk_at dksX3_spreads_5 17 rfl rfl)
theorem dX3_spreads_137 : decode cX3_spreads 137 = .ok (.iconst (-1), 1) := dk_2 (dk_at dksX3_spreads_5 19 rfl rfl)
theorem dX3_spreads_138 : decode cX3_spreads 138 = .ok (.if_icmp .eq 27, 3) := dk_159 0 27 (dk_at dksX3_spreads_5 20 rfl rfl)
theorem dX3_spreads_141 : decode cX3_spreads 141 = .ok (.iload 7, 2) := dk_21 7 (dk_at dksX3_spreads_6 0 rfl rfl)
theorem dX3_spreads_143 : decode cX3_spreads 143 = .ok (.aload_n 0, 1) := dk_42 (dk_at dksX3_spreads_6 2 rfl rfl)
theorem dX3_spreads_144 : decode cX3_spreads 144 = .ok (.getfield 26, 3) := dk_180 0 26 (dk_at dksX3_spreads_6 3 rfl rfl)
theorem dX3_spreads_147 : decode cX3_spreads 147 = .ok (.iload_n 3, 1) := dk_29 (dk_at dksX3_spreads_6 6 rfl rfl)
theorem dX3_spreads_148 : decode cX3_spreads 148 = .ok (.iaload, 1) := dk_46 (dk_at dksX3_spreads_6 7 rfl rfl)
theorem dX3_spreads_149 : decode cX3_spreads 149 = .ok (.if_icmp .lt 6, 3) := dk_161 0 6 (dk_at dksX3_spreads_6 8 rfl rfl)
theorem dX3_spreads_152 : decode cX3_spreads 152 = .ok (.goto 13, 3) := dk_167 0 13 (dk_at dksX3_spreads_6 11 rfl rfl)
theorem dX3_spreads_155 : decode cX3_spreads 155 = .ok (.aload_n 0, 1) := dk_42 (dk_at dksX3_spreads_6 14 rfl rfl)
theorem dX3_spreads_156 : decode cX3_spreads 156 = .ok (.getfield 26, 3) := dk_180 0 26 (dk_at dksX3_spreads_6 15 rfl rfl)
theorem dX3_spreads_159 : decode cX3_spreads 159 = .ok (.iload_n 3, 1) := dk_29 (dk_at dksX3_spreads_6 18 rfl rfl)
theorem dX3_spreads_160 : decode cX3_spreads 160 = .ok (.iload 7, 2) := dk_21 7 (dk_at dksX3_spreads_6 19 rfl rfl)
theorem dX3_spreads_162 : decode cX3_spreads 162 = .ok (.iastore, 1) := dk_79 (dk_at dksX3_spreads_6 21 rfl rfl)
theorem dX3_spreads_163 : decode cX3_spreads 163 = .ok (.iconst 1, 1) := dk_4 (dk_at dksX3_spreads_6 22 rfl rfl)
theorem dX3_spreads_164 : decode cX3_spreads 164 = .ok (.istore_n 2, 1) := dk_61 (dk_at dksX3_spreads_6 23 rfl rfl)
theorem dX3_spreads_165 : decode cX3_spreads 165 = .ok (.iload 4, 2) := dk_21 4 (dk_at dksX3_spreads_7 0 rfl rfl)
theorem dX3_spreads_167 : decode cX3_spreads 167 = .ok (.iload_n 1, 1) := dk_27 (dk_at dksX3_spreads_7 2 rfl rfl)
theorem dX3_spreads_168 : decode cX3_spreads 168 = .ok (.ifCond .eq 7, 3) := dk_153 0 7 (dk_at dksX3_spreads_7 3 rfl rfl)
theorem dX3_spreads_171 : decode cX3_spreads 171 = .ok (.iconst 1, 1) := dk_4 (dk_at dksX3_spreads_7 6 rfl rfl)
theorem dX3_spreads_172 : decode cX3_spreads 172 = .ok (.goto 4, 3) := dk_167 0 4 (dk_at dksX3_spreads_7 7 rfl rfl)
theorem dX3_spreads_175 : decode cX3_spreads 175 = .ok (.iconst 2, 1) := dk_5 (dk_at dksX3_spreads_7 10 rfl rfl)
theorem dX3_spreads_176 : decode cX3_spreads 176 = .ok (.iadd, 1) := dk_96 (dk_at dksX3_spreads_7 11 rfl rfl)
theorem dX3_spreads_177 : decode cX3_spreads 177 = .ok (.istore 4, 2) := dk_54 4 (dk_at dksX3_spreads_7 12 rfl rfl)
theorem dX3_spreads_179 : decode cX3_spreads 179 = .ok (.goto (-121), 3) := dk_167 255 135 (dk_at dksX3_spreads_7 14 rfl rfl)
theorem dX3_spreads_182 : decode cX3_spreads 182 = .ok (.iinc 3 1, 3) := dk_132 3 1 (dk_at dksX3_spreads_7 17 rfl rfl)
theorem dX3_spreads_185 : decode cX3_spreads 185 = .ok (.goto (-138), 3) := dk_167 255 118 (dk_at dksX3_spreads_7 20 rfl rfl)
theorem dX3_spreads_188 : decode cX3_spreads 188 = .ok (.goto (-149), 3) := dk_167 255 107 (dk_at dksX3_spreads_8 0 rfl rfl)
theorem dX3_spreads_191 : decode cX3_spreads 191 = .ok (.return_, 1) := dk_177 (dk_at dksX3_spreads_8 3 rfl rfl)
abbrev cX3_cells : ByteArray := prog_11_method_6_code
def yX3_cells : MethodName := ⟨RX3, "cells", "()I"⟩
def dkwX3_cells_0 : List UInt8 := [42, 180, 0, 37, 42, 180, 0, 40, 104, 172]
abbrev dktX3_cells_0 : List UInt8 := dkwX3_cells_0 ++ []
theorem dksX3_cells_0 : cX3_cells.data.toList.drop 0 = dktX3_cells_0 := by decide +kernel
theorem dX3_cells_0 : decode cX3_cells 0 = .ok (.aload_n 0, 1) := dk_42 (dk_at dksX3_cells_0 0 rfl rfl)
theorem dX3_cells_1 : decode cX3_cells 1 = .ok (.getfield 37, 3) := dk_180 0 37 (dk_at dksX3_cells_0 1 rfl rfl)
theorem dX3_cells_4 : decode cX3_cells 4 = .ok (.aload_n 0, 1) := dk_42 (dk_at dksX3_cells_0 4 rfl rfl)
theorem dX3_cells_5 : decode cX3_cells 5 = .ok (.getfield 40, 3) := dk_180 0 40 (dk_at dksX3_cells_0 5 rfl rfl)
theorem dX3_cells_8 : decode cX3_cells 8 = .ok (.imul, 1) := dk_104 (dk_at dksX3_cells_0 8 rfl rfl)
theorem dX3_cells_9 : decode cX3_cells 9 = .ok (.ireturn, 1) := dk_172 (dk_at dksX3_cells_0 9 rfl rfl)
abbrev cX3_stepX : ByteArray := prog_11_method_10_code
def yX3_stepX : MethodName := ⟨RX3, "stepX", "(I)I"⟩
def dkwX3_stepX_0 : List UInt8 := [26, 153, 0, 8, 26, 7, 160, 0, 7, 3, 167, 0, 13, 26, 7, 162, 0, 7, 4, 167, 0, 4, 2, 172]
abbrev dktX3_stepX_0 : List UInt8 := dkwX3_stepX_0 ++ []
theorem dksX3_stepX_0 : cX3_stepX.data.toList.drop 0 = dktX3_stepX_0 := by decide +kernel
theorem dX3_stepX_0 : decode cX3_stepX 0 = .ok (.iload_n 0, 1) := dk_26 (dk_at dksX3_stepX_0 0 rfl rfl)
theorem dX3_stepX_1 : decode cX3_stepX 1 = .ok (.ifCond .eq 8, 3) := dk_153 0 8 (dk_at dksX3_stepX_0 1 rfl rfl)
theorem dX3_stepX_4 : decode cX3_stepX 4 = .ok (.iload_n 0, 1) := dk_26 (dk_at dksX3_stepX_0 4 rfl rfl)
theorem dX3_stepX_5 : decode cX3_stepX 5 = .ok (.iconst 4, 1) := dk_7 (dk_at dksX3_stepX_0 5 rfl rfl)
theorem dX3_stepX_6 : decode cX3_stepX 6 = .ok (.if_icmp .ne 7, 3) := dk_160 0 7 (dk_at dksX3_stepX_0 6 rfl rfl)
theorem dX3_stepX_9 : decode cX3_stepX 9 = .ok (.iconst 0, 1) := dk_3 (dk_at dksX3_stepX_0 9 rfl rfl)
theorem dX3_stepX_10 : decode cX3_stepX 10 = .ok (.goto 13, 3) := dk_167 0 13 (dk_at dksX3_stepX_0 10 rfl rfl)
theorem dX3_stepX_13 : decode cX3_stepX 13 = .ok (.iload_n 0, 1) := dk_26 (dk_at dksX3_stepX_0 13 rfl rfl)
theorem dX3_stepX_14 : decode cX3_stepX 14 = .ok (.iconst 4, 1) := dk_7 (dk_at dksX3_stepX_0 14 rfl rfl)
theorem dX3_stepX_15 : decode cX3_stepX 15 = .ok (.if_icmp .ge 7, 3) := dk_162 0 7 (dk_at dksX3_stepX_0 15 rfl rfl)
theorem dX3_stepX_18 : decode cX3_stepX 18 = .ok (.iconst 1, 1) := dk_4 (dk_at dksX3_stepX_0 18 rfl rfl)
theorem dX3_stepX_19 : decode cX3_stepX 19 = .ok (.goto 4, 3) := dk_167 0 4 (dk_at dksX3_stepX_0 19 rfl rfl)
theorem dX3_stepX_22 : decode cX3_stepX 22 = .ok (.iconst (-1), 1) := dk_2 (dk_at dksX3_stepX_0 22 rfl rfl)
theorem dX3_stepX_23 : decode cX3_stepX 23 = .ok (.ireturn, 1) := dk_172 (dk_at dksX3_stepX_0 23 rfl rfl)
abbrev cX3_stepY : ByteArray := prog_11_method_11_code
def yX3_stepY : MethodName := ⟨RX3, "stepY", "(I)I"⟩
def dkwX3_stepY_1 : List UInt8 := [160, 0, 7, 2, 167, 0, 4, 4, 172]
abbrev dktX3_stepY_1 : List UInt8 := dkwX3_stepY_1 ++ []
def dkwX3_stepY_0 : List UInt8 := [26, 5, 159, 0, 9, 26, 16, 6, 160, 0, 7, 3, 167, 0, 19, 26, 5, 161, 0, 9, 26, 16, 7]
abbrev dktX3_stepY_0 : List UInt8 := dkwX3_stepY_0 ++ dktX3_stepY_1
theorem dksX3_stepY_0 : cX3_stepY.data.toList.drop 0 = dktX3_stepY_0 := by decide +kernel
theorem dksX3_stepY_1 : cX3_stepY.data.toList.drop 23 = dktX3_stepY_1 := dk_seg dksX3_stepY_0 23 rfl rfl
theorem dX3_stepY_0 : decode cX3_stepY 0 = .ok (.iload_n 0, 1) := dk_26 (dk_at dksX3_stepY_0 0 rfl rfl)
theorem dX3_stepY_1 : decode cX3_stepY 1 = .ok (.iconst 2, 1) := dk_5 (dk_at dksX3_stepY_0 1 rfl rfl)
theorem dX3_stepY_2 : decode cX3_stepY 2 = .ok (.if_icmp .eq 9, 3) := dk_159 0 9 (dk_at dksX3_stepY_0 2 rfl rfl)
theorem dX3_stepY_5 : decode cX3_stepY 5 = .ok (.iload_n 0, 1) := dk_26 (dk_at dksX3_stepY_0 5 rfl rfl)
theorem dX3_stepY_6 : decode cX3_stepY 6 = .ok (.bipush 6, 2) := dk_16 6 (dk_at dksX3_stepY_0 6 rfl rfl)
theorem dX3_stepY_8 : decode cX3_stepY 8 = .ok (.if_icmp .ne 7, 3) := dk_160 0 7 (dk_at dksX3_stepY_0 8 rfl rfl)
theorem dX3_stepY_11 : decode cX3_stepY 11 = .ok (.iconst 0, 1) := dk_3 (dk_at dksX3_stepY_0 11 rfl rfl)
theorem dX3_stepY_12 : decode cX3_stepY 12 = .ok (.goto 19, 3) := dk_167 0 19 (dk_at dksX3_stepY_0 12 rfl rfl)
theorem dX3_stepY_15 : decode cX3_stepY 15 = .ok (.iload_n 0, 1) := dk_26 (dk_at dksX3_stepY_0 15 rfl rfl)
theorem dX3_stepY_16 : decode cX3_stepY 16 = .ok (.iconst 2, 1) := dk_5 (dk_at dksX3_stepY_0 16 rfl rfl)
theorem dX3_stepY_17 : decode cX3_stepY 17 = .ok (.if_icmp .lt 9, 3) := dk_161 0 9 (dk_at dksX3_stepY_0 17 rfl rfl)
theorem dX3_stepY_20 : decode cX3_stepY 20 = .ok (.iload_n 0, 1) := dk_26 (dk_at dksX3_stepY_0 20 rfl rfl)
theorem dX3_stepY_21 : decode cX3_stepY 21 = .ok (.bipush 7, 2) := dk_16 7 (dk_at dksX3_stepY_0 21 rfl rfl)
theorem dX3_stepY_23 : decode cX3_stepY 23 = .ok (.if_icmp .ne 7, 3) := dk_160 0 7 (dk_at dksX3_stepY_1 0 rfl rfl)
theorem dX3_stepY_26 : decode cX3_stepY 26 = .ok (.iconst (-1), 1) := dk_2 (dk_at dksX3_stepY_1 3 rfl rfl)
theorem dX3_stepY_27 : decode cX3_stepY 27 = .ok (.goto 4, 3) := dk_167 0 4 (dk_at dksX3_stepY_1 4 rfl rfl)
theorem dX3_stepY_30 : decode cX3_stepY 30 = .ok (.iconst 1, 1) := dk_4 (dk_at dksX3_stepY_1 7 rfl rfl)
theorem dX3_stepY_31 : decode cX3_stepY 31 = .ok (.ireturn, 1) := dk_172 (dk_at dksX3_stepY_1 8 rfl rfl)
abbrev cX3_sizeOf : ByteArray := prog_11_method_28_code
def yX3_sizeOf : MethodName := ⟨RX3, "sizeOf", "(I)I"⟩
def dkwX3_sizeOf_1 : List UInt8 := [167, 0, 4, 3, 96, 61, 132, 3, 1, 167, 255, 227, 28, 172]
abbrev dktX3_sizeOf_1 : List UInt8 := dkwX3_sizeOf_1 ++ []
def dkwX3_sizeOf_0 : List UInt8 := [3, 61, 3, 62, 29, 42, 182, 0, 61, 162, 0, 27, 28, 42, 180, 0, 26, 29, 46, 27, 160, 0, 7, 4]
abbrev dktX3_sizeOf_0 : List UInt8 := dkwX3_sizeOf_0 ++ dktX3_sizeOf_1
theorem dksX3_sizeOf_0 : cX3_sizeOf.data.toList.drop 0 = dktX3_sizeOf_0 := by decide +kernel
theorem dksX3_sizeOf_1 : cX3_sizeOf.data.toList.drop 24 = dktX3_sizeOf_1 := dk_seg dksX3_sizeOf_0 24 rfl rfl
theorem dX3_sizeOf_0 : decode cX3_sizeOf 0 = .ok (.iconst 0, 1) := dk_3 (dk_at dksX3_sizeOf_0 0 rfl rfl)
theorem dX3_sizeOf_1 : decode cX3_sizeOf 1 = .ok (.istore_n 2, 1) := dk_61 (dk_at dksX3_sizeOf_0 1 rfl rfl)
theorem dX3_sizeOf_2 : decode cX3_sizeOf 2 = .ok (.iconst 0, 1) := dk_3 (dk_at dksX3_sizeOf_0 2 rfl rfl)
theorem dX3_sizeOf_3 : decode cX3_sizeOf 3 = .ok (.istore_n 3, 1) := dk_62 (dk_at dksX3_sizeOf_0 3 rfl rfl)
theorem dX3_sizeOf_4 : decode cX3_sizeOf 4 = .ok (.iload_n 3, 1) := dk_29 (dk_at dksX3_sizeOf_0 4 rfl rfl)
theorem dX3_sizeOf_5 : decode cX3_sizeOf 5 = .ok (.aload_n 0, 1) := dk_42 (dk_at dksX3_sizeOf_0 5 rfl rfl)
theorem dX3_sizeOf_6 : decode cX3_sizeOf 6 = .ok (.invokevirtual 61, 3) := dk_182 0 61 (dk_at dksX3_sizeOf_0 6 rfl rfl)
theorem dX3_sizeOf_9 : decode cX3_sizeOf 9 = .ok (.if_icmp .ge 27, 3) := dk_162 0 27 (dk_at dksX3_sizeOf_0 9 rfl rfl)
theorem dX3_sizeOf_12 : decode cX3_sizeOf 12 = .ok (.iload_n 2, 1) := dk_28 (dk_at dksX3_sizeOf_0 12 rfl rfl)
theorem dX3_sizeOf_13 : decode cX3_sizeOf 13 = .ok (.aload_n 0, 1) := dk_42 (dk_at dksX3_sizeOf_0 13 rfl rfl)
theorem dX3_sizeOf_14 : decode cX3_sizeOf 14 = .ok (.getfield 26, 3) := dk_180 0 26 (dk_at dksX3_sizeOf_0 14 rfl rfl)
theorem dX3_sizeOf_17 : decode cX3_sizeOf 17 = .ok (.iload_n 3, 1) := dk_29 (dk_at dksX3_sizeOf_0 17 rfl rfl)
theorem dX3_sizeOf_18 : decode cX3_sizeOf 18 = .ok (.iaload, 1) := dk_46 (dk_at dksX3_sizeOf_0 18 rfl rfl)
theorem dX3_sizeOf_19 : decode cX3_sizeOf 19 = .ok (.iload_n 1, 1) := dk_27 (dk_at dksX3_sizeOf_0 19 rfl rfl)
theorem dX3_sizeOf_20 : decode cX3_sizeOf 20 = .ok (.if_icmp .ne 7, 3) := dk_160 0 7 (dk_at dksX3_sizeOf_0 20 rfl rfl)
theorem dX3_sizeOf_23 : decode cX3_sizeOf 23 = .ok (.iconst 1, 1) := dk_4 (dk_at dksX3_sizeOf_0 23 rfl rfl)
theorem dX3_sizeOf_24 : decode cX3_sizeOf 24 = .ok (.goto 4, 3) := dk_167 0 4 (dk_at dksX3_sizeOf_1 0 rfl rfl)
theorem dX3_sizeOf_27 : decode cX3_sizeOf 27 = .ok (.iconst 0, 1) := dk_3 (dk_at dksX3_sizeOf_1 3 rfl rfl)
theorem dX3_sizeOf_28 : decode cX3_sizeOf 28 = .ok (.iadd, 1) := dk_96 (dk_at dksX3_sizeOf_1 4 rfl rfl)
theorem dX3_sizeOf_29 : decode cX3_sizeOf 29 = .ok (.istore_n 2, 1) := dk_61 (dk_at dksX3_sizeOf_1 5 rfl rfl)
theorem dX3_sizeOf_30 : decode cX3_sizeOf 30 = .ok (.iinc 3 1, 3) := dk_132 3 1 (dk_at dksX3_sizeOf_1 6 rfl rfl)
theorem dX3_sizeOf_33 : decode cX3_sizeOf 33 = .ok (.goto (-29), 3) := dk_167 255 227 (dk_at dksX3_sizeOf_1 9 rfl rfl)
theorem dX3_sizeOf_36 : decode cX3_sizeOf 36 = .ok (.iload_n 2, 1) := dk_28 (dk_at dksX3_sizeOf_1 12 rfl rfl)
theorem dX3_sizeOf_37 : decode cX3_sizeOf 37 = .ok (.ireturn, 1) := dk_172 (dk_at dksX3_sizeOf_1 13 rfl rfl)
abbrev cX3_invert : ByteArray := prog_11_method_41_code
def yX3_invert : MethodName := ⟨RX3, "invert", "()I"⟩
def dkwX3_invert_1 : List UInt8 := [27, 51, 154, 0, 7, 4, 167, 0, 4, 3, 84, 132, 1, 1, 167, 255, 225, 42, 182, 0, 141, 172]
abbrev dktX3_invert_1 : List UInt8 := dkwX3_invert_1 ++ []
def dkwX3_invert_0 : List UInt8 := [42, 3, 181, 0, 33, 3, 60, 27, 42, 182, 0, 61, 162, 0, 29, 42, 180, 0, 7, 27, 42, 180, 0, 7]
abbrev dktX3_invert_0 : List UInt8 := dkwX3_invert_0 ++ dktX3_invert_1
theorem dksX3_invert_0 : cX3_invert.data.toList.drop 0 = dktX3_invert_0 := by decide +kernel
theorem dksX3_invert_1 : cX3_invert.data.toList.drop 24 = dktX3_invert_1 := dk_seg dksX3_invert_0 24 rfl rfl
theorem dX3_invert_0 : decode cX3_invert 0 = .ok (.aload_n 0, 1) := dk_42 (dk_at dksX3_invert_0 0 rfl rfl)
theorem dX3_invert_1 : decode cX3_invert 1 = .ok (.iconst 0, 1) := dk_3 (dk_at dksX3_invert_0 1 rfl rfl)
theorem dX3_invert_2 : decode cX3_invert 2 = .ok (.putfield 33, 3) := dk_181 0 33 (dk_at dksX3_invert_0 2 rfl rfl)
theorem dX3_invert_5 : decode cX3_invert 5 = .ok (.iconst 0, 1) := dk_3 (dk_at dksX3_invert_0 5 rfl rfl)
theorem dX3_invert_6 : decode cX3_invert 6 = .ok (.istore_n 1, 1) := dk_60 (dk_at dksX3_invert_0 6 rfl rfl)
theorem dX3_invert_7 : decode cX3_invert 7 = .ok (.iload_n 1, 1) := dk_27 (dk_at dksX3_invert_0 7 rfl rfl)
theorem dX3_invert_8 : decode cX3_invert 8 = .ok (.aload_n 0, 1) := dk_42 (dk_at dksX3_invert_0 8 rfl rfl)
theorem dX3_invert_9 : decode cX3_invert 9 = .ok (.invokevirtual 61, 3) := dk_182 0 61 (dk_at dksX3_invert_0 9 rfl rfl)
theorem dX3_invert_12 : decode cX3_invert 12 = .ok (.if_icmp .ge 29, 3) := dk_162 0 29 (dk_at dksX3_invert_0 12 rfl rfl)
theorem dX3_invert_15 : decode cX3_invert 15 = .ok (.aload_n 0, 1) := dk_42 (dk_at dksX3_invert_0 15 rfl rfl)
theorem dX3_invert_16 : decode cX3_invert 16 = .ok (.getfield 7, 3) := dk_180 0 7 (dk_at dksX3_invert_0 16 rfl rfl)
theorem dX3_invert_19 : decode cX3_invert 19 = .ok (.iload_n 1, 1) := dk_27 (dk_at dksX3_invert_0 19 rfl rfl)
theorem dX3_invert_20 : decode cX3_invert 20 = .ok (.aload_n 0, 1) := dk_42 (dk_at dksX3_invert_0 20 rfl rfl)
theorem dX3_invert_21 : decode cX3_invert 21 = .ok (.getfield 7, 3) := dk_180 0 7 (dk_at dksX3_invert_0 21 rfl rfl)
theorem dX3_invert_24 : decode cX3_invert 24 = .ok (.iload_n 1, 1) := dk_27 (dk_at dksX3_invert_1 0 rfl rfl)
theorem dX3_invert_25 : decode cX3_invert 25 = .ok (.baload, 1) := dk_51 (dk_at dksX3_invert_1 1 rfl rfl)
theorem dX3_invert_26 : decode cX3_invert 26 = .ok (.ifCond .ne 7, 3) := dk_154 0 7 (dk_at dksX3_invert_1 2 rfl rfl)
theorem dX3_invert_29 : decode cX3_invert 29 = .ok (.iconst 1, 1) := dk_4 (dk_at dksX3_invert_1 5 rfl rfl)
theorem dX3_invert_30 : decode cX3_invert 30 = .ok (.goto 4, 3) := dk_167 0 4 (dk_at dksX3_invert_1 6 rfl rfl)
theorem dX3_invert_33 : decode cX3_invert 33 = .ok (.iconst 0, 1) := dk_3 (dk_at dksX3_invert_1 9 rfl rfl)
theorem dX3_invert_34 : decode cX3_invert 34 = .ok (.bastore, 1) := dk_84 (dk_at dksX3_invert_1 10 rfl rfl)
theorem dX3_invert_35 : decode cX3_invert 35 = .ok (.iinc 1 1, 3) := dk_132 1 1 (dk_at dksX3_invert_1 11 rfl rfl)
theorem dX3_invert_38 : decode cX3_invert 38 = .ok (.goto (-31), 3) := dk_167 255 225 (dk_at dksX3_invert_1 14 rfl rfl)
theorem dX3_invert_41 : decode cX3_invert 41 = .ok (.aload_n 0, 1) := dk_42 (dk_at dksX3_invert_1 17 rfl rfl)
theorem dX3_invert_42 : decode cX3_invert 42 = .ok (.invokevirtual 141, 3) := dk_182 0 141 (dk_at dksX3_invert_1 18 rfl rfl)
theorem dX3_invert_45 : decode cX3_invert 45 = .ok (.ireturn, 1) := dk_172 (dk_at dksX3_invert_1 21 rfl rfl)
abbrev cX3_count : ByteArray := prog_11_method_13_code
def yX3_count : MethodName := ⟨RX3, "count", "()I"⟩
def dkwX3_count_1 : List UInt8 := [167, 0, 4, 3, 96, 60, 132, 2, 1, 167, 255, 228, 27, 172]
abbrev dktX3_count_1 : List UInt8 := dkwX3_count_1 ++ []
def dkwX3_count_0 : List UInt8 := [3, 60, 3, 61, 28, 42, 182, 0, 61, 162, 0, 26, 27, 42, 180, 0, 7, 28, 51, 153, 0, 7, 4]
abbrev dktX3_count_0 : List UInt8 := dkwX3_count_0 ++ dktX3_count_1
theorem dksX3_count_0 : cX3_count.data.toList.drop 0 = dktX3_count_0 := by decide +kernel
theorem dksX3_count_1 : cX3_count.data.toList.drop 23 = dktX3_count_1 := dk_seg dksX3_count_0 23 rfl rfl
theorem dX3_count_0 : decode cX3_count 0 = .ok (.iconst 0, 1) := dk_3 (dk_at dksX3_count_0 0 rfl rfl)
theorem dX3_count_1 : decode cX3_count 1 = .ok (.istore_n 1, 1) := dk_60 (dk_at dksX3_count_0 1 rfl rfl)
theorem dX3_count_2 : decode cX3_count 2 = .ok (.iconst 0, 1) := dk_3 (dk_at dksX3_count_0 2 rfl rfl)
theorem dX3_count_3 : decode cX3_count 3 = .ok (.istore_n 2, 1) := dk_61 (dk_at dksX3_count_0 3 rfl rfl)
theorem dX3_count_4 : decode cX3_count 4 = .ok (.iload_n 2, 1) := dk_28 (dk_at dksX3_count_0 4 rfl rfl)
theorem dX3_count_5 : decode cX3_count 5 = .ok (.aload_n 0, 1) := dk_42 (dk_at dksX3_count_0 5 rfl rfl)
theorem dX3_count_6 : decode cX3_count 6 = .ok (.invokevirtual 61, 3) := dk_182 0 61 (dk_at dksX3_count_0 6 rfl rfl)
theorem dX3_count_9 : decode cX3_count 9 = .ok (.if_icmp .ge 26, 3) := dk_162 0 26 (dk_at dksX3_count_0 9 rfl rfl)
theorem dX3_count_12 : decode cX3_count 12 = .ok (.iload_n 1, 1) := dk_27 (dk_at dksX3_count_0 12 rfl rfl)
theorem dX3_count_13 : decode cX3_count 13 = .ok (.aload_n 0, 1) := dk_42 (dk_at dksX3_count_0 13 rfl rfl)
theorem dX3_count_14 : decode cX3_count 14 = .ok (.getfield 7, 3) := dk_180 0 7 (dk_at dksX3_count_0 14 rfl rfl)
theorem dX3_count_17 : decode cX3_count 17 = .ok (.iload_n 2, 1) := dk_28 (dk_at dksX3_count_0 17 rfl rfl)
theorem dX3_count_18 : decode cX3_count 18 = .ok (.baload, 1) := dk_51 (dk_at dksX3_count_0 18 rfl rfl)
theorem dX3_count_19 : decode cX3_count 19 = .ok (.ifCond .eq 7, 3) := dk_153 0 7 (dk_at dksX3_count_0 19 rfl rfl)
theorem dX3_count_22 : decode cX3_count 22 = .ok (.iconst 1, 1) := dk_4 (dk_at dksX3_count_0 22 rfl rfl)
theorem dX3_count_23 : decode cX3_count 23 = .ok (.goto 4, 3) := dk_167 0 4 (dk_at dksX3_count_1 0 rfl rfl)
theorem dX3_count_26 : decode cX3_count 26 = .ok (.iconst 0, 1) := dk_3 (dk_at dksX3_count_1 3 rfl rfl)
theorem dX3_count_27 : decode cX3_count 27 = .ok (.iadd, 1) := dk_96 (dk_at dksX3_count_1 4 rfl rfl)
theorem dX3_count_28 : decode cX3_count 28 = .ok (.istore_n 1, 1) := dk_60 (dk_at dksX3_count_1 5 rfl rfl)
theorem dX3_count_29 : decode cX3_count 29 = .ok (.iinc 2 1, 3) := dk_132 2 1 (dk_at dksX3_count_1 6 rfl rfl)
theorem dX3_count_32 : decode cX3_count 32 = .ok (.goto (-28), 3) := dk_167 255 228 (dk_at dksX3_count_1 9 rfl rfl)
theorem dX3_count_35 : decode cX3_count 35 = .ok (.iload_n 1, 1) := dk_27 (dk_at dksX3_count_1 12 rfl rfl)
theorem dX3_count_36 : decode cX3_count 36 = .ok (.ireturn, 1) := dk_172 (dk_at dksX3_count_1 13 rfl rfl)
abbrev cX3_store : ByteArray := prog_11_method_42_code
def yX3_store : MethodName := ⟨RX3, "store", "()I"⟩
def dkwX3_store_2 : List UInt8 := [180, 0, 7, 28, 51, 84, 132, 2, 1, 167, 255, 210, 27, 172]
abbrev dktX3_store_2 : List UInt8 := dkwX3_store_2 ++ []
def dkwX3_store_1 : List UInt8 := [42, 180, 0, 7, 28, 51, 160, 0, 7, 3, 167, 0, 4, 4, 96, 60, 42, 180, 0, 13, 28, 42]
abbrev dktX3_store_1 : List UInt8 := dkwX3_store_1 ++ dktX3_store_2
def dkwX3_store_0 : List UInt8 := [42, 3, 181, 0, 33, 3, 60, 3, 61, 28, 42, 182, 0, 61, 162, 0, 44, 27, 42, 180, 0, 13, 28, 51]
abbrev dktX3_store_0 : List UInt8 := dkwX3_store_0 ++ dktX3_store_1
theorem dksX3_store_0 : cX3_store.data.toList.drop 0 = dktX3_store_0 := by decide +kernel
theorem dksX3_store_1 : cX3_store.data.toList.drop 24 = dktX3_store_1 := dk_seg dksX3_store_0 24 rfl rfl
theorem dksX3_store_2 : cX3_store.data.toList.drop 46 = dktX3_store_2 := dk_seg dksX3_store_1 22 rfl rfl
theorem dX3_store_0 : decode cX3_store 0 = .ok (.aload_n 0, 1) := dk_42 (dk_at dksX3_store_0 0 rfl rfl)
theorem dX3_store_1 : decode cX3_store 1 = .ok (.iconst 0, 1) := dk_3 (dk_at dksX3_store_0 1 rfl rfl)
theorem dX3_store_2 : decode cX3_store 2 = .ok (.putfield 33, 3) := dk_181 0 33 (dk_at dksX3_store_0 2 rfl rfl)
theorem dX3_store_5 : decode cX3_store 5 = .ok (.iconst 0, 1) := dk_3 (dk_at dksX3_store_0 5 rfl rfl)
theorem dX3_store_6 : decode cX3_store 6 = .ok (.istore_n 1, 1) := dk_60 (dk_at dksX3_store_0 6 rfl rfl)
theorem dX3_store_7 : decode cX3_store 7 = .ok (.iconst 0, 1) := dk_3 (dk_at dksX3_store_0 7 rfl rfl)
theorem dX3_store_8 : decode cX3_store 8 = .ok (.istore_n 2, 1) := dk_61 (dk_at dksX3_store_0 8 rfl rfl)
theorem dX3_store_9 : decode cX3_store 9 = .ok (.iload_n 2, 1) := dk_28 (dk_at dksX3_store_0 9 rfl rfl)
theorem dX3_store_10 : decode cX3_store 10 = .ok (.aload_n 0, 1) := dk_42 (dk_at dksX3_store_0 10 rfl rfl)
theorem dX3_store_11 : decode cX3_store 11 = .ok (.invokevirtual 61, 3) := dk_182 0 61 (dk_at dksX3_store_0 11 rfl rfl)
theorem dX3_store_14 : decode cX3_store 14 = .ok (.if_icmp .ge 44, 3) := dk_162 0 44 (dk_at dksX3_store_0 14 rfl rfl)
theorem dX3_store_17 : decode cX3_store 17 = .ok (.iload_n 1, 1) := dk_27 (dk_at dksX3_store_0 17 rfl rfl)
theorem dX3_store_18 : decode cX3_store 18 = .ok (.aload_n 0, 1) := dk_42 (dk_at dksX3_store_0 18 rfl rfl)
theorem dX3_store_19 : decode cX3_store 19 = .ok (.getfield 13, 3) := dk_180 0 13 (dk_at dksX3_store_0 19 rfl rfl)
theorem dX3_store_22 : decode cX3_store 22 = .ok (.iload_n 2, 1) := dk_28 (dk_at dksX3_store_0 22 rfl rfl)
theorem dX3_store_23 : decode cX3_store 23 = .ok (.baload, 1) := dk_51 (dk_at dksX3_store_0 23 rfl rfl)
theorem dX3_store_24 : decode cX3_store 24 = .ok (.aload_n 0, 1) := dk_42 (dk_at dksX3_store_1 0 rfl rfl)
theorem dX3_store_25 : decode cX3_store 25 = .ok (.getfield 7, 3) := dk_180 0 7 (dk_at dksX3_store_1 1 rfl rfl)
theorem dX3_store_28 : decode cX3_store 28 = .ok (.iload_n 2, 1) := dk_28 (dk_at dksX3_store_1 4 rfl rfl)
theorem dX3_store_29 : decode cX3_store 29 = .ok (.baload, 1) := dk_51 (dk_at dksX3_store_1 5 rfl rfl)
theorem dX3_store_30 : decode cX3_store 30 = .ok (.if_icmp .ne 7, 3) := dk_160 0 7 (dk_at dksX3_store_1 6 rfl rfl)
theorem dX3_store_33 : decode cX3_store 33 = .ok (.iconst 0, 1) := dk_3 (dk_at dksX3_store_1 9 rfl rfl)
theorem dX3_store_34 : decode cX3_store 34 = .ok (.goto 4, 3) := dk_167 0 4 (dk_at dksX3_store_1 10 rfl rfl)
theorem dX3_store_37 : decode cX3_store 37 = .ok (.iconst 1, 1) := dk_4 (dk_at dksX3_store_1 13 rfl rfl)
theorem dX3_store_38 : decode cX3_store 38 = .ok (.iadd, 1) := dk_96 (dk_at dksX3_store_1 14 rfl rfl)
theorem dX3_store_39 : decode cX3_store 39 = .ok (.istore_n 1, 1) := dk_60 (dk_at dksX3_store_1 15 rfl rfl)
theorem dX3_store_40 : decode cX3_store 40 = .ok (.aload_n 0, 1) := dk_42 (dk_at dksX3_store_1 16 rfl rfl)
theorem dX3_store_41 : decode cX3_store 41 = .ok (.getfield 13, 3) := dk_180 0 13 (dk_at dksX3_store_1 17 rfl rfl)
theorem dX3_store_44 : decode cX3_store 44 = .ok (.iload_n 2, 1) := dk_28 (dk_at dksX3_store_1 20 rfl rfl)
theorem dX3_store_45 : decode cX3_store 45 = .ok (.aload_n 0, 1) := dk_42 (dk_at dksX3_store_1 21 rfl rfl)
theorem dX3_store_46 : decode cX3_store 46 = .ok (.getfield 7, 3) := dk_180 0 7 (dk_at dksX3_store_2 0 rfl rfl)
theorem dX3_store_49 : decode cX3_store 49 = .ok (.iload_n 2, 1) := dk_28 (dk_at dksX3_store_2 3 rfl rfl)
theorem dX3_store_50 : decode cX3_store 50 = .ok (.baload, 1) := dk_51 (dk_at dksX3_store_2 4 rfl rfl)
theorem dX3_store_51 : decode cX3_store 51 = .ok (.bastore, 1) := dk_84 (dk_at dksX3_store_2 5 rfl rfl)
theorem dX3_store_52 : decode cX3_store 52 = .ok (.iinc 2 1, 3) := dk_132 2 1 (dk_at dksX3_store_2 6 rfl rfl)
theorem dX3_store_55 : decode cX3_store 55 = .ok (.goto (-46), 3) := dk_167 255 210 (dk_at dksX3_store_2 9 rfl rfl)
theorem dX3_store_58 : decode cX3_store 58 = .ok (.iload_n 1, 1) := dk_27 (dk_at dksX3_store_2 12 rfl rfl)
theorem dX3_store_59 : decode cX3_store 59 = .ok (.ireturn, 1) := dk_172 (dk_at dksX3_store_2 13 rfl rfl)
abbrev cX3_join : ByteArray := prog_11_method_43_code
def yX3_join : MethodName := ⟨RX3, "join", "(I)I"⟩
def dkwX3_join_6 : List UInt8 := [28, 51, 154, 0, 7, 4, 167, 0, 4, 3, 84, 132, 2, 1, 167, 255, 127, 42, 182, 0, 141, 172]
abbrev dktX3_join_6 : List UInt8 := dkwX3_join_6 ++ []
def dkwX3_join_5 : List UInt8 := [159, 0, 7, 4, 167, 0, 30, 3, 167, 0, 26, 42, 180, 0, 7, 28, 51, 153, 0, 16, 42, 180, 0, 13]
abbrev dktX3_join_5 : List UInt8 := dkwX3_join_5 ++ dktX3_join_6
def dkwX3_join_4 : List UInt8 := [167, 0, 58, 3, 167, 0, 54, 27, 5, 160, 0, 26, 42, 180, 0, 7, 28, 51, 42, 180, 0, 13, 28, 51]
abbrev dktX3_join_4 : List UInt8 := dkwX3_join_4 ++ dktX3_join_5
def dkwX3_join_3 : List UInt8 := [160, 0, 29, 42, 180, 0, 7, 28, 51, 153, 0, 16, 42, 180, 0, 13, 28, 51, 153, 0, 7, 4]
abbrev dktX3_join_3 : List UInt8 := dkwX3_join_3 ++ dktX3_join_4
def dkwX3_join_2 : List UInt8 := [154, 0, 12, 42, 180, 0, 13, 28, 51, 153, 0, 7, 4, 167, 0, 89, 3, 167, 0, 85, 27, 4]
abbrev dktX3_join_2 : List UInt8 := dkwX3_join_2 ++ dktX3_join_3
def dkwX3_join_1 : List UInt8 := [42, 182, 0, 61, 162, 0, 127, 42, 180, 0, 7, 28, 27, 154, 0, 29, 42, 180, 0, 7, 28, 51]
abbrev dktX3_join_1 : List UInt8 := dkwX3_join_1 ++ dktX3_join_2
def dkwX3_join_0 : List UInt8 := [42, 3, 181, 0, 33, 42, 27, 3, 6, 184, 0, 43, 4, 182, 0, 121, 154, 0, 5, 3, 172, 3, 61, 28]
abbrev dktX3_join_0 : List UInt8 := dkwX3_join_0 ++ dktX3_join_1
theorem dksX3_join_0 : cX3_join.data.toList.drop 0 = dktX3_join_0 := by decide +kernel
theorem dksX3_join_1 : cX3_join.data.toList.drop 24 = dktX3_join_1 := dk_seg dksX3_join_0 24 rfl rfl
theorem dksX3_join_2 : cX3_join.data.toList.drop 46 = dktX3_join_2 := dk_seg dksX3_join_1 22 rfl rfl
theorem dksX3_join_3 : cX3_join.data.toList.drop 68 = dktX3_join_3 := dk_seg dksX3_join_2 22 rfl rfl
theorem dksX3_join_4 : cX3_join.data.toList.drop 90 = dktX3_join_4 := dk_seg dksX3_join_3 22 rfl rfl
theorem dksX3_join_5 : cX3_join.data.toList.drop 114 = dktX3_join_5 := dk_seg dksX3_join_4 24 rfl rfl
theorem dksX3_join_6 : cX3_join.data.toList.drop 138 = dktX3_join_6 := dk_seg dksX3_join_5 24 rfl rfl
theorem dX3_join_0 : decode cX3_join 0 = .ok (.aload_n 0, 1) := dk_42 (dk_at dksX3_join_0 0 rfl rfl)
theorem dX3_join_1 : decode cX3_join 1 = .ok (.iconst 0, 1) := dk_3 (dk_at dksX3_join_0 1 rfl rfl)
theorem dX3_join_2 : decode cX3_join 2 = .ok (.putfield 33, 3) := dk_181 0 33 (dk_at dksX3_join_0 2 rfl rfl)
theorem dX3_join_5 : decode cX3_join 5 = .ok (.aload_n 0, 1) := dk_42 (dk_at dksX3_join_0 5 rfl rfl)
theorem dX3_join_6 : decode cX3_join 6 = .ok (.iload_n 1, 1) := dk_27 (dk_at dksX3_join_0 6 rfl rfl)
theorem dX3_join_7 : decode cX3_join 7 = .ok (.iconst 0, 1) := dk_3 (dk_at dksX3_join_0 7 rfl rfl)
theorem dX3_join_8 : decode cX3_join 8 = .ok (.iconst 3, 1) := dk_6 (dk_at dksX3_join_0 8 rfl rfl)
theorem dX3_join_9 : decode cX3_join 9 = .ok (.invokestatic 43, 3) := dk_184 0 43 (dk_at dksX3_join_0 9 rfl rfl)
theorem dX3_join_12 : decode cX3_join 12 = .ok (.iconst 1, 1) := dk_4 (dk_at dksX3_join_0 12 rfl rfl)
theorem dX3_join_13 : decode cX3_join 13 = .ok (.invokevirtual 121, 3) := dk_182 0 121 (dk_at dksX3_join_0 13 rfl rfl)
theorem dX3_join_16 : decode cX3_join 16 = .ok (.ifCond .ne 5, 3) := dk_154 0 5 (dk_at dksX3_join_0 16 rfl rfl)
theorem dX3_join_19 : decode cX3_join 19 = .ok (.iconst 0, 1) := dk_3 (dk_at dksX3_join_0 19 rfl rfl)
theorem dX3_join_20 : decode cX3_join 20 = .ok (.ireturn, 1) := dk_172 (dk_at dksX3_join_0 20 rfl rfl)
theorem dX3_join_21 : decode cX3_join 21 = .ok (.iconst 0, 1) := dk_3 (dk_at dksX3_join_0 21 rfl rfl)
theorem dX3_join_22 : decode cX3_join 22 = .ok (.istore_n 2, 1) := dk_61 (dk_at dksX3_join_0 22 rfl rfl)
theorem dX3_join_23 : decode cX3_join 23 = .ok (.iload_n 2, 1) := dk_28 (dk_at dksX3_join_0 23 rfl rfl)
theorem dX3_join_24 : decode cX3_join 24 = .ok (.aload_n 0, 1) := dk_42 (dk_at dksX3_join_1 0 rfl rfl)
theorem dX3_join_25 : decode cX3_join 25 = .ok (.invokevirtual 61, 3) := dk_182 0 61 (dk_at dksX3_join_1 1 rfl rfl)
theorem dX3_join_28 : decode cX3_join 28 = .ok (.if_icmp .ge 127, 3) := dk_162 0 127 (dk_at dksX3_join_1 4 rfl rfl)
theorem dX3_join_31 : decode cX3_join 31 = .ok (.aload_n 0, 1) := dk_42 (dk_at dksX3_join_1 7 rfl rfl)
theorem dX3_join_32 : decode cX3_join 32 = .ok (.getfield 7, 3) := dk_180 0 7 (dk_at dksX3_join_1 8 rfl rfl)
theorem dX3_join_35 : decode cX3_join 35 = .ok (.iload_n 2, 1) := dk_28 (dk_at dksX3_join_1 11 rfl rfl)
theorem dX3_join_36 : decode cX3_join 36 = .ok (.iload_n 1, 1) := dk_27 (dk_at dksX3_join_1 12 rfl rfl)
theorem dX3_join_37 : decode cX3_join 37 = .ok (.ifCond .ne 29, 3) := dk_154 0 29 (dk_at dksX3_join_1 13 rfl rfl)
theorem dX3_join_40 : decode cX3_join 40 = .ok (.aload_n 0, 1) := dk_42 (dk_at dksX3_join_1 16 rfl rfl)
theorem dX3_join_41 : decode cX3_join 41 = .ok (.getfield 7, 3) := dk_180 0 7 (dk_at dksX3_join_1 17 rfl rfl)
theorem dX3_join_44 : decode cX3_join 44 = .ok (.iload_n 2, 1) := dk_28 (dk_at dksX3_join_1 20 rfl rfl)
theorem dX3_join_45 : decode cX3_join 45 = .ok (.baload, 1) := dk_51 (dk_at dksX3_join_1 21 rfl rfl)
theorem dX3_join_46 : decode cX3_join 46 = .ok (.ifCond .ne 12, 3) := dk_154 0 12 (dk_at dksX3_join_2 0 rfl rfl)
theorem dX3_join_49 : decode cX3_join 49 = .ok (.aload_n 0, 1) := dk_42 (dk_at dksX3_join_2 3 rfl rfl)
theorem dX3_join_50 : decode cX3_join 50 = .ok (.getfield 13, 3) := dk_180 0 13 (dk_at dksX3_join_2 4 rfl rfl)
theorem dX3_join_53 : decode cX3_join 53 = .ok (.iload_n 2, 1) := dk_28 (dk_at dksX3_join_2 7 rfl rfl)
theorem dX3_join_54 : decode cX3_join 54 = .ok (.baload, 1) := dk_51 (dk_at dksX3_join_2 8 rfl rfl)
theorem dX3_join_55 : decode cX3_join 55 = .ok (.ifCond .eq 7, 3) := dk_153 0 7 (dk_at dksX3_join_2 9 rfl rfl)
theorem dX3_join_58 : decode cX3_join 58 = .ok (.iconst 1, 1) := dk_4 (dk_at dksX3_join_2 12 rfl rfl)
theorem dX3_join_59 : decode cX3_join 59 = .ok (.goto 89, 3) := dk_167 0 89 (dk_at dksX3_join_2 13 rfl rfl)
theorem dX3_join_62 : decode cX3_join 62 = .ok (.iconst 0, 1) := dk_3 (dk_at dksX3_join_2 16 rfl rfl)
theorem dX3_join_63 : decode cX3_join 63 = .ok (.goto 85, 3) := dk_167 0 85 (dk_at dksX3_join_2 17 rfl rfl)
theorem dX3_join_66 : decode cX3_join 66 = .ok (.iload_n 1, 1) := dk_27 (dk_at dksX3_join_2 20 rfl rfl)
theorem dX3_join_67 : decode cX3_join 67 = .ok (.iconst 1, 1) := dk_4 (dk_at dksX3_join_2 21 rfl rfl)
theorem dX3_join_68 : decode cX3_join 68 = .ok (.if_icmp .ne 29, 3) := dk_160 0 29 (dk_at dksX3_join_3 0 rfl rfl)
theorem dX3_join_71 : decode cX3_join 71 = .ok (.aload_n 0, 1) := dk_42 (dk_at dksX3_join_3 3 rfl rfl)
theorem dX3_join_72 : decode cX3_join 72 = .ok (.getfield 7, 3) := dk_180 0 7 (dk_at dksX3_join_3 4 rfl rfl)
theorem dX3_join_75 : decode cX3_join 75 = .ok (.iload_n 2, 1) := dk_28 (dk_at dksX3_join_3 7 rfl rfl)
theorem dX3_join_76 : decode cX3_join 76 = .ok (.baload, 1) := dk_51 (dk_at dksX3_join_3 8 rfl rfl)
theorem dX3_join_77 : decode cX3_join 77 = .ok (.ifCond .eq 16, 3) := dk_153 0 16 (dk_at dksX3_join_3 9 rfl rfl)
theorem dX3_join_80 : decode cX3_join 80 = .ok (.aload_n 0, 1) := dk_42 (dk_at dksX3_join_3 12 rfl rfl)
theorem dX3_join_81 : decode cX3_join 81 = .ok (.getfield 13, 3) := dk_180 0 13 (dk_at dksX3_join_3 13 rfl rfl)
theorem dX3_join_84 : decode cX3_join 84 = .ok (.iload_n 2, 1) := dk_28 (dk_at dksX3_join_3 16 rfl rfl)
theorem dX3_join_85 : decode cX3_join 85 = .ok (.baload, 1) := dk_51 (dk_at dksX3_join_3 17 rfl rfl)
theorem dX3_join_86 : decode cX3_join 86 = .ok (.ifCond .eq 7, 3) := dk_153 0 7 (dk_at dksX3_join_3 18 rfl rfl)
theorem dX3_join_89 : decode cX3_join 89 = .ok (.iconst 1, 1) := dk_4 (dk_at dksX3_join_3 21 rfl rfl)
theorem dX3_join_90 : decode cX3_join 90 = .ok (.goto 58, 3) := dk_167 0 58 (dk_at dksX3_join_4 0 rfl rfl)
theorem dX3_join_93 : decode cX3_join 93 = .ok (.iconst 0, 1) := dk_3 (dk_at dksX3_join_4 3 rfl rfl)
theorem dX3_join_94 : decode cX3_join 94 = .ok (.goto 54, 3) := dk_167 0 54 (dk_at dksX3_join_4 4 rfl rfl)
theorem dX3_join_97 : decode cX3_join 97 = .ok (.iload_n 1, 1) := dk_27 (dk_at dksX3_join_4 7 rfl rfl)
theorem dX3_join_98 : decode cX3_join 98 = .ok (.iconst 2, 1) := dk_5 (dk_at dksX3_join_4 8 rfl rfl)
theorem dX3_join_99 : decode cX3_join 99 = .ok (.if_icmp .ne 26, 3) := dk_160 0 26 (dk_at dksX3_join_4 9 rfl rfl)
theorem dX3_join_102 : decode cX3_join 102 = .ok (.aload_n 0, 1) := dk_42 (dk_at dksX3_join_4 12 rfl rfl)
theorem dX3_join_103 : decode cX3_join 103 = .ok (.getfield 7, 3) := dk_180 0 7 (dk_at dksX3_join_4 13 rfl rfl)
theorem dX3_join_106 : decode cX3_join 106 = .ok (.iload_n 2, 1) := dk_28 (dk_at dksX3_join_4 16 rfl rfl)
theorem dX3_join_107 : decode cX3_join 107 = .ok (.baload, 1) := dk_51 (dk_at dksX3_join_4 17 rfl rfl)
theorem dX3_join_108 : decode cX3_join 108 = .ok (.aload_n 0, 1) := dk_42 (dk_at dksX3_join_4 18 rfl rfl)
theorem dX3_join_109 : decode cX3_join 109 = .ok (.getfield 13, 3) := dk_180 0 13 (dk_at dksX3_join_4 19 rfl rfl)
theorem dX3_join_112 : decode cX3_join 112 = .ok (.iload_n 2, 1) := dk_28 (dk_at dksX3_join_4 22 rfl rfl)
theorem dX3_join_113 : decode cX3_join 113 = .ok (.baload, 1) := dk_51 (dk_at dksX3_join_4 23 rfl rfl)
theorem dX3_join_114 : decode cX3_join 114 = .ok (.if_icmp .eq 7, 3) := dk_159 0 7 (dk_at dksX3_join_5 0 rfl rfl)
theorem dX3_join_117 : decode cX3_join 117 = .ok (.iconst 1, 1) := dk_4 (dk_at dksX3_join_5 3 rfl rfl)
theorem dX3_join_118 : decode cX3_join 118 = .ok (.goto 30, 3) := dk_167 0 30 (dk_at dksX3_join_5 4 rfl rfl)
theorem dX3_join_121 : decode cX3_join 121 = .ok (.iconst 0, 1) := dk_3 (dk_at dksX3_join_5 7 rfl rfl)
theorem dX3_join_122 : decode cX3_join 122 = .ok (.goto 26, 3) := dk_167 0 26 (dk_at dksX3_join_5 8 rfl rfl)
theorem dX3_join_125 : decode cX3_join 125 = .ok (.aload_n 0, 1) := dk_42 (dk_at dksX3_join_5 11 rfl rfl)
theorem dX3_join_126 : decode cX3_join 126 = .ok (.getfield 7, 3) := dk_180 0 7 (dk_at dksX3_join_5 12 rfl rfl)
theorem dX3_join_129 : decode cX3_join 129 = .ok (.iload_n 2, 1) := dk_28 (dk_at dksX3_join_5 15 rfl rfl)
theorem dX3_join_130 : decode cX3_join 130 = .ok (.baload, 1) := dk_51 (dk_at dksX3_join_5 16 rfl rfl)
theorem dX3_join_131 : decode cX3_join 131 = .ok (.ifCond .eq 16, 3) := dk_153 0 16 (dk_at dksX3_join_5 17 rfl rfl)
theorem dX3_join_134 : decode cX3_join 134 = .ok (.aload_n 0, 1) := dk_42 (dk_at dksX3_join_5 20 rfl rfl)
theorem dX3_join_135 : decode cX3_join 135 = .ok (.getfield 13, 3) := dk_180 0 13 (dk_at dksX3_join_5 21 rfl rfl)
theorem dX3_join_138 : decode cX3_join 138 = .ok (.iload_n 2, 1) := dk_28 (dk_at dksX3_join_6 0 rfl rfl)
theorem dX3_join_139 : decode cX3_join 139 = .ok (.baload, 1) := dk_51 (dk_at dksX3_join_6 1 rfl rfl)
theorem dX3_join_140 : decode cX3_join 140 = .ok (.ifCond .ne 7, 3) := dk_154 0 7 (dk_at dksX3_join_6 2 rfl rfl)
theorem dX3_join_143 : decode cX3_join 143 = .ok (.iconst 1, 1) := dk_4 (dk_at dksX3_join_6 5 rfl rfl)
theorem dX3_join_144 : decode cX3_join 144 = .ok (.goto 4, 3) := dk_167 0 4 (dk_at dksX3_join_6 6 rfl rfl)
theorem dX3_join_147 : decode cX3_join 147 = .ok (.iconst 0, 1) := dk_3 (dk_at dksX3_join_6 9 rfl rfl)
theorem dX3_join_148 : decode cX3_join 148 = .ok (.bastore, 1) := dk_84 (dk_at dksX3_join_6 10 rfl rfl)
theorem dX3_join_149 : decode cX3_join 149 = .ok (.iinc 2 1, 3) := dk_132 2 1 (dk_at dksX3_join_6 11 rfl rfl)
theorem dX3_join_152 : decode cX3_join 152 = .ok (.goto (-129), 3) := dk_167 255 127 (dk_at dksX3_join_6 14 rfl rfl)
theorem dX3_join_155 : decode cX3_join 155 = .ok (.aload_n 0, 1) := dk_42 (dk_at dksX3_join_6 17 rfl rfl)
theorem dX3_join_156 : decode cX3_join 156 = .ok (.invokevirtual 141, 3) := dk_182 0 141 (dk_at dksX3_join_6 18 rfl rfl)
theorem dX3_join_159 : decode cX3_join 159 = .ok (.ireturn, 1) := dk_172 (dk_at dksX3_join_6 21 rfl rfl)
abbrev cX3_thin : ByteArray := prog_11_method_44_code
def yX3_thin : MethodName := ⟨RX3, "thin", "()I"⟩
def dkwX3_thin_0 : List UInt8 := [42, 42, 182, 0, 144, 182, 0, 147, 172]
abbrev dktX3_thin_0 : List UInt8 := dkwX3_thin_0 ++ []
theorem dksX3_thin_0 : cX3_thin.data.toList.drop 0 = dktX3_thin_0 := by decide +kernel
theorem dX3_thin_0 : decode cX3_thin 0 = .ok (.aload_n 0, 1) := dk_42 (dk_at dksX3_thin_0 0 rfl rfl)
theorem dX3_thin_1 : decode cX3_thin 1 = .ok (.aload_n 0, 1) := dk_42 (dk_at dksX3_thin_0 1 rfl rfl)
theorem dX3_thin_2 : decode cX3_thin 2 = .ok (.invokevirtual 144, 3) := dk_182 0 144 (dk_at dksX3_thin_0 2 rfl rfl)
theorem dX3_thin_5 : decode cX3_thin 5 = .ok (.invokevirtual 147, 3) := dk_182 0 147 (dk_at dksX3_thin_0 5 rfl rfl)
theorem dX3_thin_8 : decode cX3_thin 8 = .ok (.ireturn, 1) := dk_172 (dk_at dksX3_thin_0 8 rfl rfl)
abbrev cX3_thins : ByteArray := prog_11_method_23_code
def yX3_thins : MethodName := ⟨RX3, "thins", "()I"⟩
def dkwX3_thins_0 : List UInt8 := [3, 60, 42, 4, 182, 0, 103, 42, 3, 182, 0, 103, 96, 158, 0, 9, 132, 1, 1, 167, 255, 239, 27, 172]
abbrev dktX3_thins_0 : List UInt8 := dkwX3_thins_0 ++ []
theorem dksX3_thins_0 : cX3_thins.data.toList.drop 0 = dktX3_thins_0 := by decide +kernel
theorem dX3_thins_0 : decode cX3_thins 0 = .ok (.iconst 0, 1) := dk_3 (dk_at dksX3_thins_0 0 rfl rfl)
theorem dX3_thins_1 : decode cX3_thins 1 = .ok (.istore_n 1, 1) := dk_60 (dk_at dksX3_thins_0 1 rfl rfl)
theorem dX3_thins_2 : decode cX3_thins 2 = .ok (.aload_n 0, 1) := dk_42 (dk_at dksX3_thins_0 2 rfl rfl)
theorem dX3_thins_3 : decode cX3_thins 3 = .ok (.iconst 1, 1) := dk_4 (dk_at dksX3_thins_0 3 rfl rfl)
theorem dX3_thins_4 : decode cX3_thins 4 = .ok (.invokevirtual 103, 3) := dk_182 0 103 (dk_at dksX3_thins_0 4 rfl rfl)
theorem dX3_thins_7 : decode cX3_thins 7 = .ok (.aload_n 0, 1) := dk_42 (dk_at dksX3_thins_0 7 rfl rfl)
theorem dX3_thins_8 : decode cX3_thins 8 = .ok (.iconst 0, 1) := dk_3 (dk_at dksX3_thins_0 8 rfl rfl)
theorem dX3_thins_9 : decode cX3_thins 9 = .ok (.invokevirtual 103, 3) := dk_182 0 103 (dk_at dksX3_thins_0 9 rfl rfl)
theorem dX3_thins_12 : decode cX3_thins 12 = .ok (.iadd, 1) := dk_96 (dk_at dksX3_thins_0 12 rfl rfl)
theorem dX3_thins_13 : decode cX3_thins 13 = .ok (.ifCond .le 9, 3) := dk_158 0 9 (dk_at dksX3_thins_0 13 rfl rfl)
theorem dX3_thins_16 : decode cX3_thins 16 = .ok (.iinc 1 1, 3) := dk_132 1 1 (dk_at dksX3_thins_0 16 rfl rfl)
theorem dX3_thins_19 : decode cX3_thins 19 = .ok (.goto (-17), 3) := dk_167 255 239 (dk_at dksX3_thins_0 19 rfl rfl)
theorem dX3_thins_22 : decode cX3_thins 22 = .ok (.iload_n 1, 1) := dk_27 (dk_at dksX3_thins_0 22 rfl rfl)
theorem dX3_thins_23 : decode cX3_thins 23 = .ok (.ireturn, 1) := dk_172 (dk_at dksX3_thins_0 23 rfl rfl)
abbrev cX3_half : ByteArray := prog_11_method_22_code
def yX3_half : MethodName := ⟨RX3, "half", "(Z)I"⟩
def dkwX3_half_2 : List UInt8 := [154, 0, 6, 167, 0, 13, 42, 180, 0, 7, 29, 3, 84, 132, 2, 1, 132, 3, 1, 167, 255, 223, 28, 172]
abbrev dktX3_half_2 : List UInt8 := dkwX3_half_2 ++ []
def dkwX3_half_1 : List UInt8 := [132, 3, 1, 167, 255, 233, 3, 62, 29, 42, 182, 0, 61, 162, 0, 31, 42, 180, 0, 19, 29, 51]
abbrev dktX3_half_1 : List UInt8 := dkwX3_half_1 ++ dktX3_half_2
def dkwX3_half_0 : List UInt8 := [3, 61, 3, 62, 29, 42, 182, 0, 61, 162, 0, 21, 42, 180, 0, 19, 29, 42, 29, 27, 182, 0, 99, 84]
abbrev dktX3_half_0 : List UInt8 := dkwX3_half_0 ++ dktX3_half_1
theorem dksX3_half_0 : cX3_half.data.toList.drop 0 = dktX3_half_0 := by decide +kernel
theorem dksX3_half_1 : cX3_half.data.toList.drop 24 = dktX3_half_1 := dk_seg dksX3_half_0 24 rfl rfl
theorem dksX3_half_2 : cX3_half.data.toList.drop 46 = dktX3_half_2 := dk_seg dksX3_half_1 22 rfl rfl
theorem dX3_half_0 : decode cX3_half 0 = .ok (.iconst 0, 1) := dk_3 (dk_at dksX3_half_0 0 rfl rfl)
theorem dX3_half_1 : decode cX3_half 1 = .ok (.istore_n 2, 1) := dk_61 (dk_at dksX3_half_0 1 rfl rfl)
theorem dX3_half_2 : decode cX3_half 2 = .ok (.iconst 0, 1) := dk_3 (dk_at dksX3_half_0 2 rfl rfl)
theorem dX3_half_3 : decode cX3_half 3 = .ok (.istore_n 3, 1) := dk_62 (dk_at dksX3_half_0 3 rfl rfl)
theorem dX3_half_4 : decode cX3_half 4 = .ok (.iload_n 3, 1) := dk_29 (dk_at dksX3_half_0 4 rfl rfl)
theorem dX3_half_5 : decode cX3_half 5 = .ok (.aload_n 0, 1) := dk_42 (dk_at dksX3_half_0 5 rfl rfl)
theorem dX3_half_6 : decode cX3_half 6 = .ok (.invokevirtual 61, 3) := dk_182 0 61 (dk_at dksX3_half_0 6 rfl rfl)
theorem dX3_half_9 : decode cX3_half 9 = .ok (.if_icmp .ge 21, 3) := dk_162 0 21 (dk_at dksX3_half_0 9 rfl rfl)
theorem dX3_half_12 : decode cX3_half 12 = .ok (.aload_n 0, 1) := dk_42 (dk_at dksX3_half_0 12 rfl rfl)
theorem dX3_half_13 : decode cX3_half 13 = .ok (.getfield 19, 3) := dk_180 0 19 (dk_at dksX3_half_0 13 rfl rfl)
theorem dX3_half_16 : decode cX3_half 16 = .ok (.iload_n 3, 1) := dk_29 (dk_at dksX3_half_0 16 rfl rfl)
theorem dX3_half_17 : decode cX3_half 17 = .ok (.aload_n 0, 1) := dk_42 (dk_at dksX3_half_0 17 rfl rfl)
theorem dX3_half_18 : decode cX3_half 18 = .ok (.iload_n 3, 1) := dk_29 (dk_at dksX3_half_0 18 rfl rfl)
theorem dX3_half_19 : decode cX3_half 19 = .ok (.iload_n 1, 1) := dk_27 (dk_at dksX3_half_0 19 rfl rfl)
theorem dX3_half_20 : decode cX3_half 20 = .ok (.invokevirtual 99, 3) := dk_182 0 99 (dk_at dksX3_half_0 20 rfl rfl)
theorem dX3_half_23 : decode cX3_half 23 = .ok (.bastore, 1) := dk_84 (dk_at dksX3_half_0 23 rfl rfl)
theorem dX3_half_24 : decode cX3_half 24 = .ok (.iinc 3 1, 3) := dk_132 3 1 (dk_at dksX3_half_1 0 rfl rfl)
theorem dX3_half_27 : decode cX3_half 27 = .ok (.goto (-23), 3) := dk_167 255 233 (dk_at dksX3_half_1 3 rfl rfl)
theorem dX3_half_30 : decode cX3_half 30 = .ok (.iconst 0, 1) := dk_3 (dk_at dksX3_half_1 6 rfl rfl)
theorem dX3_half_31 : decode cX3_half 31 = .ok (.istore_n 3, 1) := dk_62 (dk_at dksX3_half_1 7 rfl rfl)
theorem dX3_half_32 : decode cX3_half 32 = .ok (.iload_n 3, 1) := dk_29 (dk_at dksX3_half_1 8 rfl rfl)
theorem dX3_half_33 : decode cX3_half 33 = .ok (.aload_n 0, 1) := dk_42 (dk_at dksX3_half_1 9 rfl rfl)
theorem dX3_half_34 : decode cX3_half 34 = .ok (.invokevirtual 61, 3) := dk_182 0 61 (dk_at dksX3_half_1 10 rfl rfl)
theorem dX3_half_37 : decode cX3_half 37 = .ok (.if_icmp .ge 31, 3) := dk_162 0 31 (dk_at dksX3_half_1 13 rfl rfl)
theorem dX3_half_40 : decode cX3_half 40 = .ok (.aload_n 0, 1) := dk_42 (dk_at dksX3_half_1 16 rfl rfl)
theorem dX3_half_41 : decode cX3_half 41 = .ok (.getfield 19, 3) := dk_180 0 19 (dk_at dksX3_half_1 17 rfl rfl)
theorem dX3_half_44 : decode cX3_half 44 = .ok (.iload_n 3, 1) := dk_29 (dk_at dksX3_half_1 20 rfl rfl)
theorem dX3_half_45 : decode cX3_half 45 = .ok (.baload, 1) := dk_51 (dk_at dksX3_half_1 21 rfl rfl)
theorem dX3_half_46 : decode cX3_half 46 = .ok (.ifCond .ne 6, 3) := dk_154 0 6 (dk_at dksX3_half_2 0 rfl rfl)
theorem dX3_half_49 : decode cX3_half 49 = .ok (.goto 13, 3) := dk_167 0 13 (dk_at dksX3_half_2 3 rfl rfl)
theorem dX3_half_52 : decode cX3_half 52 = .ok (.aload_n 0, 1) := dk_42 (dk_at dksX3_half_2 6 rfl rfl)
theorem dX3_half_53 : decode cX3_half 53 = .ok (.getfield 7, 3) := dk_180 0 7 (dk_at dksX3_half_2 7 rfl rfl)
theorem dX3_half_56 : decode cX3_half 56 = .ok (.iload_n 3, 1) := dk_29 (dk_at dksX3_half_2 10 rfl rfl)
theorem dX3_half_57 : decode cX3_half 57 = .ok (.iconst 0, 1) := dk_3 (dk_at dksX3_half_2 11 rfl rfl)
theorem dX3_half_58 : decode cX3_half 58 = .ok (.bastore, 1) := dk_84 (dk_at dksX3_half_2 12 rfl rfl)
theorem dX3_half_59 : decode cX3_half 59 = .ok (.iinc 2 1, 3) := dk_132 2 1 (dk_at dksX3_half_2 13 rfl rfl)
theorem dX3_half_62 : decode cX3_half 62 = .ok (.iinc 3 1, 3) := dk_132 3 1 (dk_at dksX3_half_2 16 rfl rfl)
theorem dX3_half_65 : decode cX3_half 65 = .ok (.goto (-33), 3) := dk_167 255 223 (dk_at dksX3_half_2 19 rfl rfl)
theorem dX3_half_68 : decode cX3_half 68 = .ok (.iload_n 2, 1) := dk_28 (dk_at dksX3_half_2 22 rfl rfl)
theorem dX3_half_69 : decode cX3_half 69 = .ok (.ireturn, 1) := dk_172 (dk_at dksX3_half_2 23 rfl rfl)
abbrev cX3_isThin : ByteArray := prog_11_method_21_code
def yX3_isThin : MethodName := ⟨RX3, "isThin", "(IZ)Z"⟩
def dkwX3_isThin_5 : List UInt8 := [154, 0, 21, 29, 153, 0, 13, 21, 5, 153, 0, 8, 21, 6, 154, 0, 7, 4, 167, 0, 4, 3, 172]
abbrev dktX3_isThin_5 : List UInt8 := dkwX3_isThin_5 ++ []
def dkwX3_isThin_4 : List UInt8 := [21, 6, 154, 0, 7, 4, 167, 0, 4, 3, 172, 29, 153, 0, 13, 21, 4, 153, 0, 8, 21, 6]
abbrev dktX3_isThin_4 : List UInt8 := dkwX3_isThin_4 ++ dktX3_isThin_5
def dkwX3_isThin_3 : List UInt8 := [153, 0, 13, 21, 4, 153, 0, 8, 21, 5, 154, 0, 22, 21, 4, 153, 0, 13, 21, 5, 153, 0, 8]
abbrev dktX3_isThin_3 : List UInt8 := dkwX3_isThin_3 ++ dktX3_isThin_4
def dkwX3_isThin_2 : List UInt8 := [54, 4, 42, 27, 7, 182, 0, 90, 54, 5, 42, 27, 16, 6, 182, 0, 90, 54, 6, 28, 153, 0, 38, 29]
abbrev dktX3_isThin_2 : List UInt8 := dkwX3_isThin_2 ++ dktX3_isThin_3
def dkwX3_isThin_1 : List UInt8 := [27, 182, 0, 96, 4, 159, 0, 5, 3, 172, 42, 27, 3, 182, 0, 90, 62, 42, 27, 5, 182, 0, 90]
abbrev dktX3_isThin_1 : List UInt8 := dkwX3_isThin_1 ++ dktX3_isThin_2
def dkwX3_isThin_0 : List UInt8 := [42, 180, 0, 7, 27, 51, 153, 0, 26, 42, 27, 182, 0, 93, 5, 16, 6, 184, 0, 43, 153, 0, 12, 42]
abbrev dktX3_isThin_0 : List UInt8 := dkwX3_isThin_0 ++ dktX3_isThin_1
theorem dksX3_isThin_0 : cX3_isThin.data.toList.drop 0 = dktX3_isThin_0 := by decide +kernel
theorem dksX3_isThin_1 : cX3_isThin.data.toList.drop 24 = dktX3_isThin_1 := dk_seg dksX3_isThin_0 24 rfl rfl
theorem dksX3_isThin_2 : cX3_isThin.data.toList.drop 47 = dktX3_isThin_2 := dk_seg dksX3_isThin_1 23 rfl rfl
theorem dksX3_isThin_3 : cX3_isThin.data.toList.drop 71 = dktX3_isThin_3 := dk_seg dksX3_isThin_2 24 rfl rfl
theorem dksX3_isThin_4 : cX3_isThin.data.toList.drop 94 = dktX3_isThin_4 := dk_seg dksX3_isThin_3 23 rfl rfl
theorem dksX3_isThin_5 : cX3_isThin.data.toList.drop 116 = dktX3_isThin_5 := dk_seg dksX3_isThin_4 22 rfl rfl
theorem dX3_isThin_0 : decode cX3_isThin 0 = .ok (.aload_n 0, 1) := dk_42 (dk_at dksX3_isThin_0 0 rfl rfl)
theorem dX3_isThin_1 : decode cX3_isThin 1 = .ok (.getfield 7, 3) := dk_180 0 7 (dk_at dksX3_isThin_0 1 rfl rfl)
theorem dX3_isThin_4 : decode cX3_isThin 4 = .ok (.iload_n 1, 1) := dk_27 (dk_at dksX3_isThin_0 4 rfl rfl)
theorem dX3_isThin_5 : decode cX3_isThin 5 = .ok (.baload, 1) := dk_51 (dk_at dksX3_isThin_0 5 rfl rfl)
theorem dX3_isThin_6 : decode cX3_isThin 6 = .ok (.ifCond .eq 26, 3) := dk_153 0 26 (dk_at dksX3_isThin_0 6 rfl rfl)
theorem dX3_isThin_9 : decode cX3_isThin 9 = .ok (.aload_n 0, 1) := dk_42 (dk_at dksX3_isThin_0 9 rfl rfl)
theorem dX3_isThin_10 : decode cX3_isThin 10 = .ok (.iload_n 1, 1) := dk_27 (dk_at dksX3_isThin_0 10 rfl rfl)
theorem dX3_isThin_11 : decode cX3_isThin 11 = .ok (.invokevirtual 93, 3) := dk_182 0 93 (dk_at dksX3_isThin_0 11 rfl rfl)
theorem dX3_isThin_14 : decode cX3_isThin 14 = .ok (.iconst 2, 1) := dk_5 (dk_at dksX3_isThin_0 14 rfl rfl)
theorem dX3_isThin_15 : decode cX3_isThin 15 = .ok (.bipush 6, 2) := dk_16 6 (dk_at dksX3_isThin_0 15 rfl rfl)
theorem dX3_isThin_17 : decode cX3_isThin 17 = .ok (.invokestatic 43, 3) := dk_184 0 43 (dk_at dksX3_isThin_0 17 rfl rfl)
theorem dX3_isThin_20 : decode cX3_isThin 20 = .ok (.ifCond .eq 12, 3) := dk_153 0 12 (dk_at dksX3_isThin_0 20 rfl rfl)
theorem dX3_isThin_23 : decode cX3_isThin 23 = .ok (.aload_n 0, 1) := dk_42 (dk_at dksX3_isThin_0 23 rfl rfl)
theorem dX3_isThin_24 : decode cX3_isThin 24 = .ok (.iload_n 1, 1) := dk_27 (dk_at dksX3_isThin_1 0 rfl rfl)
theorem dX3_isThin_25 : decode cX3_isThin 25 = .ok (.invokevirtual 96, 3) := dk_182 0 96 (dk_at dksX3_isThin_1 1 rfl rfl)
theorem dX3_isThin_28 : decode cX3_isThin 28 = .ok (.iconst 1, 1) := dk_4 (dk_at dksX3_isThin_1 4 rfl rfl)
theorem dX3_isThin_29 : decode cX3_isThin 29 = .ok (.if_icmp .eq 5, 3) := dk_159 0 5 (dk_at dksX3_isThin_1 5 rfl rfl)
theorem dX3_isThin_32 : decode cX3_isThin 32 = .ok (.iconst 0, 1) := dk_3 (dk_at dksX3_isThin_1 8 rfl rfl)
theorem dX3_isThin_33 : decode cX3_isThin 33 = .ok (.ireturn, 1) := dk_172 (dk_at dksX3_isThin_1 9 rfl rfl)
theorem dX3_isThin_34 : decode cX3_isThin 34 = .ok (.aload_n 0, 1) := dk_42 (dk_at dksX3_isThin_1 10 rfl rfl)
theorem dX3_isThin_35 : decode cX3_isThin 35 = .ok (.iload_n 1, 1) := dk_27 (dk_at dksX3_isThin_1 11 rfl rfl)
theorem dX3_isThin_36 : decode cX3_isThin 36 = .ok (.iconst 0, 1) := dk_3 (dk_at dksX3_isThin_1 12 rfl rfl)
theorem dX3_isThin_37 : decode cX3_isThin 37 = .ok (.invokevirtual 90, 3) := dk_182 0 90 (dk_at dksX3_isThin_1 13 rfl rfl)
theorem dX3_isThin_40 : decode cX3_isThin 40 = .ok (.istore_n 3, 1) := dk_62 (dk_at dksX3_isThin_1 16 rfl rfl)
theorem dX3_isThin_41 : decode cX3_isThin 41 = .ok (.aload_n 0, 1) := dk_42 (dk_at dksX3_isThin_1 17 rfl rfl)
theorem dX3_isThin_42 : decode cX3_isThin 42 = .ok (.iload_n 1, 1) := dk_27 (dk_at dksX3_isThin_1 18 rfl rfl)
theorem dX3_isThin_43 : decode cX3_isThin 43 = .ok (.iconst 2, 1) := dk_5 (dk_at dksX3_isThin_1 19 rfl rfl)
theorem dX3_isThin_44 : decode cX3_isThin 44 = .ok (.invokevirtual 90, 3) := dk_182 0 90 (dk_at dksX3_isThin_1 20 rfl rfl)
theorem dX3_isThin_47 : decode cX3_isThin 47 = .ok (.istore 4, 2) := dk_54 4 (dk_at dksX3_isThin_2 0 rfl rfl)
theorem dX3_isThin_49 : decode cX3_isThin 49 = .ok (.aload_n 0, 1) := dk_42 (dk_at dksX3_isThin_2 2 rfl rfl)
theorem dX3_isThin_50 : decode cX3_isThin 50 = .ok (.iload_n 1, 1) := dk_27 (dk_at dksX3_isThin_2 3 rfl rfl)
theorem dX3_isThin_51 : decode cX3_isThin 51 = .ok (.iconst 4, 1) := dk_7 (dk_at dksX3_isThin_2 4 rfl rfl)
theorem dX3_isThin_52 : decode cX3_isThin 52 = .ok (.invokevirtual 90, 3) := dk_182 0 90 (dk_at dksX3_isThin_2 5 rfl rfl)
theorem dX3_isThin_55 : decode cX3_isThin 55 = .ok (.istore 5, 2) := dk_54 5 (dk_at dksX3_isThin_2 8 rfl rfl)
theorem dX3_isThin_57 : decode cX3_isThin 57 = .ok (.aload_n 0, 1) := dk_42 (dk_at dksX3_isThin_2 10 rfl rfl)
theorem dX3_isThin_58 : decode cX3_isThin 58 = .ok (.iload_n 1, 1) := dk_27 (dk_at dksX3_isThin_2 11 rfl rfl)
theorem dX3_isThin_59 : decode cX3_isThin 59 = .ok (.bipush 6, 2) := dk_16 6 (dk_at dksX3_isThin_2 12 rfl rfl)
theorem dX3_isThin_61 : decode cX3_isThin 61 = .ok (.invokevirtual 90, 3) := dk_182 0 90 (dk_at dksX3_isThin_2 14 rfl rfl)
theorem dX3_isThin_64 : decode cX3_isThin 64 = .ok (.istore 6, 2) := dk_54 6 (dk_at dksX3_isThin_2 17 rfl rfl)
theorem dX3_isThin_66 : decode cX3_isThin 66 = .ok (.iload_n 2, 1) := dk_28 (dk_at dksX3_isThin_2 19 rfl rfl)
theorem dX3_isThin_67 : decode cX3_isThin 67 = .ok (.ifCond .eq 38, 3) := dk_153 0 38 (dk_at dksX3_isThin_2 20 rfl rfl)
theorem dX3_isThin_70 : decode cX3_isThin 70 = .ok (.iload_n 3, 1) := dk_29 (dk_at dksX3_isThin_2 23 rfl rfl)
theorem dX3_isThin_71 : decode cX3_isThin 71 = .ok (.ifCond .eq 13, 3) := dk_153 0 13 (dk_at dksX3_isThin_3 0 rfl rfl)
theorem dX3_isThin_74 : decode cX3_isThin 74 = .ok (.iload 4, 2) := dk_21 4 (dk_at dksX3_isThin_3 3 rfl rfl)
theorem dX3_isThin_76 : decode cX3_isThin 76 = .ok (.ifCond .eq 8, 3) := dk_153 0 8 (dk_at dksX3_isThin_3 5 rfl rfl)
theorem dX3_isThin_79 : decode cX3_isThin 79 = .ok (.iload 5, 2) := dk_21 5 (dk_at dksX3_isThin_3 8 rfl rfl)
theorem dX3_isThin_81 : decode cX3_isThin 81 = .ok (.ifCond .ne 22, 3) := dk_154 0 22 (dk_at dksX3_isThin_3 10 rfl rfl)
theorem dX3_isThin_84 : decode cX3_isThin 84 = .ok (.iload 4, 2) := dk_21 4 (dk_at dksX3_isThin_3 13 rfl rfl)
theorem dX3_isThin_86 : decode cX3_isThin 86 = .ok (.ifCond .eq 13, 3) := dk_153 0 13 (dk_at dksX3_isThin_3 15 rfl rfl)
theorem dX3_isThin_89 : decode cX3_isThin 89 = .ok (.iload 5, 2) := dk_21 5 (dk_at dksX3_isThin_3 18 rfl rfl)
theorem dX3_isThin_91 : decode cX3_isThin 91 = .ok (.ifCond .eq 8, 3) := dk_153 0 8 (dk_at dksX3_isThin_3 20 rfl rfl)
theorem dX3_isThin_94 : decode cX3_isThin 94 = .ok (.iload 6, 2) := dk_21 6 (dk_at dksX3_isThin_4 0 rfl rfl)
theorem dX3_isThin_96 : decode cX3_isThin 96 = .ok (.ifCond .ne 7, 3) := dk_154 0 7 (dk_at dksX3_isThin_4 2 rfl rfl)
theorem dX3_isThin_99 : decode cX3_isThin 99 = .ok (.iconst 1, 1) := dk_4 (dk_at dksX3_isThin_4 5 rfl rfl)
theorem dX3_isThin_100 : decode cX3_isThin 100 = .ok (.goto 4, 3) := dk_167 0 4 (dk_at dksX3_isThin_4 6 rfl rfl)
theorem dX3_isThin_103 : decode cX3_isThin 103 = .ok (.iconst 0, 1) := dk_3 (dk_at dksX3_isThin_4 9 rfl rfl)
theorem dX3_isThin_104 : decode cX3_isThin 104 = .ok (.ireturn, 1) := dk_172 (dk_at dksX3_isThin_4 10 rfl rfl)
theorem dX3_isThin_105 : decode cX3_isThin 105 = .ok (.iload_n 3, 1) := dk_29 (dk_at dksX3_isThin_4 11 rfl rfl)
theorem dX3_isThin_106 : decode cX3_isThin 106 = .ok (.ifCond .eq 13, 3) := dk_153 0 13 (dk_at dksX3_isThin_4 12 rfl rfl)
theorem dX3_isThin_109 : decode cX3_isThin 109 = .ok (.iload 4, 2) := dk_21 4 (dk_at dksX3_isThin_4 15 rfl rfl)
theorem dX3_isThin_111 : decode cX3_isThin 111 = .ok (.ifCond .eq 8, 3) := dk_153 0 8 (dk_at dksX3_isThin_4 17 rfl rfl)
theorem dX3_isThin_114 : decode cX3_isThin 114 = .ok (.iload 6, 2) := dk_21 6 (dk_at dksX3_isThin_4 20 rfl rfl)
theorem dX3_isThin_116 : decode cX3_isThin 116 = .ok (.ifCond .ne 21, 3) := dk_154 0 21 (dk_at dksX3_isThin_5 0 rfl rfl)
theorem dX3_isThin_119 : decode cX3_isThin 119 = .ok (.iload_n 3, 1) := dk_29 (dk_at dksX3_isThin_5 3 rfl rfl)
theorem dX3_isThin_120 : decode cX3_isThin 120 = .ok (.ifCond .eq 13, 3) := dk_153 0 13 (dk_at dksX3_isThin_5 4 rfl rfl)
theorem dX3_isThin_123 : decode cX3_isThin 123 = .ok (.iload 5, 2) := dk_21 5 (dk_at dksX3_isThin_5 7 rfl rfl)
theorem dX3_isThin_125 : decode cX3_isThin 125 = .ok (.ifCond .eq 8, 3) := dk_153 0 8 (dk_at dksX3_isThin_5 9 rfl rfl)
theorem dX3_isThin_128 : decode cX3_isThin 128 = .ok (.iload 6, 2) := dk_21 6 (dk_at dksX3_isThin_5 12 rfl rfl)
theorem dX3_isThin_130 : decode cX3_isThin 130 = .ok (.ifCond .ne 7, 3) := dk_154 0 7 (dk_at dksX3_isThin_5 14 rfl rfl)
theorem dX3_isThin_133 : decode cX3_isThin 133 = .ok (.iconst 1, 1) := dk_4 (dk_at dksX3_isThin_5 17 rfl rfl)
theorem dX3_isThin_134 : decode cX3_isThin 134 = .ok (.goto 4, 3) := dk_167 0 4 (dk_at dksX3_isThin_5 18 rfl rfl)
theorem dX3_isThin_137 : decode cX3_isThin 137 = .ok (.iconst 0, 1) := dk_3 (dk_at dksX3_isThin_5 21 rfl rfl)
theorem dX3_isThin_138 : decode cX3_isThin 138 = .ok (.ireturn, 1) := dk_172 (dk_at dksX3_isThin_5 22 rfl rfl)
abbrev cX3_around : ByteArray := prog_11_method_19_code
def yX3_around : MethodName := ⟨RX3, "around", "(I)I"⟩
def dkwX3_around_1 : List UInt8 := [3, 96, 61, 132, 3, 1, 167, 255, 230, 28, 172]
abbrev dktX3_around_1 : List UInt8 := dkwX3_around_1 ++ []
def dkwX3_around_0 : List UInt8 := [3, 61, 3, 62, 29, 16, 8, 162, 0, 26, 28, 42, 27, 29, 182, 0, 90, 153, 0, 7, 4, 167, 0, 4]
abbrev dktX3_around_0 : List UInt8 := dkwX3_around_0 ++ dktX3_around_1
theorem dksX3_around_0 : cX3_around.data.toList.drop 0 = dktX3_around_0 := by decide +kernel
theorem dksX3_around_1 : cX3_around.data.toList.drop 24 = dktX3_around_1 := dk_seg dksX3_around_0 24 rfl rfl
theorem dX3_around_0 : decode cX3_around 0 = .ok (.iconst 0, 1) := dk_3 (dk_at dksX3_around_0 0 rfl rfl)
theorem dX3_around_1 : decode cX3_around 1 = .ok (.istore_n 2, 1) := dk_61 (dk_at dksX3_around_0 1 rfl rfl)
theorem dX3_around_2 : decode cX3_around 2 = .ok (.iconst 0, 1) := dk_3 (dk_at dksX3_around_0 2 rfl rfl)
theorem dX3_around_3 : decode cX3_around 3 = .ok (.istore_n 3, 1) := dk_62 (dk_at dksX3_around_0 3 rfl rfl)
theorem dX3_around_4 : decode cX3_around 4 = .ok (.iload_n 3, 1) := dk_29 (dk_at dksX3_around_0 4 rfl rfl)
theorem dX3_around_5 : decode cX3_around 5 = .ok (.bipush 8, 2) := dk_16 8 (dk_at dksX3_around_0 5 rfl rfl)
theorem dX3_around_7 : decode cX3_around 7 = .ok (.if_icmp .ge 26, 3) := dk_162 0 26 (dk_at dksX3_around_0 7 rfl rfl)
theorem dX3_around_10 : decode cX3_around 10 = .ok (.iload_n 2, 1) := dk_28 (dk_at dksX3_around_0 10 rfl rfl)
theorem dX3_around_11 : decode cX3_around 11 = .ok (.aload_n 0, 1) := dk_42 (dk_at dksX3_around_0 11 rfl rfl)
theorem dX3_around_12 : decode cX3_around 12 = .ok (.iload_n 1, 1) := dk_27 (dk_at dksX3_around_0 12 rfl rfl)
theorem dX3_around_13 : decode cX3_around 13 = .ok (.iload_n 3, 1) := dk_29 (dk_at dksX3_around_0 13 rfl rfl)
theorem dX3_around_14 : decode cX3_around 14 = .ok (.invokevirtual 90, 3) := dk_182 0 90 (dk_at dksX3_around_0 14 rfl rfl)
theorem dX3_around_17 : decode cX3_around 17 = .ok (.ifCond .eq 7, 3) := dk_153 0 7 (dk_at dksX3_around_0 17 rfl rfl)
theorem dX3_around_20 : decode cX3_around 20 = .ok (.iconst 1, 1) := dk_4 (dk_at dksX3_around_0 20 rfl rfl)
theorem dX3_around_21 : decode cX3_around 21 = .ok (.goto 4, 3) := dk_167 0 4 (dk_at dksX3_around_0 21 rfl rfl)
theorem dX3_around_24 : decode cX3_around 24 = .ok (.iconst 0, 1) := dk_3 (dk_at dksX3_around_1 0 rfl rfl)
theorem dX3_around_25 : decode cX3_around 25 = .ok (.iadd, 1) := dk_96 (dk_at dksX3_around_1 1 rfl rfl)
theorem dX3_around_26 : decode cX3_around 26 = .ok (.istore_n 2, 1) := dk_61 (dk_at dksX3_around_1 2 rfl rfl)
theorem dX3_around_27 : decode cX3_around 27 = .ok (.iinc 3 1, 3) := dk_132 3 1 (dk_at dksX3_around_1 3 rfl rfl)
theorem dX3_around_30 : decode cX3_around 30 = .ok (.goto (-26), 3) := dk_167 255 230 (dk_at dksX3_around_1 6 rfl rfl)
theorem dX3_around_33 : decode cX3_around 33 = .ok (.iload_n 2, 1) := dk_28 (dk_at dksX3_around_1 9 rfl rfl)
theorem dX3_around_34 : decode cX3_around 34 = .ok (.ireturn, 1) := dk_172 (dk_at dksX3_around_1 10 rfl rfl)
abbrev cX3_beside : ByteArray := prog_11_method_12_code
def yX3_beside : MethodName := ⟨RX3, "beside", "(II)Z"⟩
def dkwX3_beside_1 : List UInt8 := [182, 0, 58, 172]
abbrev dktX3_beside_1 : List UInt8 := dkwX3_beside_1 ++ []
def dkwX3_beside_0 : List UInt8 := [42, 27, 42, 180, 0, 37, 112, 28, 184, 0, 51, 96, 27, 42, 180, 0, 37, 108, 28, 184, 0, 55, 96]
abbrev dktX3_beside_0 : List UInt8 := dkwX3_beside_0 ++ dktX3_beside_1
theorem dksX3_beside_0 : cX3_beside.data.toList.drop 0 = dktX3_beside_0 := by decide +kernel
theorem dksX3_beside_1 : cX3_beside.data.toList.drop 23 = dktX3_beside_1 := dk_seg dksX3_beside_0 23 rfl rfl
theorem dX3_beside_0 : decode cX3_beside 0 = .ok (.aload_n 0, 1) := dk_42 (dk_at dksX3_beside_0 0 rfl rfl)
theorem dX3_beside_1 : decode cX3_beside 1 = .ok (.iload_n 1, 1) := dk_27 (dk_at dksX3_beside_0 1 rfl rfl)
theorem dX3_beside_2 : decode cX3_beside 2 = .ok (.aload_n 0, 1) := dk_42 (dk_at dksX3_beside_0 2 rfl rfl)
theorem dX3_beside_3 : decode cX3_beside 3 = .ok (.getfield 37, 3) := dk_180 0 37 (dk_at dksX3_beside_0 3 rfl rfl)
theorem dX3_beside_6 : decode cX3_beside 6 = .ok (.irem, 1) := dk_112 (dk_at dksX3_beside_0 6 rfl rfl)
theorem dX3_beside_7 : decode cX3_beside 7 = .ok (.iload_n 2, 1) := dk_28 (dk_at dksX3_beside_0 7 rfl rfl)
theorem dX3_beside_8 : decode cX3_beside 8 = .ok (.invokestatic 51, 3) := dk_184 0 51 (dk_at dksX3_beside_0 8 rfl rfl)
theorem dX3_beside_11 : decode cX3_beside 11 = .ok (.iadd, 1) := dk_96 (dk_at dksX3_beside_0 11 rfl rfl)
theorem dX3_beside_12 : decode cX3_beside 12 = .ok (.iload_n 1, 1) := dk_27 (dk_at dksX3_beside_0 12 rfl rfl)
theorem dX3_beside_13 : decode cX3_beside 13 = .ok (.aload_n 0, 1) := dk_42 (dk_at dksX3_beside_0 13 rfl rfl)
theorem dX3_beside_14 : decode cX3_beside 14 = .ok (.getfield 37, 3) := dk_180 0 37 (dk_at dksX3_beside_0 14 rfl rfl)
theorem dX3_beside_17 : decode cX3_beside 17 = .ok (.idiv, 1) := dk_108 (dk_at dksX3_beside_0 17 rfl rfl)
theorem dX3_beside_18 : decode cX3_beside 18 = .ok (.iload_n 2, 1) := dk_28 (dk_at dksX3_beside_0 18 rfl rfl)
theorem dX3_beside_19 : decode cX3_beside 19 = .ok (.invokestatic 55, 3) := dk_184 0 55 (dk_at dksX3_beside_0 19 rfl rfl)
theorem dX3_beside_22 : decode cX3_beside 22 = .ok (.iadd, 1) := dk_96 (dk_at dksX3_beside_0 22 rfl rfl)
theorem dX3_beside_23 : decode cX3_beside 23 = .ok (.invokevirtual 58, 3) := dk_182 0 58 (dk_at dksX3_beside_1 0 rfl rfl)
theorem dX3_beside_26 : decode cX3_beside 26 = .ok (.ireturn, 1) := dk_172 (dk_at dksX3_beside_1 3 rfl rfl)
abbrev cX3_changes : ByteArray := prog_11_method_20_code
def yX3_changes : MethodName := ⟨RX3, "changes", "(I)I"⟩
def dkwX3_changes_2 : List UInt8 := [172]
abbrev dktX3_changes_2 : List UInt8 := dkwX3_changes_2 ++ []
def dkwX3_changes_1 : List UInt8 := [96, 16, 8, 112, 182, 0, 90, 153, 0, 7, 4, 167, 0, 4, 3, 96, 61, 132, 3, 1, 167, 255, 216, 28]
abbrev dktX3_changes_1 : List UInt8 := dkwX3_changes_1 ++ dktX3_changes_2
def dkwX3_changes_0 : List UInt8 := [3, 61, 3, 62, 29, 16, 8, 162, 0, 40, 28, 42, 27, 29, 182, 0, 90, 154, 0, 21, 42, 27, 29, 4]
abbrev dktX3_changes_0 : List UInt8 := dkwX3_changes_0 ++ dktX3_changes_1
theorem dksX3_changes_0 : cX3_changes.data.toList.drop 0 = dktX3_changes_0 := by decide +kernel
theorem dksX3_changes_1 : cX3_changes.data.toList.drop 24 = dktX3_changes_1 := dk_seg dksX3_changes_0 24 rfl rfl
theorem dksX3_changes_2 : cX3_changes.data.toList.drop 48 = dktX3_changes_2 := dk_seg dksX3_changes_1 24 rfl rfl
theorem dX3_changes_0 : decode cX3_changes 0 = .ok (.iconst 0, 1) := dk_3 (dk_at dksX3_changes_0 0 rfl rfl)
theorem dX3_changes_1 : decode cX3_changes 1 = .ok (.istore_n 2, 1) := dk_61 (dk_at dksX3_changes_0 1 rfl rfl)
theorem dX3_changes_2 : decode cX3_changes 2 = .ok (.iconst 0, 1) := dk_3 (dk_at dksX3_changes_0 2 rfl rfl)
theorem dX3_changes_3 : decode cX3_changes 3 = .ok (.istore_n 3, 1) := dk_62 (dk_at dksX3_changes_0 3 rfl rfl)
theorem dX3_changes_4 : decode cX3_changes 4 = .ok (.iload_n 3, 1) := dk_29 (dk_at dksX3_changes_0 4 rfl rfl)
theorem dX3_changes_5 : decode cX3_changes 5 = .ok (.bipush 8, 2) := dk_16 8 (dk_at dksX3_changes_0 5 rfl rfl)
theorem dX3_changes_7 : decode cX3_changes 7 = .ok (.if_icmp .ge 40, 3) := dk_162 0 40 (dk_at dksX3_changes_0 7 rfl rfl)
theorem dX3_changes_10 : decode cX3_changes 10 = .ok (.iload_n 2, 1) := dk_28 (dk_at dksX3_changes_0 10 rfl rfl)
theorem dX3_changes_11 : decode cX3_changes 11 = .ok (.aload_n 0, 1) := dk_42 (dk_at dksX3_changes_0 11 rfl rfl)
theorem dX3_changes_12 : decode cX3_changes 12 = .ok (.iload_n 1, 1) := dk_27 (dk_at dksX3_changes_0 12 rfl rfl)
theorem dX3_changes_13 : decode cX3_changes 13 = .ok (.iload_n 3, 1) := dk_29 (dk_at dksX3_changes_0 13 rfl rfl)
theorem dX3_changes_14 : decode cX3_changes 14 = .ok (.invokevirtual 90, 3) := dk_182 0 90 (dk_at dksX3_changes_0 14 rfl rfl)
theorem dX3_changes_17 : decode cX3_changes 17 = .ok (.ifCond .ne 21, 3) := dk_154 0 21 (dk_at dksX3_changes_0 17 rfl rfl)
theorem dX3_changes_20 : decode cX3_changes 20 = .ok (.aload_n 0, 1) := dk_42 (dk_at dksX3_changes_0 20 rfl rfl)
theorem dX3_changes_21 : decode cX3_changes 21 = .ok (.iload_n 1, 1) := dk_27 (dk_at dksX3_changes_0 21 rfl rfl)
theorem dX3_changes_22 : decode cX3_changes 22 = .ok (.iload_n 3, 1) := dk_29 (dk_at dksX3_changes_0 22 rfl rfl)
theorem dX3_changes_23 : decode cX3_changes 23 = .ok (.iconst 1, 1) := dk_4 (dk_at dksX3_changes_0 23 rfl rfl)
theorem dX3_changes_24 : decode cX3_changes 24 = .ok (.iadd, 1) := dk_96 (dk_at dksX3_changes_1 0 rfl rfl)
theorem dX3_changes_25 : decode cX3_changes 25 = .ok (.bipush 8, 2) := dk_16 8 (dk_at dksX3_changes_1 1 rfl rfl)
theorem dX3_changes_27 : decode cX3_changes 27 = .ok (.irem, 1) := dk_112 (dk_at dksX3_changes_1 3 rfl rfl)
theorem dX3_changes_28 : decode cX3_changes 28 = .ok (.invokevirtual 90, 3) := dk_182 0 90 (dk_at dksX3_changes_1 4 rfl rfl)
theorem dX3_changes_31 : decode cX3_changes 31 = .ok (.ifCond .eq 7, 3) := dk_153 0 7 (dk_at dksX3_changes_1 7 rfl rfl)
theorem dX3_changes_34 : decode cX3_changes 34 = .ok (.iconst 1, 1) := dk_4 (dk_at dksX3_changes_1 10 rfl rfl)
theorem dX3_changes_35 : decode cX3_changes 35 = .ok (.goto 4, 3) := dk_167 0 4 (dk_at dksX3_changes_1 11 rfl rfl)
theorem dX3_changes_38 : decode cX3_changes 38 = .ok (.iconst 0, 1) := dk_3 (dk_at dksX3_changes_1 14 rfl rfl)
theorem dX3_changes_39 : decode cX3_changes 39 = .ok (.iadd, 1) := dk_96 (dk_at dksX3_changes_1 15 rfl rfl)
theorem dX3_changes_40 : decode cX3_changes 40 = .ok (.istore_n 2, 1) := dk_61 (dk_at dksX3_changes_1 16 rfl rfl)
theorem dX3_changes_41 : decode cX3_changes 41 = .ok (.iinc 3 1, 3) := dk_132 3 1 (dk_at dksX3_changes_1 17 rfl rfl)
theorem dX3_changes_44 : decode cX3_changes 44 = .ok (.goto (-40), 3) := dk_167 255 216 (dk_at dksX3_changes_1 20 rfl rfl)
theorem dX3_changes_47 : decode cX3_changes 47 = .ok (.iload_n 2, 1) := dk_28 (dk_at dksX3_changes_1 23 rfl rfl)
theorem dX3_changes_48 : decode cX3_changes 48 = .ok (.ireturn, 1) := dk_172 (dk_at dksX3_changes_2 0 rfl rfl)
abbrev cX3_toldOf : ByteArray := prog_11_method_33_code
def yX3_toldOf : MethodName := ⟨RX3, "toldOf", "(I)I"⟩
def dkwX3_toldOf_0 : List UInt8 := [42, 3, 181, 0, 33, 27, 172]
abbrev dktX3_toldOf_0 : List UInt8 := dkwX3_toldOf_0 ++ []
theorem dksX3_toldOf_0 : cX3_toldOf.data.toList.drop 0 = dktX3_toldOf_0 := by decide +kernel
theorem dX3_toldOf_0 : decode cX3_toldOf 0 = .ok (.aload_n 0, 1) := dk_42 (dk_at dksX3_toldOf_0 0 rfl rfl)
theorem dX3_toldOf_1 : decode cX3_toldOf 1 = .ok (.iconst 0, 1) := dk_3 (dk_at dksX3_toldOf_0 1 rfl rfl)
theorem dX3_toldOf_2 : decode cX3_toldOf 2 = .ok (.putfield 33, 3) := dk_181 0 33 (dk_at dksX3_toldOf_0 2 rfl rfl)
theorem dX3_toldOf_5 : decode cX3_toldOf 5 = .ok (.iload_n 1, 1) := dk_27 (dk_at dksX3_toldOf_0 5 rfl rfl)
theorem dX3_toldOf_6 : decode cX3_toldOf 6 = .ok (.ireturn, 1) := dk_172 (dk_at dksX3_toldOf_0 6 rfl rfl)
abbrev cX3_width : ByteArray := prog_11_method_45_code
def yX3_width : MethodName := ⟨RX3, "width", "()I"⟩
def dkwX3_width_0 : List UInt8 := [42, 42, 180, 0, 37, 182, 0, 147, 172]
abbrev dktX3_width_0 : List UInt8 := dkwX3_width_0 ++ []
theorem dksX3_width_0 : cX3_width.data.toList.drop 0 = dktX3_width_0 := by decide +kernel
theorem dX3_width_0 : decode cX3_width 0 = .ok (.aload_n 0, 1) := dk_42 (dk_at dksX3_width_0 0 rfl rfl)
theorem dX3_width_1 : decode cX3_width 1 = .ok (.aload_n 0, 1) := dk_42 (dk_at dksX3_width_0 1 rfl rfl)
theorem dX3_width_2 : decode cX3_width 2 = .ok (.getfield 37, 3) := dk_180 0 37 (dk_at dksX3_width_0 2 rfl rfl)
theorem dX3_width_5 : decode cX3_width 5 = .ok (.invokevirtual 147, 3) := dk_182 0 147 (dk_at dksX3_width_0 5 rfl rfl)
theorem dX3_width_8 : decode cX3_width 8 = .ok (.ireturn, 1) := dk_172 (dk_at dksX3_width_0 8 rfl rfl)
abbrev cX3_height : ByteArray := prog_11_method_46_code
def yX3_height : MethodName := ⟨RX3, "height", "()I"⟩
def dkwX3_height_0 : List UInt8 := [42, 42, 180, 0, 40, 182, 0, 147, 172]
abbrev dktX3_height_0 : List UInt8 := dkwX3_height_0 ++ []
theorem dksX3_height_0 : cX3_height.data.toList.drop 0 = dktX3_height_0 := by decide +kernel
theorem dX3_height_0 : decode cX3_height 0 = .ok (.aload_n 0, 1) := dk_42 (dk_at dksX3_height_0 0 rfl rfl)
theorem dX3_height_1 : decode cX3_height 1 = .ok (.aload_n 0, 1) := dk_42 (dk_at dksX3_height_0 1 rfl rfl)
theorem dX3_height_2 : decode cX3_height 2 = .ok (.getfield 40, 3) := dk_180 0 40 (dk_at dksX3_height_0 2 rfl rfl)
theorem dX3_height_5 : decode cX3_height 5 = .ok (.invokevirtual 147, 3) := dk_182 0 147 (dk_at dksX3_height_0 5 rfl rfl)
theorem dX3_height_8 : decode cX3_height 8 = .ok (.ireturn, 1) := dk_172 (dk_at dksX3_height_0 8 rfl rfl)
abbrev cX3_at : ByteArray := prog_11_method_47_code
def yX3_at : MethodName := ⟨RX3, "at", "(II)Z"⟩
def dkwX3_at_0 : List UInt8 := [42, 27, 28, 182, 0, 125, 153, 0, 16, 42, 27, 28, 182, 0, 58, 153, 0, 7, 4, 167, 0, 4, 3, 172]
abbrev dktX3_at_0 : List UInt8 := dkwX3_at_0 ++ []
theorem dksX3_at_0 : cX3_at.data.toList.drop 0 = dktX3_at_0 := by decide +kernel
theorem dX3_at_0 : decode cX3_at 0 = .ok (.aload_n 0, 1) := dk_42 (dk_at dksX3_at_0 0 rfl rfl)
theorem dX3_at_1 : decode cX3_at 1 = .ok (.iload_n 1, 1) := dk_27 (dk_at dksX3_at_0 1 rfl rfl)
theorem dX3_at_2 : decode cX3_at 2 = .ok (.iload_n 2, 1) := dk_28 (dk_at dksX3_at_0 2 rfl rfl)
theorem dX3_at_3 : decode cX3_at 3 = .ok (.invokevirtual 125, 3) := dk_182 0 125 (dk_at dksX3_at_0 3 rfl rfl)
theorem dX3_at_6 : decode cX3_at 6 = .ok (.ifCond .eq 16, 3) := dk_153 0 16 (dk_at dksX3_at_0 6 rfl rfl)
theorem dX3_at_9 : decode cX3_at 9 = .ok (.aload_n 0, 1) := dk_42 (dk_at dksX3_at_0 9 rfl rfl)
theorem dX3_at_10 : decode cX3_at 10 = .ok (.iload_n 1, 1) := dk_27 (dk_at dksX3_at_0 10 rfl rfl)
theorem dX3_at_11 : decode cX3_at 11 = .ok (.iload_n 2, 1) := dk_28 (dk_at dksX3_at_0 11 rfl rfl)
theorem dX3_at_12 : decode cX3_at 12 = .ok (.invokevirtual 58, 3) := dk_182 0 58 (dk_at dksX3_at_0 12 rfl rfl)
theorem dX3_at_15 : decode cX3_at 15 = .ok (.ifCond .eq 7, 3) := dk_153 0 7 (dk_at dksX3_at_0 15 rfl rfl)
theorem dX3_at_18 : decode cX3_at 18 = .ok (.iconst 1, 1) := dk_4 (dk_at dksX3_at_0 18 rfl rfl)
theorem dX3_at_19 : decode cX3_at 19 = .ok (.goto 4, 3) := dk_167 0 4 (dk_at dksX3_at_0 19 rfl rfl)
theorem dX3_at_22 : decode cX3_at 22 = .ok (.iconst 0, 1) := dk_3 (dk_at dksX3_at_0 22 rfl rfl)
theorem dX3_at_23 : decode cX3_at 23 = .ok (.ireturn, 1) := dk_172 (dk_at dksX3_at_0 23 rfl rfl)
abbrev cX3_ink : ByteArray := prog_11_method_48_code
def yX3_ink : MethodName := ⟨RX3, "ink", "()I"⟩
def dkwX3_ink_0 : List UInt8 := [42, 42, 182, 0, 141, 182, 0, 147, 172]
abbrev dktX3_ink_0 : List UInt8 := dkwX3_ink_0 ++ []
theorem dksX3_ink_0 : cX3_ink.data.toList.drop 0 = dktX3_ink_0 := by decide +kernel
theorem dX3_ink_0 : decode cX3_ink 0 = .ok (.aload_n 0, 1) := dk_42 (dk_at dksX3_ink_0 0 rfl rfl)
theorem dX3_ink_1 : decode cX3_ink 1 = .ok (.aload_n 0, 1) := dk_42 (dk_at dksX3_ink_0 1 rfl rfl)
theorem dX3_ink_2 : decode cX3_ink 2 = .ok (.invokevirtual 141, 3) := dk_182 0 141 (dk_at dksX3_ink_0 2 rfl rfl)
theorem dX3_ink_5 : decode cX3_ink 5 = .ok (.invokevirtual 147, 3) := dk_182 0 147 (dk_at dksX3_ink_0 5 rfl rfl)
theorem dX3_ink_8 : decode cX3_ink 8 = .ok (.ireturn, 1) := dk_172 (dk_at dksX3_ink_0 8 rfl rfl)
abbrev cX3_depthAt : ByteArray := prog_11_method_50_code
def yX3_depthAt : MethodName := ⟨RX3, "depthAt", "(IIZ)I"⟩
def dkwX3_depthAt_1 : List UInt8 := [167, 0, 4, 3, 172]
abbrev dktX3_depthAt_1 : List UInt8 := dkwX3_depthAt_1 ++ []
def dkwX3_depthAt_0 : List UInt8 := [42, 27, 28, 182, 0, 125, 153, 0, 19, 42, 28, 42, 180, 0, 37, 104, 27, 96, 29, 182, 0, 153]
abbrev dktX3_depthAt_0 : List UInt8 := dkwX3_depthAt_0 ++ dktX3_depthAt_1
theorem dksX3_depthAt_0 : cX3_depthAt.data.toList.drop 0 = dktX3_depthAt_0 := by decide +kernel
theorem dksX3_depthAt_1 : cX3_depthAt.data.toList.drop 22 = dktX3_depthAt_1 := dk_seg dksX3_depthAt_0 22 rfl rfl
theorem dX3_depthAt_0 : decode cX3_depthAt 0 = .ok (.aload_n 0, 1) := dk_42 (dk_at dksX3_depthAt_0 0 rfl rfl)
theorem dX3_depthAt_1 : decode cX3_depthAt 1 = .ok (.iload_n 1, 1) := dk_27 (dk_at dksX3_depthAt_0 1 rfl rfl)
theorem dX3_depthAt_2 : decode cX3_depthAt 2 = .ok (.iload_n 2, 1) := dk_28 (dk_at dksX3_depthAt_0 2 rfl rfl)
theorem dX3_depthAt_3 : decode cX3_depthAt 3 = .ok (.invokevirtual 125, 3) := dk_182 0 125 (dk_at dksX3_depthAt_0 3 rfl rfl)
theorem dX3_depthAt_6 : decode cX3_depthAt 6 = .ok (.ifCond .eq 19, 3) := dk_153 0 19 (dk_at dksX3_depthAt_0 6 rfl rfl)
theorem dX3_depthAt_9 : decode cX3_depthAt 9 = .ok (.aload_n 0, 1) := dk_42 (dk_at dksX3_depthAt_0 9 rfl rfl)
theorem dX3_depthAt_10 : decode cX3_depthAt 10 = .ok (.iload_n 2, 1) := dk_28 (dk_at dksX3_depthAt_0 10 rfl rfl)
theorem dX3_depthAt_11 : decode cX3_depthAt 11 = .ok (.aload_n 0, 1) := dk_42 (dk_at dksX3_depthAt_0 11 rfl rfl)
theorem dX3_depthAt_12 : decode cX3_depthAt 12 = .ok (.getfield 37, 3) := dk_180 0 37 (dk_at dksX3_depthAt_0 12 rfl rfl)
theorem dX3_depthAt_15 : decode cX3_depthAt 15 = .ok (.imul, 1) := dk_104 (dk_at dksX3_depthAt_0 15 rfl rfl)
theorem dX3_depthAt_16 : decode cX3_depthAt 16 = .ok (.iload_n 1, 1) := dk_27 (dk_at dksX3_depthAt_0 16 rfl rfl)
theorem dX3_depthAt_17 : decode cX3_depthAt 17 = .ok (.iadd, 1) := dk_96 (dk_at dksX3_depthAt_0 17 rfl rfl)
theorem dX3_depthAt_18 : decode cX3_depthAt 18 = .ok (.iload_n 3, 1) := dk_29 (dk_at dksX3_depthAt_0 18 rfl rfl)
theorem dX3_depthAt_19 : decode cX3_depthAt 19 = .ok (.invokevirtual 153, 3) := dk_182 0 153 (dk_at dksX3_depthAt_0 19 rfl rfl)
theorem dX3_depthAt_22 : decode cX3_depthAt 22 = .ok (.goto 4, 3) := dk_167 0 4 (dk_at dksX3_depthAt_1 0 rfl rfl)
theorem dX3_depthAt_25 : decode cX3_depthAt 25 = .ok (.iconst 0, 1) := dk_3 (dk_at dksX3_depthAt_1 3 rfl rfl)
theorem dX3_depthAt_26 : decode cX3_depthAt 26 = .ok (.ireturn, 1) := dk_172 (dk_at dksX3_depthAt_1 4 rfl rfl)
abbrev cX3_depthOf : ByteArray := prog_11_method_49_code
def yX3_depthOf : MethodName := ⟨RX3, "depthOf", "(IZ)I"⟩
def dkwX3_depthOf_0 : List UInt8 := [42, 28, 182, 0, 150, 42, 180, 0, 22, 27, 46, 172]
abbrev dktX3_depthOf_0 : List UInt8 := dkwX3_depthOf_0 ++ []
theorem dksX3_depthOf_0 : cX3_depthOf.data.toList.drop 0 = dktX3_depthOf_0 := by decide +kernel
theorem dX3_depthOf_0 : decode cX3_depthOf 0 = .ok (.aload_n 0, 1) := dk_42 (dk_at dksX3_depthOf_0 0 rfl rfl)
theorem dX3_depthOf_1 : decode cX3_depthOf 1 = .ok (.iload_n 2, 1) := dk_28 (dk_at dksX3_depthOf_0 1 rfl rfl)
theorem dX3_depthOf_2 : decode cX3_depthOf 2 = .ok (.invokevirtual 150, 3) := dk_182 0 150 (dk_at dksX3_depthOf_0 2 rfl rfl)
theorem dX3_depthOf_5 : decode cX3_depthOf 5 = .ok (.aload_n 0, 1) := dk_42 (dk_at dksX3_depthOf_0 5 rfl rfl)
theorem dX3_depthOf_6 : decode cX3_depthOf 6 = .ok (.getfield 22, 3) := dk_180 0 22 (dk_at dksX3_depthOf_0 6 rfl rfl)
theorem dX3_depthOf_9 : decode cX3_depthOf 9 = .ok (.iload_n 1, 1) := dk_27 (dk_at dksX3_depthOf_0 9 rfl rfl)
theorem dX3_depthOf_10 : decode cX3_depthOf 10 = .ok (.iaload, 1) := dk_46 (dk_at dksX3_depthOf_0 10 rfl rfl)
theorem dX3_depthOf_11 : decode cX3_depthOf 11 = .ok (.ireturn, 1) := dk_172 (dk_at dksX3_depthOf_0 11 rfl rfl)
abbrev cX3_depths : ByteArray := prog_11_method_17_code
def yX3_depths : MethodName := ⟨RX3, "depths", "(Z)V"⟩
def dkwX3_depths_8 : List UInt8 := [167, 255, 108, 177]
abbrev dktX3_depths_8 : List UInt8 := dkwX3_depths_8 ++ []
def dkwX3_depths_7 : List UInt8 := [153, 0, 7, 4, 167, 0, 4, 5, 96, 54, 4, 167, 255, 152, 132, 3, 1, 167, 255, 122, 132, 2, 1]
abbrev dktX3_depths_7 : List UInt8 := dkwX3_depths_7 ++ dktX3_depths_8
def dkwX3_depths_6 : List UInt8 := [180, 0, 37, 104, 21, 5, 96, 46, 28, 4, 100, 160, 0, 10, 42, 180, 0, 22, 29, 28, 79, 21, 4, 27]
abbrev dktX3_depths_6 : List UInt8 := dkwX3_depths_6 ++ dktX3_depths_7
def dkwX3_depths_5 : List UInt8 := [4, 159, 0, 35, 42, 21, 5, 21, 6, 182, 0, 47, 153, 0, 31, 42, 180, 0, 22, 21, 6, 42]
abbrev dktX3_depths_5 : List UInt8 := dkwX3_depths_5 ++ dktX3_depths_6
def dkwX3_depths_4 : List UInt8 := [180, 0, 37, 108, 21, 4, 184, 0, 55, 96, 54, 6, 42, 21, 5, 21, 6, 182, 0, 47, 154, 0, 8, 28]
abbrev dktX3_depths_4 : List UInt8 := dkwX3_depths_4 ++ dktX3_depths_5
def dkwX3_depths_3 : List UInt8 := [21, 4, 16, 8, 162, 0, 103, 29, 42, 180, 0, 37, 112, 21, 4, 184, 0, 51, 96, 54, 5, 29, 42]
abbrev dktX3_depths_3 : List UInt8 := dkwX3_depths_3 ++ dktX3_depths_4
def dkwX3_depths_2 : List UInt8 := [42, 182, 0, 61, 162, 0, 132, 42, 180, 0, 22, 29, 46, 28, 162, 0, 6, 167, 0, 113, 3, 54, 4]
abbrev dktX3_depths_2 : List UInt8 := dkwX3_depths_2 ++ dktX3_depths_3
def dkwX3_depths_1 : List UInt8 := [16, 32, 167, 0, 4, 3, 79, 132, 2, 1, 167, 255, 224, 4, 61, 28, 16, 32, 162, 0, 148, 3, 62, 29]
abbrev dktX3_depths_1 : List UInt8 := dkwX3_depths_1 ++ dktX3_depths_2
def dkwX3_depths_0 : List UInt8 := [3, 61, 28, 42, 182, 0, 61, 162, 0, 30, 42, 180, 0, 22, 28, 42, 180, 0, 7, 28, 51, 153, 0, 8]
abbrev dktX3_depths_0 : List UInt8 := dkwX3_depths_0 ++ dktX3_depths_1
theorem dksX3_depths_0 : cX3_depths.data.toList.drop 0 = dktX3_depths_0 := by decide +kernel
theorem dksX3_depths_1 : cX3_depths.data.toList.drop 24 = dktX3_depths_1 := dk_seg dksX3_depths_0 24 rfl rfl
theorem dksX3_depths_2 : cX3_depths.data.toList.drop 48 = dktX3_depths_2 := dk_seg dksX3_depths_1 24 rfl rfl
theorem dksX3_depths_3 : cX3_depths.data.toList.drop 71 = dktX3_depths_3 := dk_seg dksX3_depths_2 23 rfl rfl
theorem dksX3_depths_4 : cX3_depths.data.toList.drop 94 = dktX3_depths_4 := dk_seg dksX3_depths_3 23 rfl rfl
theorem dksX3_depths_5 : cX3_depths.data.toList.drop 118 = dktX3_depths_5 := dk_seg dksX3_depths_4 24 rfl rfl
theorem dksX3_depths_6 : cX3_depths.data.toList.drop 140 = dktX3_depths_6 := dk_seg dksX3_depths_5 22 rfl rfl
theorem dksX3_depths_7 : cX3_depths.data.toList.drop 164 = dktX3_depths_7 := dk_seg dksX3_depths_6 24 rfl rfl
theorem dksX3_depths_8 : cX3_depths.data.toList.drop 187 = dktX3_depths_8 := dk_seg dksX3_depths_7 23 rfl rfl
theorem dX3_depths_0 : decode cX3_depths 0 = .ok (.iconst 0, 1) := dk_3 (dk_at dksX3_depths_0 0 rfl rfl)
theorem dX3_depths_1 : decode cX3_depths 1 = .ok (.istore_n 2, 1) := dk_61 (dk_at dksX3_depths_0 1 rfl rfl)
theorem dX3_depths_2 : decode cX3_depths 2 = .ok (.iload_n 2, 1) := dk_28 (dk_at dksX3_depths_0 2 rfl rfl)
theorem dX3_depths_3 : decode cX3_depths 3 = .ok (.aload_n 0, 1) := dk_42 (dk_at dksX3_depths_0 3 rfl rfl)
theorem dX3_depths_4 : decode cX3_depths 4 = .ok (.invokevirtual 61, 3) := dk_182 0 61 (dk_at dksX3_depths_0 4 rfl rfl)
theorem dX3_depths_7 : decode cX3_depths 7 = .ok (.if_icmp .ge 30, 3) := dk_162 0 30 (dk_at dksX3_depths_0 7 rfl rfl)
theorem dX3_depths_10 : decode cX3_depths 10 = .ok (.aload_n 0, 1) := dk_42 (dk_at dksX3_depths_0 10 rfl rfl)
theorem dX3_depths_11 : decode cX3_depths 11 = .ok (.getfield 22, 3) := dk_180 0 22 (dk_at dksX3_depths_0 11 rfl rfl)
theorem dX3_depths_14 : decode cX3_depths 14 = .ok (.iload_n 2, 1) := dk_28 (dk_at dksX3_depths_0 14 rfl rfl)
theorem dX3_depths_15 : decode cX3_depths 15 = .ok (.aload_n 0, 1) := dk_42 (dk_at dksX3_depths_0 15 rfl rfl)
theorem dX3_depths_16 : decode cX3_depths 16 = .ok (.getfield 7, 3) := dk_180 0 7 (dk_at dksX3_depths_0 16 rfl rfl)
theorem dX3_depths_19 : decode cX3_depths 19 = .ok (.iload_n 2, 1) := dk_28 (dk_at dksX3_depths_0 19 rfl rfl)
theorem dX3_depths_20 : decode cX3_depths 20 = .ok (.baload, 1) := dk_51 (dk_at dksX3_depths_0 20 rfl rfl)
theorem dX3_depths_21 : decode cX3_depths 21 = .ok (.ifCond .eq 8, 3) := dk_153 0 8 (dk_at dksX3_depths_0 21 rfl rfl)
theorem dX3_depths_24 : decode cX3_depths 24 = .ok (.bipush 32, 2) := dk_16 32 (dk_at dksX3_depths_1 0 rfl rfl)
theorem dX3_depths_26 : decode cX3_depths 26 = .ok (.goto 4, 3) := dk_167 0 4 (dk_at dksX3_depths_1 2 rfl rfl)
theorem dX3_depths_29 : decode cX3_depths 29 = .ok (.iconst 0, 1) := dk_3 (dk_at dksX3_depths_1 5 rfl rfl)
theorem dX3_depths_30 : decode cX3_depths 30 = .ok (.iastore, 1) := dk_79 (dk_at dksX3_depths_1 6 rfl rfl)
theorem dX3_depths_31 : decode cX3_depths 31 = .ok (.iinc 2 1, 3) := dk_132 2 1 (dk_at dksX3_depths_1 7 rfl rfl)
theorem dX3_depths_34 : decode cX3_depths 34 = .ok (.goto (-32), 3) := dk_167 255 224 (dk_at dksX3_depths_1 10 rfl rfl)
theorem dX3_depths_37 : decode cX3_depths 37 = .ok (.iconst 1, 1) := dk_4 (dk_at dksX3_depths_1 13 rfl rfl)
theorem dX3_depths_38 : decode cX3_depths 38 = .ok (.istore_n 2, 1) := dk_61 (dk_at dksX3_depths_1 14 rfl rfl)
theorem dX3_depths_39 : decode cX3_depths 39 = .ok (.iload_n 2, 1) := dk_28 (dk_at dksX3_depths_1 15 rfl rfl)
theorem dX3_depths_40 : decode cX3_depths 40 = .ok (.bipush 32, 2) := dk_16 32 (dk_at dksX3_depths_1 16 rfl rfl)
theorem dX3_depths_42 : decode cX3_depths 42 = .ok (.if_icmp .ge 148, 3) := dk_162 0 148 (dk_at dksX3_depths_1 18 rfl rfl)
theorem dX3_depths_45 : decode cX3_depths 45 = .ok (.iconst 0, 1) := dk_3 (dk_at dksX3_depths_1 21 rfl rfl)
theorem dX3_depths_46 : decode cX3_depths 46 = .ok (.istore_n 3, 1) := dk_62 (dk_at dksX3_depths_1 22 rfl rfl)
theorem dX3_depths_47 : decode cX3_depths 47 = .ok (.iload_n 3, 1) := dk_29 (dk_at dksX3_depths_1 23 rfl rfl)
theorem dX3_depths_48 : decode cX3_depths 48 = .ok (.aload_n 0, 1) := dk_42 (dk_at dksX3_depths_2 0 rfl rfl)
theorem dX3_depths_49 : decode cX3_depths 49 = .ok (.invokevirtual 61, 3) := dk_182 0 61 (dk_at dksX3_depths_2 1 rfl rfl)
theorem dX3_depths_52 : decode cX3_depths 52 = .ok (.if_icmp .ge 132, 3) := dk_162 0 132 (dk_at dksX3_depths_2 4 rfl rfl)
theorem dX3_depths_55 : decode cX3_depths 55 = .ok (.aload_n 0, 1) := dk_42 (dk_at dksX3_depths_2 7 rfl rfl)
theorem dX3_depths_56 : decode cX3_depths 56 = .ok (.getfield 22, 3) := dk_180 0 22 (dk_at dksX3_depths_2 8 rfl rfl)
theorem dX3_depths_59 : decode cX3_depths 59 = .ok (.iload_n 3, 1) := dk_29 (dk_at dksX3_depths_2 11 rfl rfl)
theorem dX3_depths_60 : decode cX3_depths 60 = .ok (.iaload, 1) := dk_46 (dk_at dksX3_depths_2 12 rfl rfl)
theorem dX3_depths_61 : decode cX3_depths 61 = .ok (.iload_n 2, 1) := dk_28 (dk_at dksX3_depths_2 13 rfl rfl)
theorem dX3_depths_62 : decode cX3_depths 62 = .ok (.if_icmp .ge 6, 3) := dk_162 0 6 (dk_at dksX3_depths_2 14 rfl rfl)
theorem dX3_depths_65 : decode cX3_depths 65 = .ok (.goto 113, 3) := dk_167 0 113 (dk_at dksX3_depths_2 17 rfl rfl)
theorem dX3_depths_68 : decode cX3_depths 68 = .ok (.iconst 0, 1) := dk_3 (dk_at dksX3_depths_2 20 rfl rfl)
theorem dX3_depths_69 : decode cX3_depths 69 = .ok (.istore 4, 2) := dk_54 4 (dk_at dksX3_depths_2 21 rfl rfl)
theorem dX3_depths_71 : decode cX3_depths 71 = .ok (.iload 4, 2) := dk_21 4 (dk_at dksX3_depths_3 0 rfl rfl)
theorem dX3_depths_73 : decode cX3_depths 73 = .ok (.bipush 8, 2) := dk_16 8 (dk_at dksX3_depths_3 2 rfl rfl)
theorem dX3_depths_75 : decode cX3_depths 75 = .ok (.if_icmp .ge 103, 3) := dk_162 0 103 (dk_at dksX3_depths_3 4 rfl rfl)
theorem dX3_depths_78 : decode cX3_depths 78 = .ok (.iload_n 3, 1) := dk_29 (dk_at dksX3_depths_3 7 rfl rfl)
theorem dX3_depths_79 : decode cX3_depths 79 = .ok (.aload_n 0, 1) := dk_42 (dk_at dksX3_depths_3 8 rfl rfl)
theorem dX3_depths_80 : decode cX3_depths 80 = .ok (.getfield 37, 3) := dk_180 0 37 (dk_at dksX3_depths_3 9 rfl rfl)
theorem dX3_depths_83 : decode cX3_depths 83 = .ok (.irem, 1) := dk_112 (dk_at dksX3_depths_3 12 rfl rfl)
theorem dX3_depths_84 : decode cX3_depths 84 = .ok (.iload 4, 2) := dk_21 4 (dk_at dksX3_depths_3 13 rfl rfl)
theorem dX3_depths_86 : decode cX3_depths 86 = .ok (.invokestatic 51, 3) := dk_184 0 51 (dk_at dksX3_depths_3 15 rfl rfl)
theorem dX3_depths_89 : decode cX3_depths 89 = .ok (.iadd, 1) := dk_96 (dk_at dksX3_depths_3 18 rfl rfl)
theorem dX3_depths_90 : decode cX3_depths 90 = .ok (.istore 5, 2) := dk_54 5 (dk_at dksX3_depths_3 19 rfl rfl)
theorem dX3_depths_92 : decode cX3_depths 92 = .ok (.iload_n 3, 1) := dk_29 (dk_at dksX3_depths_3 21 rfl rfl)
theorem dX3_depths_93 : decode cX3_depths 93 = .ok (.aload_n 0, 1) := dk_42 (dk_at dksX3_depths_3 22 rfl rfl)
theorem dX3_depths_94 : decode cX3_depths 94 = .ok (.getfield 37, 3) := dk_180 0 37 (dk_at dksX3_depths_4 0 rfl rfl)
theorem dX3_depths_97 : decode cX3_depths 97 = .ok (.idiv, 1) := dk_108 (dk_at dksX3_depths_4 3 rfl rfl)
theorem dX3_depths_98 : decode cX3_depths 98 = .ok (.iload 4, 2) := dk_21 4 (dk_at dksX3_depths_4 4 rfl rfl)
theorem dX3_depths_100 : decode cX3_depths 100 = .ok (.invokestatic 55, 3) := dk_184 0 55 (dk_at dksX3_depths_4 6 rfl rfl)
theorem dX3_depths_103 : decode cX3_depths 103 = .ok (.iadd, 1) := dk_96 (dk_at dksX3_depths_4 9 rfl rfl)
theorem dX3_depths_104 : decode cX3_depths 104 = .ok (.istore 6, 2) := dk_54 6 (dk_at dksX3_depths_4 10 rfl rfl)
theorem dX3_depths_106 : decode cX3_depths 106 = .ok (.aload_n 0, 1) := dk_42 (dk_at dksX3_depths_4 12 rfl rfl)
theorem dX3_depths_107 : decode cX3_depths 107 = .ok (.iload 5, 2) := dk_21 5 (dk_at dksX3_depths_4 13 rfl rfl)
theorem dX3_depths_109 : decode cX3_depths 109 = .ok (.iload 6, 2) := dk_21 6 (dk_at dksX3_depths_4 15 rfl rfl)
theorem dX3_depths_111 : decode cX3_depths 111 = .ok (.invokevirtual 47, 3) := dk_182 0 47 (dk_at dksX3_depths_4 17 rfl rfl)
theorem dX3_depths_114 : decode cX3_depths 114 = .ok (.ifCond .ne 8, 3) := dk_154 0 8 (dk_at dksX3_depths_4 20 rfl rfl)
theorem dX3_depths_117 : decode cX3_depths 117 = .ok (.iload_n 2, 1) := dk_28 (dk_at dksX3_depths_4 23 rfl rfl)
theorem dX3_depths_118 : decode cX3_depths 118 = .ok (.iconst 1, 1) := dk_4 (dk_at dksX3_depths_5 0 rfl rfl)
theorem dX3_depths_119 : decode cX3_depths 119 = .ok (.if_icmp .eq 35, 3) := dk_159 0 35 (dk_at dksX3_depths_5 1 rfl rfl)
theorem dX3_depths_122 : decode cX3_depths 122 = .ok (.aload_n 0, 1) := dk_42 (dk_at dksX3_depths_5 4 rfl rfl)
theorem dX3_depths_123 : decode cX3_depths 123 = .ok (.iload 5, 2) := dk_21 5 (dk_at dksX3_depths_5 5 rfl rfl)
theorem dX3_depths_125 : decode cX3_depths 125 = .ok (.iload 6, 2) := dk_21 6 (dk_at dksX3_depths_5 7 rfl rfl)
theorem dX3_depths_127 : decode cX3_depths 127 = .ok (.invokevirtual 47, 3) := dk_182 0 47 (dk_at dksX3_depths_5 9 rfl rfl)
theorem dX3_depths_130 : decode cX3_depths 130 = .ok (.ifCond .eq 31, 3) := dk_153 0 31 (dk_at dksX3_depths_5 12 rfl rfl)
theorem dX3_depths_133 : decode cX3_depths 133 = .ok (.aload_n 0, 1) := dk_42 (dk_at dksX3_depths_5 15 rfl rfl)
theorem dX3_depths_134 : decode cX3_depths 134 = .ok (.getfield 22, 3) := dk_180 0 22 (dk_at dksX3_depths_5 16 rfl rfl)
theorem dX3_depths_137 : decode cX3_depths 137 = .ok (.iload 6, 2) := dk_21 6 (dk_at dksX3_depths_5 19 rfl rfl)
theorem dX3_depths_139 : decode cX3_depths 139 = .ok (.aload_n 0, 1) := dk_42 (dk_at dksX3_depths_5 21 rfl rfl)
theorem dX3_depths_140 : decode cX3_depths 140 = .ok (.getfield 37, 3) := dk_180 0 37 (dk_at dksX3_depths_6 0 rfl rfl)
theorem dX3_depths_143 : decode cX3_depths 143 = .ok (.imul, 1) := dk_104 (dk_at dksX3_depths_6 3 rfl rfl)
theorem dX3_depths_144 : decode cX3_depths 144 = .ok (.iload 5, 2) := dk_21 5 (dk_at dksX3_depths_6 4 rfl rfl)
theorem dX3_depths_146 : decode cX3_depths 146 = .ok (.iadd, 1) := dk_96 (dk_at dksX3_depths_6 6 rfl rfl)
theorem dX3_depths_147 : decode cX3_depths 147 = .ok (.iaload, 1) := dk_46 (dk_at dksX3_depths_6 7 rfl rfl)
theorem dX3_depths_148 : decode cX3_depths 148 = .ok (.iload_n 2, 1) := dk_28 (dk_at dksX3_depths_6 8 rfl rfl)
theorem dX3_depths_149 : decode cX3_depths 149 = .ok (.iconst 1, 1) := dk_4 (dk_at dksX3_depths_6 9 rfl rfl)
theorem dX3_depths_150 : decode cX3_depths 150 = .ok (.isub, 1) := dk_100 (dk_at dksX3_depths_6 10 rfl rfl)
theorem dX3_depths_151 : decode cX3_depths 151 = .ok (.if_icmp .ne 10, 3) := dk_160 0 10 (dk_at dksX3_depths_6 11 rfl rfl)
theorem dX3_depths_154 : decode cX3_depths 154 = .ok (.aload_n 0, 1) := dk_42 (dk_at dksX3_depths_6 14 rfl rfl)
theorem dX3_depths_155 : decode cX3_depths 155 = .ok (.getfield 22, 3) := dk_180 0 22 (dk_at dksX3_depths_6 15 rfl rfl)
theorem dX3_depths_158 : decode cX3_depths 158 = .ok (.iload_n 3, 1) := dk_29 (dk_at dksX3_depths_6 18 rfl rfl)
theorem dX3_depths_159 : decode cX3_depths 159 = .ok (.iload_n 2, 1) := dk_28 (dk_at dksX3_depths_6 19 rfl rfl)
theorem dX3_depths_160 : decode cX3_depths 160 = .ok (.iastore, 1) := dk_79 (dk_at dksX3_depths_6 20 rfl rfl)
theorem dX3_depths_161 : decode cX3_depths 161 = .ok (.iload 4, 2) := dk_21 4 (dk_at dksX3_depths_6 21 rfl rfl)
theorem dX3_depths_163 : decode cX3_depths 163 = .ok (.iload_n 1, 1) := dk_27 (dk_at dksX3_depths_6 23 rfl rfl)
theorem dX3_depths_164 : decode cX3_depths 164 = .ok (.ifCond .eq 7, 3) := dk_153 0 7 (dk_at dksX3_depths_7 0 rfl rfl)
theorem dX3_depths_167 : decode cX3_depths 167 = .ok (.iconst 1, 1) := dk_4 (dk_at dksX3_depths_7 3 rfl rfl)
theorem dX3_depths_168 : decode cX3_depths 168 = .ok (.goto 4, 3) := dk_167 0 4 (dk_at dksX3_depths_7 4 rfl rfl)
theorem dX3_depths_171 : decode cX3_depths 171 = .ok (.iconst 2, 1) := dk_5 (dk_at dksX3_depths_7 7 rfl rfl)
theorem dX3_depths_172 : decode cX3_depths 172 = .ok (.iadd, 1) := dk_96 (dk_at dksX3_depths_7 8 rfl rfl)
theorem dX3_depths_173 : decode cX3_depths 173 = .ok (.istore 4, 2) := dk_54 4 (dk_at dksX3_depths_7 9 rfl rfl)
theorem dX3_depths_175 : decode cX3_depths 175 = .ok (.goto (-104), 3) := dk_167 255 152 (dk_at dksX3_depths_7 11 rfl rfl)
theorem dX3_depths_178 : decode cX3_depths 178 = .ok (.iinc 3 1, 3) := dk_132 3 1 (dk_at dksX3_depths_7 14 rfl rfl)
theorem dX3_depths_181 : decode cX3_depths 181 = .ok (.goto (-134), 3) := dk_167 255 122 (dk_at dksX3_depths_7 17 rfl rfl)
theorem dX3_depths_184 : decode cX3_depths 184 = .ok (.iinc 2 1, 3) := dk_132 2 1 (dk_at dksX3_depths_7 20 rfl rfl)
theorem dX3_depths_187 : decode cX3_depths 187 = .ok (.goto (-148), 3) := dk_167 255 108 (dk_at dksX3_depths_8 0 rfl rfl)
theorem dX3_depths_190 : decode cX3_depths 190 = .ok (.return_, 1) := dk_177 (dk_at dksX3_depths_8 3 rfl rfl)
abbrev cX3_greatestDepth : ByteArray := prog_11_method_51_code
def yX3_greatestDepth : MethodName := ⟨RX3, "greatestDepth", "(Z)I"⟩
def dkwX3_greatestDepth_1 : List UInt8 := [180, 0, 22, 29, 46, 184, 0, 83, 61, 132, 3, 1, 167, 255, 234, 28, 172]
abbrev dktX3_greatestDepth_1 : List UInt8 := dkwX3_greatestDepth_1 ++ []
def dkwX3_greatestDepth_0 : List UInt8 := [42, 3, 181, 0, 33, 42, 27, 182, 0, 150, 3, 61, 3, 62, 29, 42, 182, 0, 61, 162, 0, 20, 28, 42]
abbrev dktX3_greatestDepth_0 : List UInt8 := dkwX3_greatestDepth_0 ++ dktX3_greatestDepth_1
theorem dksX3_greatestDepth_0 : cX3_greatestDepth.data.toList.drop 0 = dktX3_greatestDepth_0 := by decide +kernel
theorem dksX3_greatestDepth_1 : cX3_greatestDepth.data.toList.drop 24 = dktX3_greatestDepth_1 := dk_seg dksX3_greatestDepth_0 24 rfl rfl
theorem dX3_greatestDepth_0 : decode cX3_greatestDepth 0 = .ok (.aload_n 0, 1) := dk_42 (dk_at dksX3_greatestDepth_0 0 rfl rfl)
theorem dX3_greatestDepth_1 : decode cX3_greatestDepth 1 = .ok (.iconst 0, 1) := dk_3 (dk_at dksX3_greatestDepth_0 1 rfl rfl)
theorem dX3_greatestDepth_2 : decode cX3_greatestDepth 2 = .ok (.putfield 33, 3) := dk_181 0 33 (dk_at dksX3_greatestDepth_0 2 rfl rfl)
theorem dX3_greatestDepth_5 : decode cX3_greatestDepth 5 = .ok (.aload_n 0, 1) := dk_42 (dk_at dksX3_greatestDepth_0 5 rfl rfl)
theorem dX3_greatestDepth_6 : decode cX3_greatestDepth 6 = .ok (.iload_n 1, 1) := dk_27 (dk_at dksX3_greatestDepth_0 6 rfl rfl)
theorem dX3_greatestDepth_7 : decode cX3_greatestDepth 7 = .ok (.invokevirtual 150, 3) := dk_182 0 150 (dk_at dksX3_greatestDepth_0 7 rfl rfl)
theorem dX3_greatestDepth_10 : decode cX3_greatestDepth 10 = .ok (.iconst 0, 1) := dk_3 (dk_at dksX3_greatestDepth_0 10 rfl rfl)
theorem dX3_greatestDepth_11 : decode cX3_greatestDepth 11 = .ok (.istore_n 2, 1) := dk_61 (dk_at dksX3_greatestDepth_0 11 rfl rfl)
theorem dX3_greatestDepth_12 : decode cX3_greatestDepth 12 = .ok (.iconst 0, 1) := dk_3 (dk_at dksX3_greatestDepth_0 12 rfl rfl)
theorem dX3_greatestDepth_13 : decode cX3_greatestDepth 13 = .ok (.istore_n 3, 1) := dk_62 (dk_at dksX3_greatestDepth_0 13 rfl rfl)
theorem dX3_greatestDepth_14 : decode cX3_greatestDepth 14 = .ok (.iload_n 3, 1) := dk_29 (dk_at dksX3_greatestDepth_0 14 rfl rfl)
theorem dX3_greatestDepth_15 : decode cX3_greatestDepth 15 = .ok (.aload_n 0, 1) := dk_42 (dk_at dksX3_greatestDepth_0 15 rfl rfl)
theorem dX3_greatestDepth_16 : decode cX3_greatestDepth 16 = .ok (.invokevirtual 61, 3) := dk_182 0 61 (dk_at dksX3_greatestDepth_0 16 rfl rfl)
theorem dX3_greatestDepth_19 : decode cX3_greatestDepth 19 = .ok (.if_icmp .ge 20, 3) := dk_162 0 20 (dk_at dksX3_greatestDepth_0 19 rfl rfl)
theorem dX3_greatestDepth_22 : decode cX3_greatestDepth 22 = .ok (.iload_n 2, 1) := dk_28 (dk_at dksX3_greatestDepth_0 22 rfl rfl)
theorem dX3_greatestDepth_23 : decode cX3_greatestDepth 23 = .ok (.aload_n 0, 1) := dk_42 (dk_at dksX3_greatestDepth_0 23 rfl rfl)
theorem dX3_greatestDepth_24 : decode cX3_greatestDepth 24 = .ok (.getfield 22, 3) := dk_180 0 22 (dk_at dksX3_greatestDepth_1 0 rfl rfl)
theorem dX3_greatestDepth_27 : decode cX3_greatestDepth 27 = .ok (.iload_n 3, 1) := dk_29 (dk_at dksX3_greatestDepth_1 3 rfl rfl)
theorem dX3_greatestDepth_28 : decode cX3_greatestDepth 28 = .ok (.iaload, 1) := dk_46 (dk_at dksX3_greatestDepth_1 4 rfl rfl)
theorem dX3_greatestDepth_29 : decode cX3_greatestDepth 29 = .ok (.invokestatic 83, 3) := dk_184 0 83 (dk_at dksX3_greatestDepth_1 5 rfl rfl)
theorem dX3_greatestDepth_32 : decode cX3_greatestDepth 32 = .ok (.istore_n 2, 1) := dk_61 (dk_at dksX3_greatestDepth_1 8 rfl rfl)
theorem dX3_greatestDepth_33 : decode cX3_greatestDepth 33 = .ok (.iinc 3 1, 3) := dk_132 3 1 (dk_at dksX3_greatestDepth_1 9 rfl rfl)
theorem dX3_greatestDepth_36 : decode cX3_greatestDepth 36 = .ok (.goto (-22), 3) := dk_167 255 234 (dk_at dksX3_greatestDepth_1 12 rfl rfl)
theorem dX3_greatestDepth_39 : decode cX3_greatestDepth 39 = .ok (.iload_n 2, 1) := dk_28 (dk_at dksX3_greatestDepth_1 15 rfl rfl)
theorem dX3_greatestDepth_40 : decode cX3_greatestDepth 40 = .ok (.ireturn, 1) := dk_172 (dk_at dksX3_greatestDepth_1 16 rfl rfl)
abbrev cX3_depthSum : ByteArray := prog_11_method_52_code
def yX3_depthSum : MethodName := ⟨RX3, "depthSum", "(Z)I"⟩
def dkwX3_depthSum_1 : List UInt8 := [180, 0, 22, 29, 46, 96, 61, 132, 3, 1, 167, 255, 236, 28, 172]
abbrev dktX3_depthSum_1 : List UInt8 := dkwX3_depthSum_1 ++ []
def dkwX3_depthSum_0 : List UInt8 := [42, 3, 181, 0, 33, 42, 27, 182, 0, 150, 3, 61, 3, 62, 29, 42, 182, 0, 61, 162, 0, 18, 28, 42]
abbrev dktX3_depthSum_0 : List UInt8 := dkwX3_depthSum_0 ++ dktX3_depthSum_1
theorem dksX3_depthSum_0 : cX3_depthSum.data.toList.drop 0 = dktX3_depthSum_0 := by decide +kernel
theorem dksX3_depthSum_1 : cX3_depthSum.data.toList.drop 24 = dktX3_depthSum_1 := dk_seg dksX3_depthSum_0 24 rfl rfl
theorem dX3_depthSum_0 : decode cX3_depthSum 0 = .ok (.aload_n 0, 1) := dk_42 (dk_at dksX3_depthSum_0 0 rfl rfl)
theorem dX3_depthSum_1 : decode cX3_depthSum 1 = .ok (.iconst 0, 1) := dk_3 (dk_at dksX3_depthSum_0 1 rfl rfl)
theorem dX3_depthSum_2 : decode cX3_depthSum 2 = .ok (.putfield 33, 3) := dk_181 0 33 (dk_at dksX3_depthSum_0 2 rfl rfl)
theorem dX3_depthSum_5 : decode cX3_depthSum 5 = .ok (.aload_n 0, 1) := dk_42 (dk_at dksX3_depthSum_0 5 rfl rfl)
theorem dX3_depthSum_6 : decode cX3_depthSum 6 = .ok (.iload_n 1, 1) := dk_27 (dk_at dksX3_depthSum_0 6 rfl rfl)
theorem dX3_depthSum_7 : decode cX3_depthSum 7 = .ok (.invokevirtual 150, 3) := dk_182 0 150 (dk_at dksX3_depthSum_0 7 rfl rfl)
theorem dX3_depthSum_10 : decode cX3_depthSum 10 = .ok (.iconst 0, 1) := dk_3 (dk_at dksX3_depthSum_0 10 rfl rfl)
theorem dX3_depthSum_11 : decode cX3_depthSum 11 = .ok (.istore_n 2, 1) := dk_61 (dk_at dksX3_depthSum_0 11 rfl rfl)
theorem dX3_depthSum_12 : decode cX3_depthSum 12 = .ok (.iconst 0, 1) := dk_3 (dk_at dksX3_depthSum_0 12 rfl rfl)
theorem dX3_depthSum_13 : decode cX3_depthSum 13 = .ok (.istore_n 3, 1) := dk_62 (dk_at dksX3_depthSum_0 13 rfl rfl)
theorem dX3_depthSum_14 : decode cX3_depthSum 14 = .ok (.iload_n 3, 1) := dk_29 (dk_at dksX3_depthSum_0 14 rfl rfl)
theorem dX3_depthSum_15 : decode cX3_depthSum 15 = .ok (.aload_n 0, 1) := dk_42 (dk_at dksX3_depthSum_0 15 rfl rfl)
theorem dX3_depthSum_16 : decode cX3_depthSum 16 = .ok (.invokevirtual 61, 3) := dk_182 0 61 (dk_at dksX3_depthSum_0 16 rfl rfl)
theorem dX3_depthSum_19 : decode cX3_depthSum 19 = .ok (.if_icmp .ge 18, 3) := dk_162 0 18 (dk_at dksX3_depthSum_0 19 rfl rfl)
theorem dX3_depthSum_22 : decode cX3_depthSum 22 = .ok (.iload_n 2, 1) := dk_28 (dk_at dksX3_depthSum_0 22 rfl rfl)
theorem dX3_depthSum_23 : decode cX3_depthSum 23 = .ok (.aload_n 0, 1) := dk_42 (dk_at dksX3_depthSum_0 23 rfl rfl)
theorem dX3_depthSum_24 : decode cX3_depthSum 24 = .ok (.getfield 22, 3) := dk_180 0 22 (dk_at dksX3_depthSum_1 0 rfl rfl)
theorem dX3_depthSum_27 : decode cX3_depthSum 27 = .ok (.iload_n 3, 1) := dk_29 (dk_at dksX3_depthSum_1 3 rfl rfl)
theorem dX3_depthSum_28 : decode cX3_depthSum 28 = .ok (.iaload, 1) := dk_46 (dk_at dksX3_depthSum_1 4 rfl rfl)
theorem dX3_depthSum_29 : decode cX3_depthSum 29 = .ok (.iadd, 1) := dk_96 (dk_at dksX3_depthSum_1 5 rfl rfl)
theorem dX3_depthSum_30 : decode cX3_depthSum 30 = .ok (.istore_n 2, 1) := dk_61 (dk_at dksX3_depthSum_1 6 rfl rfl)
theorem dX3_depthSum_31 : decode cX3_depthSum 31 = .ok (.iinc 3 1, 3) := dk_132 3 1 (dk_at dksX3_depthSum_1 7 rfl rfl)
theorem dX3_depthSum_34 : decode cX3_depthSum 34 = .ok (.goto (-20), 3) := dk_167 255 236 (dk_at dksX3_depthSum_1 10 rfl rfl)
theorem dX3_depthSum_37 : decode cX3_depthSum 37 = .ok (.iload_n 2, 1) := dk_28 (dk_at dksX3_depthSum_1 13 rfl rfl)
theorem dX3_depthSum_38 : decode cX3_depthSum 38 = .ok (.ireturn, 1) := dk_172 (dk_at dksX3_depthSum_1 14 rfl rfl)
abbrev cX3_runs : ByteArray := prog_11_method_54_code
def yX3_runs : MethodName := ⟨RX3, "runs", "(I)I"⟩
def dkwX3_runs_0 : List UInt8 := [42, 27, 182, 0, 157, 153, 0, 11, 42, 27, 182, 0, 118, 167, 0, 4, 3, 172]
abbrev dktX3_runs_0 : List UInt8 := dkwX3_runs_0 ++ []
theorem dksX3_runs_0 : cX3_runs.data.toList.drop 0 = dktX3_runs_0 := by decide +kernel
theorem dX3_runs_0 : decode cX3_runs 0 = .ok (.aload_n 0, 1) := dk_42 (dk_at dksX3_runs_0 0 rfl rfl)
theorem dX3_runs_1 : decode cX3_runs 1 = .ok (.iload_n 1, 1) := dk_27 (dk_at dksX3_runs_0 1 rfl rfl)
theorem dX3_runs_2 : decode cX3_runs 2 = .ok (.invokevirtual 157, 3) := dk_182 0 157 (dk_at dksX3_runs_0 2 rfl rfl)
theorem dX3_runs_5 : decode cX3_runs 5 = .ok (.ifCond .eq 11, 3) := dk_153 0 11 (dk_at dksX3_runs_0 5 rfl rfl)
theorem dX3_runs_8 : decode cX3_runs 8 = .ok (.aload_n 0, 1) := dk_42 (dk_at dksX3_runs_0 8 rfl rfl)
theorem dX3_runs_9 : decode cX3_runs 9 = .ok (.iload_n 1, 1) := dk_27 (dk_at dksX3_runs_0 9 rfl rfl)
theorem dX3_runs_10 : decode cX3_runs 10 = .ok (.invokevirtual 118, 3) := dk_182 0 118 (dk_at dksX3_runs_0 10 rfl rfl)
theorem dX3_runs_13 : decode cX3_runs 13 = .ok (.goto 4, 3) := dk_167 0 4 (dk_at dksX3_runs_0 13 rfl rfl)
theorem dX3_runs_16 : decode cX3_runs 16 = .ok (.iconst 0, 1) := dk_3 (dk_at dksX3_runs_0 16 rfl rfl)
theorem dX3_runs_17 : decode cX3_runs 17 = .ok (.ireturn, 1) := dk_172 (dk_at dksX3_runs_0 17 rfl rfl)
abbrev cX3_row : ByteArray := prog_11_method_53_code
def yX3_row : MethodName := ⟨RX3, "row", "(I)Z"⟩
def dkwX3_row_0 : List UInt8 := [42, 3, 181, 0, 33, 42, 27, 3, 42, 180, 0, 40, 4, 100, 184, 0, 43, 4, 182, 0, 121, 172]
abbrev dktX3_row_0 : List UInt8 := dkwX3_row_0 ++ []
theorem dksX3_row_0 : cX3_row.data.toList.drop 0 = dktX3_row_0 := by decide +kernel
theorem dX3_row_0 : decode cX3_row 0 = .ok (.aload_n 0, 1) := dk_42 (dk_at dksX3_row_0 0 rfl rfl)
theorem dX3_row_1 : decode cX3_row 1 = .ok (.iconst 0, 1) := dk_3 (dk_at dksX3_row_0 1 rfl rfl)
theorem dX3_row_2 : decode cX3_row 2 = .ok (.putfield 33, 3) := dk_181 0 33 (dk_at dksX3_row_0 2 rfl rfl)
theorem dX3_row_5 : decode cX3_row 5 = .ok (.aload_n 0, 1) := dk_42 (dk_at dksX3_row_0 5 rfl rfl)
theorem dX3_row_6 : decode cX3_row 6 = .ok (.iload_n 1, 1) := dk_27 (dk_at dksX3_row_0 6 rfl rfl)
theorem dX3_row_7 : decode cX3_row 7 = .ok (.iconst 0, 1) := dk_3 (dk_at dksX3_row_0 7 rfl rfl)
theorem dX3_row_8 : decode cX3_row 8 = .ok (.aload_n 0, 1) := dk_42 (dk_at dksX3_row_0 8 rfl rfl)
theorem dX3_row_9 : decode cX3_row 9 = .ok (.getfield 40, 3) := dk_180 0 40 (dk_at dksX3_row_0 9 rfl rfl)
theorem dX3_row_12 : decode cX3_row 12 = .ok (.iconst 1, 1) := dk_4 (dk_at dksX3_row_0 12 rfl rfl)
theorem dX3_row_13 : decode cX3_row 13 = .ok (.isub, 1) := dk_100 (dk_at dksX3_row_0 13 rfl rfl)
theorem dX3_row_14 : decode cX3_row 14 = .ok (.invokestatic 43, 3) := dk_184 0 43 (dk_at dksX3_row_0 14 rfl rfl)
theorem dX3_row_17 : decode cX3_row 17 = .ok (.iconst 1, 1) := dk_4 (dk_at dksX3_row_0 17 rfl rfl)
theorem dX3_row_18 : decode cX3_row 18 = .ok (.invokevirtual 121, 3) := dk_182 0 121 (dk_at dksX3_row_0 18 rfl rfl)
theorem dX3_row_21 : decode cX3_row 21 = .ok (.ireturn, 1) := dk_172 (dk_at dksX3_row_0 21 rfl rfl)
abbrev cX3_runsOf : ByteArray := prog_11_method_30_code
def yX3_runsOf : MethodName := ⟨RX3, "runsOf", "(I)I"⟩
def dkwX3_runsOf_1 : List UInt8 := [167, 0, 4, 3, 96, 61, 132, 3, 1, 167, 255, 228, 28, 172]
abbrev dktX3_runsOf_1 : List UInt8 := dkwX3_runsOf_1 ++ []
def dkwX3_runsOf_0 : List UInt8 := [3, 61, 3, 62, 29, 42, 180, 0, 37, 162, 0, 26, 28, 42, 29, 27, 182, 0, 115, 153, 0, 7, 4]
abbrev dktX3_runsOf_0 : List UInt8 := dkwX3_runsOf_0 ++ dktX3_runsOf_1
theorem dksX3_runsOf_0 : cX3_runsOf.data.toList.drop 0 = dktX3_runsOf_0 := by decide +kernel
theorem dksX3_runsOf_1 : cX3_runsOf.data.toList.drop 23 = dktX3_runsOf_1 := dk_seg dksX3_runsOf_0 23 rfl rfl
theorem dX3_runsOf_0 : decode cX3_runsOf 0 = .ok (.iconst 0, 1) := dk_3 (dk_at dksX3_runsOf_0 0 rfl rfl)
theorem dX3_runsOf_1 : decode cX3_runsOf 1 = .ok (.istore_n 2, 1) := dk_61 (dk_at dksX3_runsOf_0 1 rfl rfl)
theorem dX3_runsOf_2 : decode cX3_runsOf 2 = .ok (.iconst 0, 1) := dk_3 (dk_at dksX3_runsOf_0 2 rfl rfl)
theorem dX3_runsOf_3 : decode cX3_runsOf 3 = .ok (.istore_n 3, 1) := dk_62 (dk_at dksX3_runsOf_0 3 rfl rfl)
theorem dX3_runsOf_4 : decode cX3_runsOf 4 = .ok (.iload_n 3, 1) := dk_29 (dk_at dksX3_runsOf_0 4 rfl rfl)
theorem dX3_runsOf_5 : decode cX3_runsOf 5 = .ok (.aload_n 0, 1) := dk_42 (dk_at dksX3_runsOf_0 5 rfl rfl)
theorem dX3_runsOf_6 : decode cX3_runsOf 6 = .ok (.getfield 37, 3) := dk_180 0 37 (dk_at dksX3_runsOf_0 6 rfl rfl)
theorem dX3_runsOf_9 : decode cX3_runsOf 9 = .ok (.if_icmp .ge 26, 3) := dk_162 0 26 (dk_at dksX3_runsOf_0 9 rfl rfl)
theorem dX3_runsOf_12 : decode cX3_runsOf 12 = .ok (.iload_n 2, 1) := dk_28 (dk_at dksX3_runsOf_0 12 rfl rfl)
theorem dX3_runsOf_13 : decode cX3_runsOf 13 = .ok (.aload_n 0, 1) := dk_42 (dk_at dksX3_runsOf_0 13 rfl rfl)
theorem dX3_runsOf_14 : decode cX3_runsOf 14 = .ok (.iload_n 3, 1) := dk_29 (dk_at dksX3_runsOf_0 14 rfl rfl)
theorem dX3_runsOf_15 : decode cX3_runsOf 15 = .ok (.iload_n 1, 1) := dk_27 (dk_at dksX3_runsOf_0 15 rfl rfl)
theorem dX3_runsOf_16 : decode cX3_runsOf 16 = .ok (.invokevirtual 115, 3) := dk_182 0 115 (dk_at dksX3_runsOf_0 16 rfl rfl)
theorem dX3_runsOf_19 : decode cX3_runsOf 19 = .ok (.ifCond .eq 7, 3) := dk_153 0 7 (dk_at dksX3_runsOf_0 19 rfl rfl)
theorem dX3_runsOf_22 : decode cX3_runsOf 22 = .ok (.iconst 1, 1) := dk_4 (dk_at dksX3_runsOf_0 22 rfl rfl)
theorem dX3_runsOf_23 : decode cX3_runsOf 23 = .ok (.goto 4, 3) := dk_167 0 4 (dk_at dksX3_runsOf_1 0 rfl rfl)
theorem dX3_runsOf_26 : decode cX3_runsOf 26 = .ok (.iconst 0, 1) := dk_3 (dk_at dksX3_runsOf_1 3 rfl rfl)
theorem dX3_runsOf_27 : decode cX3_runsOf 27 = .ok (.iadd, 1) := dk_96 (dk_at dksX3_runsOf_1 4 rfl rfl)
theorem dX3_runsOf_28 : decode cX3_runsOf 28 = .ok (.istore_n 2, 1) := dk_61 (dk_at dksX3_runsOf_1 5 rfl rfl)
theorem dX3_runsOf_29 : decode cX3_runsOf 29 = .ok (.iinc 3 1, 3) := dk_132 3 1 (dk_at dksX3_runsOf_1 6 rfl rfl)
theorem dX3_runsOf_32 : decode cX3_runsOf 32 = .ok (.goto (-28), 3) := dk_167 255 228 (dk_at dksX3_runsOf_1 9 rfl rfl)
theorem dX3_runsOf_35 : decode cX3_runsOf 35 = .ok (.iload_n 2, 1) := dk_28 (dk_at dksX3_runsOf_1 12 rfl rfl)
theorem dX3_runsOf_36 : decode cX3_runsOf 36 = .ok (.ireturn, 1) := dk_172 (dk_at dksX3_runsOf_1 13 rfl rfl)
abbrev cX3_isFirst : ByteArray := prog_11_method_29_code
def yX3_isFirst : MethodName := ⟨RX3, "isFirst", "(II)Z"⟩
def dkwX3_isFirst_1 : List UInt8 := [3, 172]
abbrev dktX3_isFirst_1 : List UInt8 := dkwX3_isFirst_1 ++ []
def dkwX3_isFirst_0 : List UInt8 := [42, 27, 28, 182, 0, 58, 153, 0, 18, 42, 27, 4, 100, 28, 182, 0, 58, 154, 0, 7, 4, 167, 0, 4]
abbrev dktX3_isFirst_0 : List UInt8 := dkwX3_isFirst_0 ++ dktX3_isFirst_1
theorem dksX3_isFirst_0 : cX3_isFirst.data.toList.drop 0 = dktX3_isFirst_0 := by decide +kernel
theorem dksX3_isFirst_1 : cX3_isFirst.data.toList.drop 24 = dktX3_isFirst_1 := dk_seg dksX3_isFirst_0 24 rfl rfl
theorem dX3_isFirst_0 : decode cX3_isFirst 0 = .ok (.aload_n 0, 1) := dk_42 (dk_at dksX3_isFirst_0 0 rfl rfl)
theorem dX3_isFirst_1 : decode cX3_isFirst 1 = .ok (.iload_n 1, 1) := dk_27 (dk_at dksX3_isFirst_0 1 rfl rfl)
theorem dX3_isFirst_2 : decode cX3_isFirst 2 = .ok (.iload_n 2, 1) := dk_28 (dk_at dksX3_isFirst_0 2 rfl rfl)
theorem dX3_isFirst_3 : decode cX3_isFirst 3 = .ok (.invokevirtual 58, 3) := dk_182 0 58 (dk_at dksX3_isFirst_0 3 rfl rfl)
theorem dX3_isFirst_6 : decode cX3_isFirst 6 = .ok (.ifCond .eq 18, 3) := dk_153 0 18 (dk_at dksX3_isFirst_0 6 rfl rfl)
theorem dX3_isFirst_9 : decode cX3_isFirst 9 = .ok (.aload_n 0, 1) := dk_42 (dk_at dksX3_isFirst_0 9 rfl rfl)
theorem dX3_isFirst_10 : decode cX3_isFirst 10 = .ok (.iload_n 1, 1) := dk_27 (dk_at dksX3_isFirst_0 10 rfl rfl)
theorem dX3_isFirst_11 : decode cX3_isFirst 11 = .ok (.iconst 1, 1) := dk_4 (dk_at dksX3_isFirst_0 11 rfl rfl)
theorem dX3_isFirst_12 : decode cX3_isFirst 12 = .ok (.isub, 1) := dk_100 (dk_at dksX3_isFirst_0 12 rfl rfl)
theorem dX3_isFirst_13 : decode cX3_isFirst 13 = .ok (.iload_n 2, 1) := dk_28 (dk_at dksX3_isFirst_0 13 rfl rfl)
theorem dX3_isFirst_14 : decode cX3_isFirst 14 = .ok (.invokevirtual 58, 3) := dk_182 0 58 (dk_at dksX3_isFirst_0 14 rfl rfl)
theorem dX3_isFirst_17 : decode cX3_isFirst 17 = .ok (.ifCond .ne 7, 3) := dk_154 0 7 (dk_at dksX3_isFirst_0 17 rfl rfl)
theorem dX3_isFirst_20 : decode cX3_isFirst 20 = .ok (.iconst 1, 1) := dk_4 (dk_at dksX3_isFirst_0 20 rfl rfl)
theorem dX3_isFirst_21 : decode cX3_isFirst 21 = .ok (.goto 4, 3) := dk_167 0 4 (dk_at dksX3_isFirst_0 21 rfl rfl)
theorem dX3_isFirst_24 : decode cX3_isFirst 24 = .ok (.iconst 0, 1) := dk_3 (dk_at dksX3_isFirst_1 0 rfl rfl)
theorem dX3_isFirst_25 : decode cX3_isFirst 25 = .ok (.ireturn, 1) := dk_172 (dk_at dksX3_isFirst_1 1 rfl rfl)
abbrev cX3_runAt : ByteArray := prog_11_method_55_code
def yX3_runAt : MethodName := ⟨RX3, "runAt", "(II)I"⟩
def dkwX3_runAt_1 : List UInt8 := [182, 0, 121, 153, 0, 12, 42, 27, 28, 182, 0, 160, 167, 0, 4, 3, 172]
abbrev dktX3_runAt_1 : List UInt8 := dkwX3_runAt_1 ++ []
def dkwX3_runAt_0 : List UInt8 := [42, 27, 182, 0, 157, 153, 0, 32, 42, 28, 3, 42, 27, 182, 0, 118, 4, 100, 184, 0, 43, 5]
abbrev dktX3_runAt_0 : List UInt8 := dkwX3_runAt_0 ++ dktX3_runAt_1
theorem dksX3_runAt_0 : cX3_runAt.data.toList.drop 0 = dktX3_runAt_0 := by decide +kernel
theorem dksX3_runAt_1 : cX3_runAt.data.toList.drop 22 = dktX3_runAt_1 := dk_seg dksX3_runAt_0 22 rfl rfl
theorem dX3_runAt_0 : decode cX3_runAt 0 = .ok (.aload_n 0, 1) := dk_42 (dk_at dksX3_runAt_0 0 rfl rfl)
theorem dX3_runAt_1 : decode cX3_runAt 1 = .ok (.iload_n 1, 1) := dk_27 (dk_at dksX3_runAt_0 1 rfl rfl)
theorem dX3_runAt_2 : decode cX3_runAt 2 = .ok (.invokevirtual 157, 3) := dk_182 0 157 (dk_at dksX3_runAt_0 2 rfl rfl)
theorem dX3_runAt_5 : decode cX3_runAt 5 = .ok (.ifCond .eq 32, 3) := dk_153 0 32 (dk_at dksX3_runAt_0 5 rfl rfl)
theorem dX3_runAt_8 : decode cX3_runAt 8 = .ok (.aload_n 0, 1) := dk_42 (dk_at dksX3_runAt_0 8 rfl rfl)
theorem dX3_runAt_9 : decode cX3_runAt 9 = .ok (.iload_n 2, 1) := dk_28 (dk_at dksX3_runAt_0 9 rfl rfl)
theorem dX3_runAt_10 : decode cX3_runAt 10 = .ok (.iconst 0, 1) := dk_3 (dk_at dksX3_runAt_0 10 rfl rfl)
theorem dX3_runAt_11 : decode cX3_runAt 11 = .ok (.aload_n 0, 1) := dk_42 (dk_at dksX3_runAt_0 11 rfl rfl)
theorem dX3_runAt_12 : decode cX3_runAt 12 = .ok (.iload_n 1, 1) := dk_27 (dk_at dksX3_runAt_0 12 rfl rfl)
theorem dX3_runAt_13 : decode cX3_runAt 13 = .ok (.invokevirtual 118, 3) := dk_182 0 118 (dk_at dksX3_runAt_0 13 rfl rfl)
theorem dX3_runAt_16 : decode cX3_runAt 16 = .ok (.iconst 1, 1) := dk_4 (dk_at dksX3_runAt_0 16 rfl rfl)
theorem dX3_runAt_17 : decode cX3_runAt 17 = .ok (.isub, 1) := dk_100 (dk_at dksX3_runAt_0 17 rfl rfl)
theorem dX3_runAt_18 : decode cX3_runAt 18 = .ok (.invokestatic 43, 3) := dk_184 0 43 (dk_at dksX3_runAt_0 18 rfl rfl)
theorem dX3_runAt_21 : decode cX3_runAt 21 = .ok (.iconst 2, 1) := dk_5 (dk_at dksX3_runAt_0 21 rfl rfl)
theorem dX3_runAt_22 : decode cX3_runAt 22 = .ok (.invokevirtual 121, 3) := dk_182 0 121 (dk_at dksX3_runAt_1 0 rfl rfl)
theorem dX3_runAt_25 : decode cX3_runAt 25 = .ok (.ifCond .eq 12, 3) := dk_153 0 12 (dk_at dksX3_runAt_1 3 rfl rfl)
theorem dX3_runAt_28 : decode cX3_runAt 28 = .ok (.aload_n 0, 1) := dk_42 (dk_at dksX3_runAt_1 6 rfl rfl)
theorem dX3_runAt_29 : decode cX3_runAt 29 = .ok (.iload_n 1, 1) := dk_27 (dk_at dksX3_runAt_1 7 rfl rfl)
theorem dX3_runAt_30 : decode cX3_runAt 30 = .ok (.iload_n 2, 1) := dk_28 (dk_at dksX3_runAt_1 8 rfl rfl)
theorem dX3_runAt_31 : decode cX3_runAt 31 = .ok (.invokevirtual 160, 3) := dk_182 0 160 (dk_at dksX3_runAt_1 9 rfl rfl)
theorem dX3_runAt_34 : decode cX3_runAt 34 = .ok (.goto 4, 3) := dk_167 0 4 (dk_at dksX3_runAt_1 12 rfl rfl)
theorem dX3_runAt_37 : decode cX3_runAt 37 = .ok (.iconst 0, 1) := dk_3 (dk_at dksX3_runAt_1 15 rfl rfl)
theorem dX3_runAt_38 : decode cX3_runAt 38 = .ok (.ireturn, 1) := dk_172 (dk_at dksX3_runAt_1 16 rfl rfl)
abbrev cX3_run : ByteArray := prog_11_method_32_code
def yX3_run : MethodName := ⟨RX3, "run", "(II)I"⟩
def dkwX3_run_3 : List UInt8 := [2, 172]
abbrev dktX3_run_3 : List UInt8 := dkwX3_run_3 ++ []
def dkwX3_run_2 : List UInt8 := [167, 255, 243, 16, 100, 21, 4, 104, 21, 5, 96, 21, 4, 100, 172, 132, 3, 255, 132, 4, 1, 167, 255, 192]
abbrev dktX3_run_2 : List UInt8 := dkwX3_run_2 ++ dktX3_run_3
def dkwX3_run_1 : List UInt8 := [167, 0, 42, 29, 154, 0, 35, 21, 4, 54, 5, 42, 21, 5, 27, 182, 0, 58, 153, 0, 9, 132, 5, 1]
abbrev dktX3_run_1 : List UInt8 := dkwX3_run_1 ++ dktX3_run_2
def dkwX3_run_0 : List UInt8 := [28, 62, 3, 54, 4, 21, 4, 42, 180, 0, 37, 162, 0, 61, 42, 21, 4, 27, 182, 0, 115, 154, 0, 6]
abbrev dktX3_run_0 : List UInt8 := dkwX3_run_0 ++ dktX3_run_1
theorem dksX3_run_0 : cX3_run.data.toList.drop 0 = dktX3_run_0 := by decide +kernel
theorem dksX3_run_1 : cX3_run.data.toList.drop 24 = dktX3_run_1 := dk_seg dksX3_run_0 24 rfl rfl
theorem dksX3_run_2 : cX3_run.data.toList.drop 48 = dktX3_run_2 := dk_seg dksX3_run_1 24 rfl rfl
theorem dksX3_run_3 : cX3_run.data.toList.drop 72 = dktX3_run_3 := dk_seg dksX3_run_2 24 rfl rfl
theorem dX3_run_0 : decode cX3_run 0 = .ok (.iload_n 2, 1) := dk_28 (dk_at dksX3_run_0 0 rfl rfl)
theorem dX3_run_1 : decode cX3_run 1 = .ok (.istore_n 3, 1) := dk_62 (dk_at dksX3_run_0 1 rfl rfl)
theorem dX3_run_2 : decode cX3_run 2 = .ok (.iconst 0, 1) := dk_3 (dk_at dksX3_run_0 2 rfl rfl)
theorem dX3_run_3 : decode cX3_run 3 = .ok (.istore 4, 2) := dk_54 4 (dk_at dksX3_run_0 3 rfl rfl)
theorem dX3_run_5 : decode cX3_run 5 = .ok (.iload 4, 2) := dk_21 4 (dk_at dksX3_run_0 5 rfl rfl)
theorem dX3_run_7 : decode cX3_run 7 = .ok (.aload_n 0, 1) := dk_42 (dk_at dksX3_run_0 7 rfl rfl)
theorem dX3_run_8 : decode cX3_run 8 = .ok (.getfield 37, 3) := dk_180 0 37 (dk_at dksX3_run_0 8 rfl rfl)
theorem dX3_run_11 : decode cX3_run 11 = .ok (.if_icmp .ge 61, 3) := dk_162 0 61 (dk_at dksX3_run_0 11 rfl rfl)
theorem dX3_run_14 : decode cX3_run 14 = .ok (.aload_n 0, 1) := dk_42 (dk_at dksX3_run_0 14 rfl rfl)
theorem dX3_run_15 : decode cX3_run 15 = .ok (.iload 4, 2) := dk_21 4 (dk_at dksX3_run_0 15 rfl rfl)
theorem dX3_run_17 : decode cX3_run 17 = .ok (.iload_n 1, 1) := dk_27 (dk_at dksX3_run_0 17 rfl rfl)
theorem dX3_run_18 : decode cX3_run 18 = .ok (.invokevirtual 115, 3) := dk_182 0 115 (dk_at dksX3_run_0 18 rfl rfl)
theorem dX3_run_21 : decode cX3_run 21 = .ok (.ifCond .ne 6, 3) := dk_154 0 6 (dk_at dksX3_run_0 21 rfl rfl)
theorem dX3_run_24 : decode cX3_run 24 = .ok (.goto 42, 3) := dk_167 0 42 (dk_at dksX3_run_1 0 rfl rfl)
theorem dX3_run_27 : decode cX3_run 27 = .ok (.iload_n 3, 1) := dk_29 (dk_at dksX3_run_1 3 rfl rfl)
theorem dX3_run_28 : decode cX3_run 28 = .ok (.ifCond .ne 35, 3) := dk_154 0 35 (dk_at dksX3_run_1 4 rfl rfl)
theorem dX3_run_31 : decode cX3_run 31 = .ok (.iload 4, 2) := dk_21 4 (dk_at dksX3_run_1 7 rfl rfl)
theorem dX3_run_33 : decode cX3_run 33 = .ok (.istore 5, 2) := dk_54 5 (dk_at dksX3_run_1 9 rfl rfl)
theorem dX3_run_35 : decode cX3_run 35 = .ok (.aload_n 0, 1) := dk_42 (dk_at dksX3_run_1 11 rfl rfl)
theorem dX3_run_36 : decode cX3_run 36 = .ok (.iload 5, 2) := dk_21 5 (dk_at dksX3_run_1 12 rfl rfl)
theorem dX3_run_38 : decode cX3_run 38 = .ok (.iload_n 1, 1) := dk_27 (dk_at dksX3_run_1 14 rfl rfl)
theorem dX3_run_39 : decode cX3_run 39 = .ok (.invokevirtual 58, 3) := dk_182 0 58 (dk_at dksX3_run_1 15 rfl rfl)
theorem dX3_run_42 : decode cX3_run 42 = .ok (.ifCond .eq 9, 3) := dk_153 0 9 (dk_at dksX3_run_1 18 rfl rfl)
theorem dX3_run_45 : decode cX3_run 45 = .ok (.iinc 5 1, 3) := dk_132 5 1 (dk_at dksX3_run_1 21 rfl rfl)
theorem dX3_run_48 : decode cX3_run 48 = .ok (.goto (-13), 3) := dk_167 255 243 (dk_at dksX3_run_2 0 rfl rfl)
theorem dX3_run_51 : decode cX3_run 51 = .ok (.bipush 100, 2) := dk_16 100 (dk_at dksX3_run_2 3 rfl rfl)
theorem dX3_run_53 : decode cX3_run 53 = .ok (.iload 4, 2) := dk_21 4 (dk_at dksX3_run_2 5 rfl rfl)
theorem dX3_run_55 : decode cX3_run 55 = .ok (.imul, 1) := dk_104 (dk_at dksX3_run_2 7 rfl rfl)
theorem dX3_run_56 : decode cX3_run 56 = .ok (.iload 5, 2) := dk_21 5 (dk_at dksX3_run_2 8 rfl rfl)
theorem dX3_run_58 : decode cX3_run 58 = .ok (.iadd, 1) := dk_96 (dk_at dksX3_run_2 10 rfl rfl)
theorem dX3_run_59 : decode cX3_run 59 = .ok (.iload 4, 2) := dk_21 4 (dk_at dksX3_run_2 11 rfl rfl)
theorem dX3_run_61 : decode cX3_run 61 = .ok (.isub, 1) := dk_100 (dk_at dksX3_run_2 13 rfl rfl)
theorem dX3_run_62 : decode cX3_run 62 = .ok (.ireturn, 1) := dk_172 (dk_at dksX3_run_2 14 rfl rfl)
theorem dX3_run_63 : decode cX3_run 63 = .ok (.iinc 3 (-1), 3) := dk_132 3 255 (dk_at dksX3_run_2 15 rfl rfl)
theorem dX3_run_66 : decode cX3_run 66 = .ok (.iinc 4 1, 3) := dk_132 4 1 (dk_at dksX3_run_2 18 rfl rfl)
theorem dX3_run_69 : decode cX3_run 69 = .ok (.goto (-64), 3) := dk_167 255 192 (dk_at dksX3_run_2 21 rfl rfl)
theorem dX3_run_72 : decode cX3_run 72 = .ok (.iconst (-1), 1) := dk_2 (dk_at dksX3_run_3 0 rfl rfl)
theorem dX3_run_73 : decode cX3_run 73 = .ok (.ireturn, 1) := dk_172 (dk_at dksX3_run_3 1 rfl rfl)
abbrev cX3_allRuns : ByteArray := prog_11_method_56_code
def yX3_allRuns : MethodName := ⟨RX3, "allRuns", "()I"⟩
def dkwX3_allRuns_0 : List UInt8 := [42, 42, 182, 0, 163, 182, 0, 147, 172]
abbrev dktX3_allRuns_0 : List UInt8 := dkwX3_allRuns_0 ++ []
theorem dksX3_allRuns_0 : cX3_allRuns.data.toList.drop 0 = dktX3_allRuns_0 := by decide +kernel
theorem dX3_allRuns_0 : decode cX3_allRuns 0 = .ok (.aload_n 0, 1) := dk_42 (dk_at dksX3_allRuns_0 0 rfl rfl)
theorem dX3_allRuns_1 : decode cX3_allRuns 1 = .ok (.aload_n 0, 1) := dk_42 (dk_at dksX3_allRuns_0 1 rfl rfl)
theorem dX3_allRuns_2 : decode cX3_allRuns 2 = .ok (.invokevirtual 163, 3) := dk_182 0 163 (dk_at dksX3_allRuns_0 2 rfl rfl)
theorem dX3_allRuns_5 : decode cX3_allRuns 5 = .ok (.invokevirtual 147, 3) := dk_182 0 147 (dk_at dksX3_allRuns_0 5 rfl rfl)
theorem dX3_allRuns_8 : decode cX3_allRuns 8 = .ok (.ireturn, 1) := dk_172 (dk_at dksX3_allRuns_0 8 rfl rfl)
abbrev cX3_runsInAll : ByteArray := prog_11_method_31_code
def yX3_runsInAll : MethodName := ⟨RX3, "runsInAll", "()I"⟩
def dkwX3_runsInAll_1 : List UInt8 := [167, 255, 237, 27, 172]
abbrev dktX3_runsInAll_1 : List UInt8 := dkwX3_runsInAll_1 ++ []
def dkwX3_runsInAll_0 : List UInt8 := [3, 60, 3, 61, 28, 42, 180, 0, 40, 162, 0, 17, 27, 42, 28, 182, 0, 118, 96, 60, 132, 2, 1]
abbrev dktX3_runsInAll_0 : List UInt8 := dkwX3_runsInAll_0 ++ dktX3_runsInAll_1
theorem dksX3_runsInAll_0 : cX3_runsInAll.data.toList.drop 0 = dktX3_runsInAll_0 := by decide +kernel
theorem dksX3_runsInAll_1 : cX3_runsInAll.data.toList.drop 23 = dktX3_runsInAll_1 := dk_seg dksX3_runsInAll_0 23 rfl rfl
theorem dX3_runsInAll_0 : decode cX3_runsInAll 0 = .ok (.iconst 0, 1) := dk_3 (dk_at dksX3_runsInAll_0 0 rfl rfl)
theorem dX3_runsInAll_1 : decode cX3_runsInAll 1 = .ok (.istore_n 1, 1) := dk_60 (dk_at dksX3_runsInAll_0 1 rfl rfl)
theorem dX3_runsInAll_2 : decode cX3_runsInAll 2 = .ok (.iconst 0, 1) := dk_3 (dk_at dksX3_runsInAll_0 2 rfl rfl)
theorem dX3_runsInAll_3 : decode cX3_runsInAll 3 = .ok (.istore_n 2, 1) := dk_61 (dk_at dksX3_runsInAll_0 3 rfl rfl)
theorem dX3_runsInAll_4 : decode cX3_runsInAll 4 = .ok (.iload_n 2, 1) := dk_28 (dk_at dksX3_runsInAll_0 4 rfl rfl)
theorem dX3_runsInAll_5 : decode cX3_runsInAll 5 = .ok (.aload_n 0, 1) := dk_42 (dk_at dksX3_runsInAll_0 5 rfl rfl)
theorem dX3_runsInAll_6 : decode cX3_runsInAll 6 = .ok (.getfield 40, 3) := dk_180 0 40 (dk_at dksX3_runsInAll_0 6 rfl rfl)
theorem dX3_runsInAll_9 : decode cX3_runsInAll 9 = .ok (.if_icmp .ge 17, 3) := dk_162 0 17 (dk_at dksX3_runsInAll_0 9 rfl rfl)
theorem dX3_runsInAll_12 : decode cX3_runsInAll 12 = .ok (.iload_n 1, 1) := dk_27 (dk_at dksX3_runsInAll_0 12 rfl rfl)
theorem dX3_runsInAll_13 : decode cX3_runsInAll 13 = .ok (.aload_n 0, 1) := dk_42 (dk_at dksX3_runsInAll_0 13 rfl rfl)
theorem dX3_runsInAll_14 : decode cX3_runsInAll 14 = .ok (.iload_n 2, 1) := dk_28 (dk_at dksX3_runsInAll_0 14 rfl rfl)
theorem dX3_runsInAll_15 : decode cX3_runsInAll 15 = .ok (.invokevirtual 118, 3) := dk_182 0 118 (dk_at dksX3_runsInAll_0 15 rfl rfl)
theorem dX3_runsInAll_18 : decode cX3_runsInAll 18 = .ok (.iadd, 1) := dk_96 (dk_at dksX3_runsInAll_0 18 rfl rfl)
theorem dX3_runsInAll_19 : decode cX3_runsInAll 19 = .ok (.istore_n 1, 1) := dk_60 (dk_at dksX3_runsInAll_0 19 rfl rfl)
theorem dX3_runsInAll_20 : decode cX3_runsInAll 20 = .ok (.iinc 2 1, 3) := dk_132 2 1 (dk_at dksX3_runsInAll_0 20 rfl rfl)
theorem dX3_runsInAll_23 : decode cX3_runsInAll 23 = .ok (.goto (-19), 3) := dk_167 255 237 (dk_at dksX3_runsInAll_1 0 rfl rfl)
theorem dX3_runsInAll_26 : decode cX3_runsInAll 26 = .ok (.iload_n 1, 1) := dk_27 (dk_at dksX3_runsInAll_1 3 rfl rfl)
theorem dX3_runsInAll_27 : decode cX3_runsInAll 27 = .ok (.ireturn, 1) := dk_172 (dk_at dksX3_runsInAll_1 4 rfl rfl)
abbrev cX3_parts : ByteArray := prog_11_method_57_code
def yX3_parts : MethodName := ⟨RX3, "parts", "()I"⟩
def dkwX3_parts_0 : List UInt8 := [42, 42, 182, 0, 166, 182, 0, 147, 172]
abbrev dktX3_parts_0 : List UInt8 := dkwX3_parts_0 ++ []
theorem dksX3_parts_0 : cX3_parts.data.toList.drop 0 = dktX3_parts_0 := by decide +kernel
theorem dX3_parts_0 : decode cX3_parts 0 = .ok (.aload_n 0, 1) := dk_42 (dk_at dksX3_parts_0 0 rfl rfl)
theorem dX3_parts_1 : decode cX3_parts 1 = .ok (.aload_n 0, 1) := dk_42 (dk_at dksX3_parts_0 1 rfl rfl)
theorem dX3_parts_2 : decode cX3_parts 2 = .ok (.invokevirtual 166, 3) := dk_182 0 166 (dk_at dksX3_parts_0 2 rfl rfl)
theorem dX3_parts_5 : decode cX3_parts 5 = .ok (.invokevirtual 147, 3) := dk_182 0 147 (dk_at dksX3_parts_0 5 rfl rfl)
theorem dX3_parts_8 : decode cX3_parts 8 = .ok (.ireturn, 1) := dk_172 (dk_at dksX3_parts_0 8 rfl rfl)
abbrev cX3_allParts : ByteArray := prog_11_method_26_code
def yX3_allParts : MethodName := ⟨RX3, "allParts", "()I"⟩
def dkwX3_allParts_1 : List UInt8 := [28, 160, 0, 7, 4, 167, 0, 4, 3, 96, 60, 132, 2, 1, 167, 255, 227, 27, 172]
abbrev dktX3_allParts_1 : List UInt8 := dkwX3_allParts_1 ++ []
def dkwX3_allParts_0 : List UInt8 := [42, 4, 182, 0, 107, 3, 60, 3, 61, 28, 42, 182, 0, 61, 162, 0, 27, 27, 42, 180, 0, 26, 28, 46]
abbrev dktX3_allParts_0 : List UInt8 := dkwX3_allParts_0 ++ dktX3_allParts_1
theorem dksX3_allParts_0 : cX3_allParts.data.toList.drop 0 = dktX3_allParts_0 := by decide +kernel
theorem dksX3_allParts_1 : cX3_allParts.data.toList.drop 24 = dktX3_allParts_1 := dk_seg dksX3_allParts_0 24 rfl rfl
theorem dX3_allParts_0 : decode cX3_allParts 0 = .ok (.aload_n 0, 1) := dk_42 (dk_at dksX3_allParts_0 0 rfl rfl)
theorem dX3_allParts_1 : decode cX3_allParts 1 = .ok (.iconst 1, 1) := dk_4 (dk_at dksX3_allParts_0 1 rfl rfl)
theorem dX3_allParts_2 : decode cX3_allParts 2 = .ok (.invokevirtual 107, 3) := dk_182 0 107 (dk_at dksX3_allParts_0 2 rfl rfl)
theorem dX3_allParts_5 : decode cX3_allParts 5 = .ok (.iconst 0, 1) := dk_3 (dk_at dksX3_allParts_0 5 rfl rfl)
theorem dX3_allParts_6 : decode cX3_allParts 6 = .ok (.istore_n 1, 1) := dk_60 (dk_at dksX3_allParts_0 6 rfl rfl)
theorem dX3_allParts_7 : decode cX3_allParts 7 = .ok (.iconst 0, 1) := dk_3 (dk_at dksX3_allParts_0 7 rfl rfl)
theorem dX3_allParts_8 : decode cX3_allParts 8 = .ok (.istore_n 2, 1) := dk_61 (dk_at dksX3_allParts_0 8 rfl rfl)
theorem dX3_allParts_9 : decode cX3_allParts 9 = .ok (.iload_n 2, 1) := dk_28 (dk_at dksX3_allParts_0 9 rfl rfl)
theorem dX3_allParts_10 : decode cX3_allParts 10 = .ok (.aload_n 0, 1) := dk_42 (dk_at dksX3_allParts_0 10 rfl rfl)
theorem dX3_allParts_11 : decode cX3_allParts 11 = .ok (.invokevirtual 61, 3) := dk_182 0 61 (dk_at dksX3_allParts_0 11 rfl rfl)
theorem dX3_allParts_14 : decode cX3_allParts 14 = .ok (.if_icmp .ge 27, 3) := dk_162 0 27 (dk_at dksX3_allParts_0 14 rfl rfl)
theorem dX3_allParts_17 : decode cX3_allParts 17 = .ok (.iload_n 1, 1) := dk_27 (dk_at dksX3_allParts_0 17 rfl rfl)
theorem dX3_allParts_18 : decode cX3_allParts 18 = .ok (.aload_n 0, 1) := dk_42 (dk_at dksX3_allParts_0 18 rfl rfl)
theorem dX3_allParts_19 : decode cX3_allParts 19 = .ok (.getfield 26, 3) := dk_180 0 26 (dk_at dksX3_allParts_0 19 rfl rfl)
theorem dX3_allParts_22 : decode cX3_allParts 22 = .ok (.iload_n 2, 1) := dk_28 (dk_at dksX3_allParts_0 22 rfl rfl)
theorem dX3_allParts_23 : decode cX3_allParts 23 = .ok (.iaload, 1) := dk_46 (dk_at dksX3_allParts_0 23 rfl rfl)
theorem dX3_allParts_24 : decode cX3_allParts 24 = .ok (.iload_n 2, 1) := dk_28 (dk_at dksX3_allParts_1 0 rfl rfl)
theorem dX3_allParts_25 : decode cX3_allParts 25 = .ok (.if_icmp .ne 7, 3) := dk_160 0 7 (dk_at dksX3_allParts_1 1 rfl rfl)
theorem dX3_allParts_28 : decode cX3_allParts 28 = .ok (.iconst 1, 1) := dk_4 (dk_at dksX3_allParts_1 4 rfl rfl)
theorem dX3_allParts_29 : decode cX3_allParts 29 = .ok (.goto 4, 3) := dk_167 0 4 (dk_at dksX3_allParts_1 5 rfl rfl)
theorem dX3_allParts_32 : decode cX3_allParts 32 = .ok (.iconst 0, 1) := dk_3 (dk_at dksX3_allParts_1 8 rfl rfl)
theorem dX3_allParts_33 : decode cX3_allParts 33 = .ok (.iadd, 1) := dk_96 (dk_at dksX3_allParts_1 9 rfl rfl)
theorem dX3_allParts_34 : decode cX3_allParts 34 = .ok (.istore_n 1, 1) := dk_60 (dk_at dksX3_allParts_1 10 rfl rfl)
theorem dX3_allParts_35 : decode cX3_allParts 35 = .ok (.iinc 2 1, 3) := dk_132 2 1 (dk_at dksX3_allParts_1 11 rfl rfl)
theorem dX3_allParts_38 : decode cX3_allParts 38 = .ok (.goto (-29), 3) := dk_167 255 227 (dk_at dksX3_allParts_1 14 rfl rfl)
theorem dX3_allParts_41 : decode cX3_allParts 41 = .ok (.iload_n 1, 1) := dk_27 (dk_at dksX3_allParts_1 17 rfl rfl)
theorem dX3_allParts_42 : decode cX3_allParts 42 = .ok (.ireturn, 1) := dk_172 (dk_at dksX3_allParts_1 18 rfl rfl)
abbrev cX3_partOf : ByteArray := prog_11_method_59_code
def yX3_partOf : MethodName := ⟨RX3, "partOf", "(II)I"⟩
def dkwX3_partOf_1 : List UInt8 := [3, 172]
abbrev dktX3_partOf_1 : List UInt8 := dkwX3_partOf_1 ++ []
def dkwX3_partOf_0 : List UInt8 := [42, 27, 28, 182, 0, 125, 153, 0, 18, 42, 28, 42, 180, 0, 37, 104, 27, 96, 182, 0, 169, 167, 0, 4]
abbrev dktX3_partOf_0 : List UInt8 := dkwX3_partOf_0 ++ dktX3_partOf_1
theorem dksX3_partOf_0 : cX3_partOf.data.toList.drop 0 = dktX3_partOf_0 := by decide +kernel
theorem dksX3_partOf_1 : cX3_partOf.data.toList.drop 24 = dktX3_partOf_1 := dk_seg dksX3_partOf_0 24 rfl rfl
theorem dX3_partOf_0 : decode cX3_partOf 0 = .ok (.aload_n 0, 1) := dk_42 (dk_at dksX3_partOf_0 0 rfl rfl)
theorem dX3_partOf_1 : decode cX3_partOf 1 = .ok (.iload_n 1, 1) := dk_27 (dk_at dksX3_partOf_0 1 rfl rfl)
theorem dX3_partOf_2 : decode cX3_partOf 2 = .ok (.iload_n 2, 1) := dk_28 (dk_at dksX3_partOf_0 2 rfl rfl)
theorem dX3_partOf_3 : decode cX3_partOf 3 = .ok (.invokevirtual 125, 3) := dk_182 0 125 (dk_at dksX3_partOf_0 3 rfl rfl)
theorem dX3_partOf_6 : decode cX3_partOf 6 = .ok (.ifCond .eq 18, 3) := dk_153 0 18 (dk_at dksX3_partOf_0 6 rfl rfl)
theorem dX3_partOf_9 : decode cX3_partOf 9 = .ok (.aload_n 0, 1) := dk_42 (dk_at dksX3_partOf_0 9 rfl rfl)
theorem dX3_partOf_10 : decode cX3_partOf 10 = .ok (.iload_n 2, 1) := dk_28 (dk_at dksX3_partOf_0 10 rfl rfl)
theorem dX3_partOf_11 : decode cX3_partOf 11 = .ok (.aload_n 0, 1) := dk_42 (dk_at dksX3_partOf_0 11 rfl rfl)
theorem dX3_partOf_12 : decode cX3_partOf 12 = .ok (.getfield 37, 3) := dk_180 0 37 (dk_at dksX3_partOf_0 12 rfl rfl)
theorem dX3_partOf_15 : decode cX3_partOf 15 = .ok (.imul, 1) := dk_104 (dk_at dksX3_partOf_0 15 rfl rfl)
theorem dX3_partOf_16 : decode cX3_partOf 16 = .ok (.iload_n 1, 1) := dk_27 (dk_at dksX3_partOf_0 16 rfl rfl)
theorem dX3_partOf_17 : decode cX3_partOf 17 = .ok (.iadd, 1) := dk_96 (dk_at dksX3_partOf_0 17 rfl rfl)
theorem dX3_partOf_18 : decode cX3_partOf 18 = .ok (.invokevirtual 169, 3) := dk_182 0 169 (dk_at dksX3_partOf_0 18 rfl rfl)
theorem dX3_partOf_21 : decode cX3_partOf 21 = .ok (.goto 4, 3) := dk_167 0 4 (dk_at dksX3_partOf_0 21 rfl rfl)
theorem dX3_partOf_24 : decode cX3_partOf 24 = .ok (.iconst 0, 1) := dk_3 (dk_at dksX3_partOf_1 0 rfl rfl)
theorem dX3_partOf_25 : decode cX3_partOf 25 = .ok (.ireturn, 1) := dk_172 (dk_at dksX3_partOf_1 1 rfl rfl)
abbrev cX3_partAt : ByteArray := prog_11_method_58_code
def yX3_partAt : MethodName := ⟨RX3, "partAt", "(I)I"⟩
def dkwX3_partAt_0 : List UInt8 := [42, 4, 182, 0, 107, 42, 180, 0, 26, 27, 46, 172]
abbrev dktX3_partAt_0 : List UInt8 := dkwX3_partAt_0 ++ []
theorem dksX3_partAt_0 : cX3_partAt.data.toList.drop 0 = dktX3_partAt_0 := by decide +kernel
theorem dX3_partAt_0 : decode cX3_partAt 0 = .ok (.aload_n 0, 1) := dk_42 (dk_at dksX3_partAt_0 0 rfl rfl)
theorem dX3_partAt_1 : decode cX3_partAt 1 = .ok (.iconst 1, 1) := dk_4 (dk_at dksX3_partAt_0 1 rfl rfl)
theorem dX3_partAt_2 : decode cX3_partAt 2 = .ok (.invokevirtual 107, 3) := dk_182 0 107 (dk_at dksX3_partAt_0 2 rfl rfl)
theorem dX3_partAt_5 : decode cX3_partAt 5 = .ok (.aload_n 0, 1) := dk_42 (dk_at dksX3_partAt_0 5 rfl rfl)
theorem dX3_partAt_6 : decode cX3_partAt 6 = .ok (.getfield 26, 3) := dk_180 0 26 (dk_at dksX3_partAt_0 6 rfl rfl)
theorem dX3_partAt_9 : decode cX3_partAt 9 = .ok (.iload_n 1, 1) := dk_27 (dk_at dksX3_partAt_0 9 rfl rfl)
theorem dX3_partAt_10 : decode cX3_partAt 10 = .ok (.iaload, 1) := dk_46 (dk_at dksX3_partAt_0 10 rfl rfl)
theorem dX3_partAt_11 : decode cX3_partAt 11 = .ok (.ireturn, 1) := dk_172 (dk_at dksX3_partAt_0 11 rfl rfl)
abbrev cX3_partSize : ByteArray := prog_11_method_61_code
def yX3_partSize : MethodName := ⟨RX3, "partSize", "(II)I"⟩
def dkwX3_partSize_1 : List UInt8 := [3, 172]
abbrev dktX3_partSize_1 : List UInt8 := dkwX3_partSize_1 ++ []
def dkwX3_partSize_0 : List UInt8 := [42, 27, 28, 182, 0, 125, 153, 0, 18, 42, 28, 42, 180, 0, 37, 104, 27, 96, 182, 0, 172, 167, 0, 4]
abbrev dktX3_partSize_0 : List UInt8 := dkwX3_partSize_0 ++ dktX3_partSize_1
theorem dksX3_partSize_0 : cX3_partSize.data.toList.drop 0 = dktX3_partSize_0 := by decide +kernel
theorem dksX3_partSize_1 : cX3_partSize.data.toList.drop 24 = dktX3_partSize_1 := dk_seg dksX3_partSize_0 24 rfl rfl
theorem dX3_partSize_0 : decode cX3_partSize 0 = .ok (.aload_n 0, 1) := dk_42 (dk_at dksX3_partSize_0 0 rfl rfl)
theorem dX3_partSize_1 : decode cX3_partSize 1 = .ok (.iload_n 1, 1) := dk_27 (dk_at dksX3_partSize_0 1 rfl rfl)
theorem dX3_partSize_2 : decode cX3_partSize 2 = .ok (.iload_n 2, 1) := dk_28 (dk_at dksX3_partSize_0 2 rfl rfl)
theorem dX3_partSize_3 : decode cX3_partSize 3 = .ok (.invokevirtual 125, 3) := dk_182 0 125 (dk_at dksX3_partSize_0 3 rfl rfl)
theorem dX3_partSize_6 : decode cX3_partSize 6 = .ok (.ifCond .eq 18, 3) := dk_153 0 18 (dk_at dksX3_partSize_0 6 rfl rfl)
theorem dX3_partSize_9 : decode cX3_partSize 9 = .ok (.aload_n 0, 1) := dk_42 (dk_at dksX3_partSize_0 9 rfl rfl)
theorem dX3_partSize_10 : decode cX3_partSize 10 = .ok (.iload_n 2, 1) := dk_28 (dk_at dksX3_partSize_0 10 rfl rfl)
theorem dX3_partSize_11 : decode cX3_partSize 11 = .ok (.aload_n 0, 1) := dk_42 (dk_at dksX3_partSize_0 11 rfl rfl)
theorem dX3_partSize_12 : decode cX3_partSize 12 = .ok (.getfield 37, 3) := dk_180 0 37 (dk_at dksX3_partSize_0 12 rfl rfl)
theorem dX3_partSize_15 : decode cX3_partSize 15 = .ok (.imul, 1) := dk_104 (dk_at dksX3_partSize_0 15 rfl rfl)
theorem dX3_partSize_16 : decode cX3_partSize 16 = .ok (.iload_n 1, 1) := dk_27 (dk_at dksX3_partSize_0 16 rfl rfl)
theorem dX3_partSize_17 : decode cX3_partSize 17 = .ok (.iadd, 1) := dk_96 (dk_at dksX3_partSize_0 17 rfl rfl)
theorem dX3_partSize_18 : decode cX3_partSize 18 = .ok (.invokevirtual 172, 3) := dk_182 0 172 (dk_at dksX3_partSize_0 18 rfl rfl)
theorem dX3_partSize_21 : decode cX3_partSize 21 = .ok (.goto 4, 3) := dk_167 0 4 (dk_at dksX3_partSize_0 21 rfl rfl)
theorem dX3_partSize_24 : decode cX3_partSize 24 = .ok (.iconst 0, 1) := dk_3 (dk_at dksX3_partSize_1 0 rfl rfl)
theorem dX3_partSize_25 : decode cX3_partSize 25 = .ok (.ireturn, 1) := dk_172 (dk_at dksX3_partSize_1 1 rfl rfl)
abbrev cX3_sizeAt : ByteArray := prog_11_method_60_code
def yX3_sizeAt : MethodName := ⟨RX3, "sizeAt", "(I)I"⟩
def dkwX3_sizeAt_0 : List UInt8 := [42, 27, 182, 0, 169, 61, 28, 2, 160, 0, 7, 3, 167, 0, 8, 42, 28, 182, 0, 138, 172]
abbrev dktX3_sizeAt_0 : List UInt8 := dkwX3_sizeAt_0 ++ []
theorem dksX3_sizeAt_0 : cX3_sizeAt.data.toList.drop 0 = dktX3_sizeAt_0 := by decide +kernel
theorem dX3_sizeAt_0 : decode cX3_sizeAt 0 = .ok (.aload_n 0, 1) := dk_42 (dk_at dksX3_sizeAt_0 0 rfl rfl)
theorem dX3_sizeAt_1 : decode cX3_sizeAt 1 = .ok (.iload_n 1, 1) := dk_27 (dk_at dksX3_sizeAt_0 1 rfl rfl)
theorem dX3_sizeAt_2 : decode cX3_sizeAt 2 = .ok (.invokevirtual 169, 3) := dk_182 0 169 (dk_at dksX3_sizeAt_0 2 rfl rfl)
theorem dX3_sizeAt_5 : decode cX3_sizeAt 5 = .ok (.istore_n 2, 1) := dk_61 (dk_at dksX3_sizeAt_0 5 rfl rfl)
theorem dX3_sizeAt_6 : decode cX3_sizeAt 6 = .ok (.iload_n 2, 1) := dk_28 (dk_at dksX3_sizeAt_0 6 rfl rfl)
theorem dX3_sizeAt_7 : decode cX3_sizeAt 7 = .ok (.iconst (-1), 1) := dk_2 (dk_at dksX3_sizeAt_0 7 rfl rfl)
theorem dX3_sizeAt_8 : decode cX3_sizeAt 8 = .ok (.if_icmp .ne 7, 3) := dk_160 0 7 (dk_at dksX3_sizeAt_0 8 rfl rfl)
theorem dX3_sizeAt_11 : decode cX3_sizeAt 11 = .ok (.iconst 0, 1) := dk_3 (dk_at dksX3_sizeAt_0 11 rfl rfl)
theorem dX3_sizeAt_12 : decode cX3_sizeAt 12 = .ok (.goto 8, 3) := dk_167 0 8 (dk_at dksX3_sizeAt_0 12 rfl rfl)
theorem dX3_sizeAt_15 : decode cX3_sizeAt 15 = .ok (.aload_n 0, 1) := dk_42 (dk_at dksX3_sizeAt_0 15 rfl rfl)
theorem dX3_sizeAt_16 : decode cX3_sizeAt 16 = .ok (.iload_n 2, 1) := dk_28 (dk_at dksX3_sizeAt_0 16 rfl rfl)
theorem dX3_sizeAt_17 : decode cX3_sizeAt 17 = .ok (.invokevirtual 138, 3) := dk_182 0 138 (dk_at dksX3_sizeAt_0 17 rfl rfl)
theorem dX3_sizeAt_20 : decode cX3_sizeAt 20 = .ok (.ireturn, 1) := dk_172 (dk_at dksX3_sizeAt_0 20 rfl rfl)
abbrev cX3_holes : ByteArray := prog_11_method_62_code
def yX3_holes : MethodName := ⟨RX3, "holes", "()I"⟩
def dkwX3_holes_0 : List UInt8 := [42, 42, 182, 0, 175, 182, 0, 147, 172]
abbrev dktX3_holes_0 : List UInt8 := dkwX3_holes_0 ++ []
theorem dksX3_holes_0 : cX3_holes.data.toList.drop 0 = dktX3_holes_0 := by decide +kernel
theorem dX3_holes_0 : decode cX3_holes 0 = .ok (.aload_n 0, 1) := dk_42 (dk_at dksX3_holes_0 0 rfl rfl)
theorem dX3_holes_1 : decode cX3_holes 1 = .ok (.aload_n 0, 1) := dk_42 (dk_at dksX3_holes_0 1 rfl rfl)
theorem dX3_holes_2 : decode cX3_holes 2 = .ok (.invokevirtual 175, 3) := dk_182 0 175 (dk_at dksX3_holes_0 2 rfl rfl)
theorem dX3_holes_5 : decode cX3_holes 5 = .ok (.invokevirtual 147, 3) := dk_182 0 147 (dk_at dksX3_holes_0 5 rfl rfl)
theorem dX3_holes_8 : decode cX3_holes 8 = .ok (.ireturn, 1) := dk_172 (dk_at dksX3_holes_0 8 rfl rfl)
abbrev cX3_allHoles : ByteArray := prog_11_method_27_code
def yX3_allHoles : MethodName := ⟨RX3, "allHoles", "()I"⟩
def dkwX3_allHoles_2 : List UInt8 := [167, 255, 219, 27, 172]
abbrev dktX3_allHoles_2 : List UInt8 := dkwX3_allHoles_2 ++ []
def dkwX3_allHoles_1 : List UInt8 := [28, 160, 0, 15, 42, 28, 182, 0, 111, 154, 0, 7, 4, 167, 0, 4, 3, 96, 60, 132, 2, 1]
abbrev dktX3_allHoles_1 : List UInt8 := dkwX3_allHoles_1 ++ dktX3_allHoles_2
def dkwX3_allHoles_0 : List UInt8 := [42, 3, 182, 0, 107, 3, 60, 3, 61, 28, 42, 182, 0, 61, 162, 0, 35, 27, 42, 180, 0, 26, 28, 46]
abbrev dktX3_allHoles_0 : List UInt8 := dkwX3_allHoles_0 ++ dktX3_allHoles_1
theorem dksX3_allHoles_0 : cX3_allHoles.data.toList.drop 0 = dktX3_allHoles_0 := by decide +kernel
theorem dksX3_allHoles_1 : cX3_allHoles.data.toList.drop 24 = dktX3_allHoles_1 := dk_seg dksX3_allHoles_0 24 rfl rfl
theorem dksX3_allHoles_2 : cX3_allHoles.data.toList.drop 46 = dktX3_allHoles_2 := dk_seg dksX3_allHoles_1 22 rfl rfl
theorem dX3_allHoles_0 : decode cX3_allHoles 0 = .ok (.aload_n 0, 1) := dk_42 (dk_at dksX3_allHoles_0 0 rfl rfl)
theorem dX3_allHoles_1 : decode cX3_allHoles 1 = .ok (.iconst 0, 1) := dk_3 (dk_at dksX3_allHoles_0 1 rfl rfl)
theorem dX3_allHoles_2 : decode cX3_allHoles 2 = .ok (.invokevirtual 107, 3) := dk_182 0 107 (dk_at dksX3_allHoles_0 2 rfl rfl)
theorem dX3_allHoles_5 : decode cX3_allHoles 5 = .ok (.iconst 0, 1) := dk_3 (dk_at dksX3_allHoles_0 5 rfl rfl)
theorem dX3_allHoles_6 : decode cX3_allHoles 6 = .ok (.istore_n 1, 1) := dk_60 (dk_at dksX3_allHoles_0 6 rfl rfl)
theorem dX3_allHoles_7 : decode cX3_allHoles 7 = .ok (.iconst 0, 1) := dk_3 (dk_at dksX3_allHoles_0 7 rfl rfl)
theorem dX3_allHoles_8 : decode cX3_allHoles 8 = .ok (.istore_n 2, 1) := dk_61 (dk_at dksX3_allHoles_0 8 rfl rfl)
theorem dX3_allHoles_9 : decode cX3_allHoles 9 = .ok (.iload_n 2, 1) := dk_28 (dk_at dksX3_allHoles_0 9 rfl rfl)
theorem dX3_allHoles_10 : decode cX3_allHoles 10 = .ok (.aload_n 0, 1) := dk_42 (dk_at dksX3_allHoles_0 10 rfl rfl)
theorem dX3_allHoles_11 : decode cX3_allHoles 11 = .ok (.invokevirtual 61, 3) := dk_182 0 61 (dk_at dksX3_allHoles_0 11 rfl rfl)
theorem dX3_allHoles_14 : decode cX3_allHoles 14 = .ok (.if_icmp .ge 35, 3) := dk_162 0 35 (dk_at dksX3_allHoles_0 14 rfl rfl)
theorem dX3_allHoles_17 : decode cX3_allHoles 17 = .ok (.iload_n 1, 1) := dk_27 (dk_at dksX3_allHoles_0 17 rfl rfl)
theorem dX3_allHoles_18 : decode cX3_allHoles 18 = .ok (.aload_n 0, 1) := dk_42 (dk_at dksX3_allHoles_0 18 rfl rfl)
theorem dX3_allHoles_19 : decode cX3_allHoles 19 = .ok (.getfield 26, 3) := dk_180 0 26 (dk_at dksX3_allHoles_0 19 rfl rfl)
theorem dX3_allHoles_22 : decode cX3_allHoles 22 = .ok (.iload_n 2, 1) := dk_28 (dk_at dksX3_allHoles_0 22 rfl rfl)
theorem dX3_allHoles_23 : decode cX3_allHoles 23 = .ok (.iaload, 1) := dk_46 (dk_at dksX3_allHoles_0 23 rfl rfl)
theorem dX3_allHoles_24 : decode cX3_allHoles 24 = .ok (.iload_n 2, 1) := dk_28 (dk_at dksX3_allHoles_1 0 rfl rfl)
theorem dX3_allHoles_25 : decode cX3_allHoles 25 = .ok (.if_icmp .ne 15, 3) := dk_160 0 15 (dk_at dksX3_allHoles_1 1 rfl rfl)
theorem dX3_allHoles_28 : decode cX3_allHoles 28 = .ok (.aload_n 0, 1) := dk_42 (dk_at dksX3_allHoles_1 4 rfl rfl)
theorem dX3_allHoles_29 : decode cX3_allHoles 29 = .ok (.iload_n 2, 1) := dk_28 (dk_at dksX3_allHoles_1 5 rfl rfl)
theorem dX3_allHoles_30 : decode cX3_allHoles 30 = .ok (.invokevirtual 111, 3) := dk_182 0 111 (dk_at dksX3_allHoles_1 6 rfl rfl)
theorem dX3_allHoles_33 : decode cX3_allHoles 33 = .ok (.ifCond .ne 7, 3) := dk_154 0 7 (dk_at dksX3_allHoles_1 9 rfl rfl)
theorem dX3_allHoles_36 : decode cX3_allHoles 36 = .ok (.iconst 1, 1) := dk_4 (dk_at dksX3_allHoles_1 12 rfl rfl)
theorem dX3_allHoles_37 : decode cX3_allHoles 37 = .ok (.goto 4, 3) := dk_167 0 4 (dk_at dksX3_allHoles_1 13 rfl rfl)
theorem dX3_allHoles_40 : decode cX3_allHoles 40 = .ok (.iconst 0, 1) := dk_3 (dk_at dksX3_allHoles_1 16 rfl rfl)
theorem dX3_allHoles_41 : decode cX3_allHoles 41 = .ok (.iadd, 1) := dk_96 (dk_at dksX3_allHoles_1 17 rfl rfl)
theorem dX3_allHoles_42 : decode cX3_allHoles 42 = .ok (.istore_n 1, 1) := dk_60 (dk_at dksX3_allHoles_1 18 rfl rfl)
theorem dX3_allHoles_43 : decode cX3_allHoles 43 = .ok (.iinc 2 1, 3) := dk_132 2 1 (dk_at dksX3_allHoles_1 19 rfl rfl)
theorem dX3_allHoles_46 : decode cX3_allHoles 46 = .ok (.goto (-37), 3) := dk_167 255 219 (dk_at dksX3_allHoles_2 0 rfl rfl)
theorem dX3_allHoles_49 : decode cX3_allHoles 49 = .ok (.iload_n 1, 1) := dk_27 (dk_at dksX3_allHoles_2 3 rfl rfl)
theorem dX3_allHoles_50 : decode cX3_allHoles 50 = .ok (.ireturn, 1) := dk_172 (dk_at dksX3_allHoles_2 4 rfl rfl)
abbrev cX3_isOpen : ByteArray := prog_11_method_25_code
def yX3_isOpen : MethodName := ⟨RX3, "isOpen", "(I)Z"⟩
def dkwX3_isOpen_3 : List UInt8 := [132, 2, 1, 167, 255, 185, 3, 172]
abbrev dktX3_isOpen_3 : List UInt8 := dkwX3_isOpen_3 ++ []
def dkwX3_isOpen_2 : List UInt8 := [180, 0, 37, 108, 153, 0, 18, 28, 42, 180, 0, 37, 108, 42, 180, 0, 40, 4, 100, 160, 0, 5, 4, 172]
abbrev dktX3_isOpen_2 : List UInt8 := dkwX3_isOpen_2 ++ dktX3_isOpen_3
def dkwX3_isOpen_1 : List UInt8 := [180, 0, 37, 112, 153, 0, 42, 28, 42, 180, 0, 37, 112, 42, 180, 0, 37, 4, 100, 159, 0, 27, 28, 42]
abbrev dktX3_isOpen_1 : List UInt8 := dkwX3_isOpen_1 ++ dktX3_isOpen_2
def dkwX3_isOpen_0 : List UInt8 := [3, 61, 28, 42, 182, 0, 61, 162, 0, 69, 42, 180, 0, 26, 28, 46, 27, 160, 0, 53, 28, 42]
abbrev dktX3_isOpen_0 : List UInt8 := dkwX3_isOpen_0 ++ dktX3_isOpen_1
theorem dksX3_isOpen_0 : cX3_isOpen.data.toList.drop 0 = dktX3_isOpen_0 := by decide +kernel
theorem dksX3_isOpen_1 : cX3_isOpen.data.toList.drop 22 = dktX3_isOpen_1 := dk_seg dksX3_isOpen_0 22 rfl rfl
theorem dksX3_isOpen_2 : cX3_isOpen.data.toList.drop 46 = dktX3_isOpen_2 := dk_seg dksX3_isOpen_1 24 rfl rfl
theorem dksX3_isOpen_3 : cX3_isOpen.data.toList.drop 70 = dktX3_isOpen_3 := dk_seg dksX3_isOpen_2 24 rfl rfl
theorem dX3_isOpen_0 : decode cX3_isOpen 0 = .ok (.iconst 0, 1) := dk_3 (dk_at dksX3_isOpen_0 0 rfl rfl)
theorem dX3_isOpen_1 : decode cX3_isOpen 1 = .ok (.istore_n 2, 1) := dk_61 (dk_at dksX3_isOpen_0 1 rfl rfl)
theorem dX3_isOpen_2 : decode cX3_isOpen 2 = .ok (.iload_n 2, 1) := dk_28 (dk_at dksX3_isOpen_0 2 rfl rfl)
theorem dX3_isOpen_3 : decode cX3_isOpen 3 = .ok (.aload_n 0, 1) := dk_42 (dk_at dksX3_isOpen_0 3 rfl rfl)
theorem dX3_isOpen_4 : decode cX3_isOpen 4 = .ok (.invokevirtual 61, 3) := dk_182 0 61 (dk_at dksX3_isOpen_0 4 rfl rfl)
theorem dX3_isOpen_7 : decode cX3_isOpen 7 = .ok (.if_icmp .ge 69, 3) := dk_162 0 69 (dk_at dksX3_isOpen_0 7 rfl rfl)
theorem dX3_isOpen_10 : decode cX3_isOpen 10 = .ok (.aload_n 0, 1) := dk_42 (dk_at dksX3_isOpen_0 10 rfl rfl)
theorem dX3_isOpen_11 : decode cX3_isOpen 11 = .ok (.getfield 26, 3) := dk_180 0 26 (dk_at dksX3_isOpen_0 11 rfl rfl)
theorem dX3_isOpen_14 : decode cX3_isOpen 14 = .ok (.iload_n 2, 1) := dk_28 (dk_at dksX3_isOpen_0 14 rfl rfl)
theorem dX3_isOpen_15 : decode cX3_isOpen 15 = .ok (.iaload, 1) := dk_46 (dk_at dksX3_isOpen_0 15 rfl rfl)
theorem dX3_isOpen_16 : decode cX3_isOpen 16 = .ok (.iload_n 1, 1) := dk_27 (dk_at dksX3_isOpen_0 16 rfl rfl)
theorem dX3_isOpen_17 : decode cX3_isOpen 17 = .ok (.if_icmp .ne 53, 3) := dk_160 0 53 (dk_at dksX3_isOpen_0 17 rfl rfl)
theorem dX3_isOpen_20 : decode cX3_isOpen 20 = .ok (.iload_n 2, 1) := dk_28 (dk_at dksX3_isOpen_0 20 rfl rfl)
theorem dX3_isOpen_21 : decode cX3_isOpen 21 = .ok (.aload_n 0, 1) := dk_42 (dk_at dksX3_isOpen_0 21 rfl rfl)
theorem dX3_isOpen_22 : decode cX3_isOpen 22 = .ok (.getfield 37, 3) := dk_180 0 37 (dk_at dksX3_isOpen_1 0 rfl rfl)
theorem dX3_isOpen_25 : decode cX3_isOpen 25 = .ok (.irem, 1) := dk_112 (dk_at dksX3_isOpen_1 3 rfl rfl)
theorem dX3_isOpen_26 : decode cX3_isOpen 26 = .ok (.ifCond .eq 42, 3) := dk_153 0 42 (dk_at dksX3_isOpen_1 4 rfl rfl)
theorem dX3_isOpen_29 : decode cX3_isOpen 29 = .ok (.iload_n 2, 1) := dk_28 (dk_at dksX3_isOpen_1 7 rfl rfl)
theorem dX3_isOpen_30 : decode cX3_isOpen 30 = .ok (.aload_n 0, 1) := dk_42 (dk_at dksX3_isOpen_1 8 rfl rfl)
theorem dX3_isOpen_31 : decode cX3_isOpen 31 = .ok (.getfield 37, 3) := dk_180 0 37 (dk_at dksX3_isOpen_1 9 rfl rfl)
theorem dX3_isOpen_34 : decode cX3_isOpen 34 = .ok (.irem, 1) := dk_112 (dk_at dksX3_isOpen_1 12 rfl rfl)
theorem dX3_isOpen_35 : decode cX3_isOpen 35 = .ok (.aload_n 0, 1) := dk_42 (dk_at dksX3_isOpen_1 13 rfl rfl)
theorem dX3_isOpen_36 : decode cX3_isOpen 36 = .ok (.getfield 37, 3) := dk_180 0 37 (dk_at dksX3_isOpen_1 14 rfl rfl)
theorem dX3_isOpen_39 : decode cX3_isOpen 39 = .ok (.iconst 1, 1) := dk_4 (dk_at dksX3_isOpen_1 17 rfl rfl)
theorem dX3_isOpen_40 : decode cX3_isOpen 40 = .ok (.isub, 1) := dk_100 (dk_at dksX3_isOpen_1 18 rfl rfl)
theorem dX3_isOpen_41 : decode cX3_isOpen 41 = .ok (.if_icmp .eq 27, 3) := dk_159 0 27 (dk_at dksX3_isOpen_1 19 rfl rfl)
theorem dX3_isOpen_44 : decode cX3_isOpen 44 = .ok (.iload_n 2, 1) := dk_28 (dk_at dksX3_isOpen_1 22 rfl rfl)
theorem dX3_isOpen_45 : decode cX3_isOpen 45 = .ok (.aload_n 0, 1) := dk_42 (dk_at dksX3_isOpen_1 23 rfl rfl)
theorem dX3_isOpen_46 : decode cX3_isOpen 46 = .ok (.getfield 37, 3) := dk_180 0 37 (dk_at dksX3_isOpen_2 0 rfl rfl)
theorem dX3_isOpen_49 : decode cX3_isOpen 49 = .ok (.idiv, 1) := dk_108 (dk_at dksX3_isOpen_2 3 rfl rfl)
theorem dX3_isOpen_50 : decode cX3_isOpen 50 = .ok (.ifCond .eq 18, 3) := dk_153 0 18 (dk_at dksX3_isOpen_2 4 rfl rfl)
theorem dX3_isOpen_53 : decode cX3_isOpen 53 = .ok (.iload_n 2, 1) := dk_28 (dk_at dksX3_isOpen_2 7 rfl rfl)
theorem dX3_isOpen_54 : decode cX3_isOpen 54 = .ok (.aload_n 0, 1) := dk_42 (dk_at dksX3_isOpen_2 8 rfl rfl)
theorem dX3_isOpen_55 : decode cX3_isOpen 55 = .ok (.getfield 37, 3) := dk_180 0 37 (dk_at dksX3_isOpen_2 9 rfl rfl)
theorem dX3_isOpen_58 : decode cX3_isOpen 58 = .ok (.idiv, 1) := dk_108 (dk_at dksX3_isOpen_2 12 rfl rfl)
theorem dX3_isOpen_59 : decode cX3_isOpen 59 = .ok (.aload_n 0, 1) := dk_42 (dk_at dksX3_isOpen_2 13 rfl rfl)
theorem dX3_isOpen_60 : decode cX3_isOpen 60 = .ok (.getfield 40, 3) := dk_180 0 40 (dk_at dksX3_isOpen_2 14 rfl rfl)
theorem dX3_isOpen_63 : decode cX3_isOpen 63 = .ok (.iconst 1, 1) := dk_4 (dk_at dksX3_isOpen_2 17 rfl rfl)
theorem dX3_isOpen_64 : decode cX3_isOpen 64 = .ok (.isub, 1) := dk_100 (dk_at dksX3_isOpen_2 18 rfl rfl)
theorem dX3_isOpen_65 : decode cX3_isOpen 65 = .ok (.if_icmp .ne 5, 3) := dk_160 0 5 (dk_at dksX3_isOpen_2 19 rfl rfl)
theorem dX3_isOpen_68 : decode cX3_isOpen 68 = .ok (.iconst 1, 1) := dk_4 (dk_at dksX3_isOpen_2 22 rfl rfl)
theorem dX3_isOpen_69 : decode cX3_isOpen 69 = .ok (.ireturn, 1) := dk_172 (dk_at dksX3_isOpen_2 23 rfl rfl)
theorem dX3_isOpen_70 : decode cX3_isOpen 70 = .ok (.iinc 2 1, 3) := dk_132 2 1 (dk_at dksX3_isOpen_3 0 rfl rfl)
theorem dX3_isOpen_73 : decode cX3_isOpen 73 = .ok (.goto (-71), 3) := dk_167 255 185 (dk_at dksX3_isOpen_3 3 rfl rfl)
theorem dX3_isOpen_76 : decode cX3_isOpen 76 = .ok (.iconst 0, 1) := dk_3 (dk_at dksX3_isOpen_3 6 rfl rfl)
theorem dX3_isOpen_77 : decode cX3_isOpen 77 = .ok (.ireturn, 1) := dk_172 (dk_at dksX3_isOpen_3 7 rfl rfl)
abbrev cX3_edges : ByteArray := prog_11_method_63_code
def yX3_edges : MethodName := ⟨RX3, "edges", "()I"⟩
def dkwX3_edges_2 : List UInt8 := [167, 0, 4, 4, 96, 60, 132, 3, 2, 167, 255, 221, 132, 2, 1, 167, 255, 205, 27, 172]
abbrev dktX3_edges_2 : List UInt8 := dkwX3_edges_2 ++ []
def dkwX3_edges_1 : List UInt8 := [162, 0, 35, 42, 180, 0, 7, 28, 51, 153, 0, 26, 27, 42, 28, 29, 182, 0, 90, 153, 0, 7, 3]
abbrev dktX3_edges_1 : List UInt8 := dkwX3_edges_1 ++ dktX3_edges_2
def dkwX3_edges_0 : List UInt8 := [42, 3, 181, 0, 33, 3, 60, 3, 61, 28, 42, 182, 0, 61, 162, 0, 49, 3, 62, 29, 16, 8]
abbrev dktX3_edges_0 : List UInt8 := dkwX3_edges_0 ++ dktX3_edges_1
theorem dksX3_edges_0 : cX3_edges.data.toList.drop 0 = dktX3_edges_0 := by decide +kernel
theorem dksX3_edges_1 : cX3_edges.data.toList.drop 22 = dktX3_edges_1 := dk_seg dksX3_edges_0 22 rfl rfl
theorem dksX3_edges_2 : cX3_edges.data.toList.drop 45 = dktX3_edges_2 := dk_seg dksX3_edges_1 23 rfl rfl
theorem dX3_edges_0 : decode cX3_edges 0 = .ok (.aload_n 0, 1) := dk_42 (dk_at dksX3_edges_0 0 rfl rfl)
theorem dX3_edges_1 : decode cX3_edges 1 = .ok (.iconst 0, 1) := dk_3 (dk_at dksX3_edges_0 1 rfl rfl)
theorem dX3_edges_2 : decode cX3_edges 2 = .ok (.putfield 33, 3) := dk_181 0 33 (dk_at dksX3_edges_0 2 rfl rfl)
theorem dX3_edges_5 : decode cX3_edges 5 = .ok (.iconst 0, 1) := dk_3 (dk_at dksX3_edges_0 5 rfl rfl)
theorem dX3_edges_6 : decode cX3_edges 6 = .ok (.istore_n 1, 1) := dk_60 (dk_at dksX3_edges_0 6 rfl rfl)
theorem dX3_edges_7 : decode cX3_edges 7 = .ok (.iconst 0, 1) := dk_3 (dk_at dksX3_edges_0 7 rfl rfl)
theorem dX3_edges_8 : decode cX3_edges 8 = .ok (.istore_n 2, 1) := dk_61 (dk_at dksX3_edges_0 8 rfl rfl)
theorem dX3_edges_9 : decode cX3_edges 9 = .ok (.iload_n 2, 1) := dk_28 (dk_at dksX3_edges_0 9 rfl rfl)
theorem dX3_edges_10 : decode cX3_edges 10 = .ok (.aload_n 0, 1) := dk_42 (dk_at dksX3_edges_0 10 rfl rfl)
theorem dX3_edges_11 : decode cX3_edges 11 = .ok (.invokevirtual 61, 3) := dk_182 0 61 (dk_at dksX3_edges_0 11 rfl rfl)
theorem dX3_edges_14 : decode cX3_edges 14 = .ok (.if_icmp .ge 49, 3) := dk_162 0 49 (dk_at dksX3_edges_0 14 rfl rfl)
theorem dX3_edges_17 : decode cX3_edges 17 = .ok (.iconst 0, 1) := dk_3 (dk_at dksX3_edges_0 17 rfl rfl)
theorem dX3_edges_18 : decode cX3_edges 18 = .ok (.istore_n 3, 1) := dk_62 (dk_at dksX3_edges_0 18 rfl rfl)
theorem dX3_edges_19 : decode cX3_edges 19 = .ok (.iload_n 3, 1) := dk_29 (dk_at dksX3_edges_0 19 rfl rfl)
theorem dX3_edges_20 : decode cX3_edges 20 = .ok (.bipush 8, 2) := dk_16 8 (dk_at dksX3_edges_0 20 rfl rfl)
theorem dX3_edges_22 : decode cX3_edges 22 = .ok (.if_icmp .ge 35, 3) := dk_162 0 35 (dk_at dksX3_edges_1 0 rfl rfl)
theorem dX3_edges_25 : decode cX3_edges 25 = .ok (.aload_n 0, 1) := dk_42 (dk_at dksX3_edges_1 3 rfl rfl)
theorem dX3_edges_26 : decode cX3_edges 26 = .ok (.getfield 7, 3) := dk_180 0 7 (dk_at dksX3_edges_1 4 rfl rfl)
theorem dX3_edges_29 : decode cX3_edges 29 = .ok (.iload_n 2, 1) := dk_28 (dk_at dksX3_edges_1 7 rfl rfl)
theorem dX3_edges_30 : decode cX3_edges 30 = .ok (.baload, 1) := dk_51 (dk_at dksX3_edges_1 8 rfl rfl)
theorem dX3_edges_31 : decode cX3_edges 31 = .ok (.ifCond .eq 26, 3) := dk_153 0 26 (dk_at dksX3_edges_1 9 rfl rfl)
theorem dX3_edges_34 : decode cX3_edges 34 = .ok (.iload_n 1, 1) := dk_27 (dk_at dksX3_edges_1 12 rfl rfl)
theorem dX3_edges_35 : decode cX3_edges 35 = .ok (.aload_n 0, 1) := dk_42 (dk_at dksX3_edges_1 13 rfl rfl)
theorem dX3_edges_36 : decode cX3_edges 36 = .ok (.iload_n 2, 1) := dk_28 (dk_at dksX3_edges_1 14 rfl rfl)
theorem dX3_edges_37 : decode cX3_edges 37 = .ok (.iload_n 3, 1) := dk_29 (dk_at dksX3_edges_1 15 rfl rfl)
theorem dX3_edges_38 : decode cX3_edges 38 = .ok (.invokevirtual 90, 3) := dk_182 0 90 (dk_at dksX3_edges_1 16 rfl rfl)
theorem dX3_edges_41 : decode cX3_edges 41 = .ok (.ifCond .eq 7, 3) := dk_153 0 7 (dk_at dksX3_edges_1 19 rfl rfl)
theorem dX3_edges_44 : decode cX3_edges 44 = .ok (.iconst 0, 1) := dk_3 (dk_at dksX3_edges_1 22 rfl rfl)
theorem dX3_edges_45 : decode cX3_edges 45 = .ok (.goto 4, 3) := dk_167 0 4 (dk_at dksX3_edges_2 0 rfl rfl)
theorem dX3_edges_48 : decode cX3_edges 48 = .ok (.iconst 1, 1) := dk_4 (dk_at dksX3_edges_2 3 rfl rfl)
theorem dX3_edges_49 : decode cX3_edges 49 = .ok (.iadd, 1) := dk_96 (dk_at dksX3_edges_2 4 rfl rfl)
theorem dX3_edges_50 : decode cX3_edges 50 = .ok (.istore_n 1, 1) := dk_60 (dk_at dksX3_edges_2 5 rfl rfl)
theorem dX3_edges_51 : decode cX3_edges 51 = .ok (.iinc 3 2, 3) := dk_132 3 2 (dk_at dksX3_edges_2 6 rfl rfl)
theorem dX3_edges_54 : decode cX3_edges 54 = .ok (.goto (-35), 3) := dk_167 255 221 (dk_at dksX3_edges_2 9 rfl rfl)
theorem dX3_edges_57 : decode cX3_edges 57 = .ok (.iinc 2 1, 3) := dk_132 2 1 (dk_at dksX3_edges_2 12 rfl rfl)
theorem dX3_edges_60 : decode cX3_edges 60 = .ok (.goto (-51), 3) := dk_167 255 205 (dk_at dksX3_edges_2 15 rfl rfl)
theorem dX3_edges_63 : decode cX3_edges 63 = .ok (.iload_n 1, 1) := dk_27 (dk_at dksX3_edges_2 18 rfl rfl)
theorem dX3_edges_64 : decode cX3_edges 64 = .ok (.ireturn, 1) := dk_172 (dk_at dksX3_edges_2 19 rfl rfl)
abbrev cX3_stepsToThin : ByteArray := prog_11_method_66_code
def yX3_stepsToThin : MethodName := ⟨RX3, "stepsToThin", "()I"⟩
def dkwX3_stepsToThin_0 : List UInt8 := [42, 3, 181, 0, 33, 42, 182, 0, 178, 42, 182, 0, 144, 60, 42, 182, 0, 181, 27, 172]
abbrev dktX3_stepsToThin_0 : List UInt8 := dkwX3_stepsToThin_0 ++ []
theorem dksX3_stepsToThin_0 : cX3_stepsToThin.data.toList.drop 0 = dktX3_stepsToThin_0 := by decide +kernel
theorem dX3_stepsToThin_0 : decode cX3_stepsToThin 0 = .ok (.aload_n 0, 1) := dk_42 (dk_at dksX3_stepsToThin_0 0 rfl rfl)
theorem dX3_stepsToThin_1 : decode cX3_stepsToThin 1 = .ok (.iconst 0, 1) := dk_3 (dk_at dksX3_stepsToThin_0 1 rfl rfl)
theorem dX3_stepsToThin_2 : decode cX3_stepsToThin 2 = .ok (.putfield 33, 3) := dk_181 0 33 (dk_at dksX3_stepsToThin_0 2 rfl rfl)
theorem dX3_stepsToThin_5 : decode cX3_stepsToThin 5 = .ok (.aload_n 0, 1) := dk_42 (dk_at dksX3_stepsToThin_0 5 rfl rfl)
theorem dX3_stepsToThin_6 : decode cX3_stepsToThin 6 = .ok (.invokevirtual 178, 3) := dk_182 0 178 (dk_at dksX3_stepsToThin_0 6 rfl rfl)
theorem dX3_stepsToThin_9 : decode cX3_stepsToThin 9 = .ok (.aload_n 0, 1) := dk_42 (dk_at dksX3_stepsToThin_0 9 rfl rfl)
theorem dX3_stepsToThin_10 : decode cX3_stepsToThin 10 = .ok (.invokevirtual 144, 3) := dk_182 0 144 (dk_at dksX3_stepsToThin_0 10 rfl rfl)
theorem dX3_stepsToThin_13 : decode cX3_stepsToThin 13 = .ok (.istore_n 1, 1) := dk_60 (dk_at dksX3_stepsToThin_0 13 rfl rfl)
theorem dX3_stepsToThin_14 : decode cX3_stepsToThin 14 = .ok (.aload_n 0, 1) := dk_42 (dk_at dksX3_stepsToThin_0 14 rfl rfl)
theorem dX3_stepsToThin_15 : decode cX3_stepsToThin 15 = .ok (.invokevirtual 181, 3) := dk_182 0 181 (dk_at dksX3_stepsToThin_0 15 rfl rfl)
theorem dX3_stepsToThin_18 : decode cX3_stepsToThin 18 = .ok (.iload_n 1, 1) := dk_27 (dk_at dksX3_stepsToThin_0 18 rfl rfl)
theorem dX3_stepsToThin_19 : decode cX3_stepsToThin 19 = .ok (.ireturn, 1) := dk_172 (dk_at dksX3_stepsToThin_0 19 rfl rfl)
abbrev cX3_keeps : ByteArray := prog_11_method_64_code
def yX3_keeps : MethodName := ⟨RX3, "keeps", "()V"⟩
def dkwX3_keeps_1 : List UInt8 := [132, 1, 1, 167, 255, 233, 177]
abbrev dktX3_keeps_1 : List UInt8 := dkwX3_keeps_1 ++ []
def dkwX3_keeps_0 : List UInt8 := [3, 60, 27, 42, 182, 0, 61, 162, 0, 21, 42, 180, 0, 16, 27, 42, 180, 0, 7, 27, 51, 84]
abbrev dktX3_keeps_0 : List UInt8 := dkwX3_keeps_0 ++ dktX3_keeps_1
theorem dksX3_keeps_0 : cX3_keeps.data.toList.drop 0 = dktX3_keeps_0 := by decide +kernel
theorem dksX3_keeps_1 : cX3_keeps.data.toList.drop 22 = dktX3_keeps_1 := dk_seg dksX3_keeps_0 22 rfl rfl
theorem dX3_keeps_0 : decode cX3_keeps 0 = .ok (.iconst 0, 1) := dk_3 (dk_at dksX3_keeps_0 0 rfl rfl)
theorem dX3_keeps_1 : decode cX3_keeps 1 = .ok (.istore_n 1, 1) := dk_60 (dk_at dksX3_keeps_0 1 rfl rfl)
theorem dX3_keeps_2 : decode cX3_keeps 2 = .ok (.iload_n 1, 1) := dk_27 (dk_at dksX3_keeps_0 2 rfl rfl)
theorem dX3_keeps_3 : decode cX3_keeps 3 = .ok (.aload_n 0, 1) := dk_42 (dk_at dksX3_keeps_0 3 rfl rfl)
theorem dX3_keeps_4 : decode cX3_keeps 4 = .ok (.invokevirtual 61, 3) := dk_182 0 61 (dk_at dksX3_keeps_0 4 rfl rfl)
theorem dX3_keeps_7 : decode cX3_keeps 7 = .ok (.if_icmp .ge 21, 3) := dk_162 0 21 (dk_at dksX3_keeps_0 7 rfl rfl)
theorem dX3_keeps_10 : decode cX3_keeps 10 = .ok (.aload_n 0, 1) := dk_42 (dk_at dksX3_keeps_0 10 rfl rfl)
theorem dX3_keeps_11 : decode cX3_keeps 11 = .ok (.getfield 16, 3) := dk_180 0 16 (dk_at dksX3_keeps_0 11 rfl rfl)
theorem dX3_keeps_14 : decode cX3_keeps 14 = .ok (.iload_n 1, 1) := dk_27 (dk_at dksX3_keeps_0 14 rfl rfl)
theorem dX3_keeps_15 : decode cX3_keeps 15 = .ok (.aload_n 0, 1) := dk_42 (dk_at dksX3_keeps_0 15 rfl rfl)
theorem dX3_keeps_16 : decode cX3_keeps 16 = .ok (.getfield 7, 3) := dk_180 0 7 (dk_at dksX3_keeps_0 16 rfl rfl)
theorem dX3_keeps_19 : decode cX3_keeps 19 = .ok (.iload_n 1, 1) := dk_27 (dk_at dksX3_keeps_0 19 rfl rfl)
theorem dX3_keeps_20 : decode cX3_keeps 20 = .ok (.baload, 1) := dk_51 (dk_at dksX3_keeps_0 20 rfl rfl)
theorem dX3_keeps_21 : decode cX3_keeps 21 = .ok (.bastore, 1) := dk_84 (dk_at dksX3_keeps_0 21 rfl rfl)
theorem dX3_keeps_22 : decode cX3_keeps 22 = .ok (.iinc 1 1, 3) := dk_132 1 1 (dk_at dksX3_keeps_1 0 rfl rfl)
theorem dX3_keeps_25 : decode cX3_keeps 25 = .ok (.goto (-23), 3) := dk_167 255 233 (dk_at dksX3_keeps_1 3 rfl rfl)
theorem dX3_keeps_28 : decode cX3_keeps 28 = .ok (.return_, 1) := dk_177 (dk_at dksX3_keeps_1 6 rfl rfl)
abbrev cX3_brings : ByteArray := prog_11_method_65_code
def yX3_brings : MethodName := ⟨RX3, "brings", "()V"⟩
def dkwX3_brings_1 : List UInt8 := [132, 1, 1, 167, 255, 233, 177]
abbrev dktX3_brings_1 : List UInt8 := dkwX3_brings_1 ++ []
def dkwX3_brings_0 : List UInt8 := [3, 60, 27, 42, 182, 0, 61, 162, 0, 21, 42, 180, 0, 7, 27, 42, 180, 0, 16, 27, 51, 84]
abbrev dktX3_brings_0 : List UInt8 := dkwX3_brings_0 ++ dktX3_brings_1
theorem dksX3_brings_0 : cX3_brings.data.toList.drop 0 = dktX3_brings_0 := by decide +kernel
theorem dksX3_brings_1 : cX3_brings.data.toList.drop 22 = dktX3_brings_1 := dk_seg dksX3_brings_0 22 rfl rfl
theorem dX3_brings_0 : decode cX3_brings 0 = .ok (.iconst 0, 1) := dk_3 (dk_at dksX3_brings_0 0 rfl rfl)
theorem dX3_brings_1 : decode cX3_brings 1 = .ok (.istore_n 1, 1) := dk_60 (dk_at dksX3_brings_0 1 rfl rfl)
theorem dX3_brings_2 : decode cX3_brings 2 = .ok (.iload_n 1, 1) := dk_27 (dk_at dksX3_brings_0 2 rfl rfl)
theorem dX3_brings_3 : decode cX3_brings 3 = .ok (.aload_n 0, 1) := dk_42 (dk_at dksX3_brings_0 3 rfl rfl)
theorem dX3_brings_4 : decode cX3_brings 4 = .ok (.invokevirtual 61, 3) := dk_182 0 61 (dk_at dksX3_brings_0 4 rfl rfl)
theorem dX3_brings_7 : decode cX3_brings 7 = .ok (.if_icmp .ge 21, 3) := dk_162 0 21 (dk_at dksX3_brings_0 7 rfl rfl)
theorem dX3_brings_10 : decode cX3_brings 10 = .ok (.aload_n 0, 1) := dk_42 (dk_at dksX3_brings_0 10 rfl rfl)
theorem dX3_brings_11 : decode cX3_brings 11 = .ok (.getfield 7, 3) := dk_180 0 7 (dk_at dksX3_brings_0 11 rfl rfl)
theorem dX3_brings_14 : decode cX3_brings 14 = .ok (.iload_n 1, 1) := dk_27 (dk_at dksX3_brings_0 14 rfl rfl)
theorem dX3_brings_15 : decode cX3_brings 15 = .ok (.aload_n 0, 1) := dk_42 (dk_at dksX3_brings_0 15 rfl rfl)
theorem dX3_brings_16 : decode cX3_brings 16 = .ok (.getfield 16, 3) := dk_180 0 16 (dk_at dksX3_brings_0 16 rfl rfl)
theorem dX3_brings_19 : decode cX3_brings 19 = .ok (.iload_n 1, 1) := dk_27 (dk_at dksX3_brings_0 19 rfl rfl)
theorem dX3_brings_20 : decode cX3_brings 20 = .ok (.baload, 1) := dk_51 (dk_at dksX3_brings_0 20 rfl rfl)
theorem dX3_brings_21 : decode cX3_brings 21 = .ok (.bastore, 1) := dk_84 (dk_at dksX3_brings_0 21 rfl rfl)
theorem dX3_brings_22 : decode cX3_brings 22 = .ok (.iinc 1 1, 3) := dk_132 1 1 (dk_at dksX3_brings_1 0 rfl rfl)
theorem dX3_brings_25 : decode cX3_brings 25 = .ok (.goto (-23), 3) := dk_167 255 233 (dk_at dksX3_brings_1 3 rfl rfl)
theorem dX3_brings_28 : decode cX3_brings 28 = .ok (.return_, 1) := dk_177 (dk_at dksX3_brings_1 6 rfl rfl)
abbrev cX3_thinned : ByteArray := prog_11_method_67_code
def yX3_thinned : MethodName := ⟨RX3, "thinned", "()I"⟩
def dkwX3_thinned_1 : List UInt8 := [60, 42, 182, 0, 181, 27, 172]
abbrev dktX3_thinned_1 : List UInt8 := dkwX3_thinned_1 ++ []
def dkwX3_thinned_0 : List UInt8 := [42, 3, 181, 0, 33, 42, 182, 0, 178, 42, 182, 0, 144, 156, 0, 7, 2, 167, 0, 7, 42, 182, 0, 141]
abbrev dktX3_thinned_0 : List UInt8 := dkwX3_thinned_0 ++ dktX3_thinned_1
theorem dksX3_thinned_0 : cX3_thinned.data.toList.drop 0 = dktX3_thinned_0 := by decide +kernel
theorem dksX3_thinned_1 : cX3_thinned.data.toList.drop 24 = dktX3_thinned_1 := dk_seg dksX3_thinned_0 24 rfl rfl
theorem dX3_thinned_0 : decode cX3_thinned 0 = .ok (.aload_n 0, 1) := dk_42 (dk_at dksX3_thinned_0 0 rfl rfl)
theorem dX3_thinned_1 : decode cX3_thinned 1 = .ok (.iconst 0, 1) := dk_3 (dk_at dksX3_thinned_0 1 rfl rfl)
theorem dX3_thinned_2 : decode cX3_thinned 2 = .ok (.putfield 33, 3) := dk_181 0 33 (dk_at dksX3_thinned_0 2 rfl rfl)
theorem dX3_thinned_5 : decode cX3_thinned 5 = .ok (.aload_n 0, 1) := dk_42 (dk_at dksX3_thinned_0 5 rfl rfl)
theorem dX3_thinned_6 : decode cX3_thinned 6 = .ok (.invokevirtual 178, 3) := dk_182 0 178 (dk_at dksX3_thinned_0 6 rfl rfl)
theorem dX3_thinned_9 : decode cX3_thinned 9 = .ok (.aload_n 0, 1) := dk_42 (dk_at dksX3_thinned_0 9 rfl rfl)
theorem dX3_thinned_10 : decode cX3_thinned 10 = .ok (.invokevirtual 144, 3) := dk_182 0 144 (dk_at dksX3_thinned_0 10 rfl rfl)
theorem dX3_thinned_13 : decode cX3_thinned 13 = .ok (.ifCond .ge 7, 3) := dk_156 0 7 (dk_at dksX3_thinned_0 13 rfl rfl)
theorem dX3_thinned_16 : decode cX3_thinned 16 = .ok (.iconst (-1), 1) := dk_2 (dk_at dksX3_thinned_0 16 rfl rfl)
theorem dX3_thinned_17 : decode cX3_thinned 17 = .ok (.goto 7, 3) := dk_167 0 7 (dk_at dksX3_thinned_0 17 rfl rfl)
theorem dX3_thinned_20 : decode cX3_thinned 20 = .ok (.aload_n 0, 1) := dk_42 (dk_at dksX3_thinned_0 20 rfl rfl)
theorem dX3_thinned_21 : decode cX3_thinned 21 = .ok (.invokevirtual 141, 3) := dk_182 0 141 (dk_at dksX3_thinned_0 21 rfl rfl)
theorem dX3_thinned_24 : decode cX3_thinned 24 = .ok (.istore_n 1, 1) := dk_60 (dk_at dksX3_thinned_1 0 rfl rfl)
theorem dX3_thinned_25 : decode cX3_thinned 25 = .ok (.aload_n 0, 1) := dk_42 (dk_at dksX3_thinned_1 1 rfl rfl)
theorem dX3_thinned_26 : decode cX3_thinned 26 = .ok (.invokevirtual 181, 3) := dk_182 0 181 (dk_at dksX3_thinned_1 2 rfl rfl)
theorem dX3_thinned_29 : decode cX3_thinned 29 = .ok (.iload_n 1, 1) := dk_27 (dk_at dksX3_thinned_1 5 rfl rfl)
theorem dX3_thinned_30 : decode cX3_thinned 30 = .ok (.ireturn, 1) := dk_172 (dk_at dksX3_thinned_1 6 rfl rfl)
abbrev cX3_inkShare : ByteArray := prog_11_method_68_code
def yX3_inkShare : MethodName := ⟨RX3, "inkShare", "()D"⟩
def dkwX3_inkShare_0 : List UInt8 := [42, 3, 181, 0, 33, 42, 182, 0, 141, 135, 42, 182, 0, 61, 135, 111, 175]
abbrev dktX3_inkShare_0 : List UInt8 := dkwX3_inkShare_0 ++ []
theorem dksX3_inkShare_0 : cX3_inkShare.data.toList.drop 0 = dktX3_inkShare_0 := by decide +kernel
theorem dX3_inkShare_0 : decode cX3_inkShare 0 = .ok (.aload_n 0, 1) := dk_42 (dk_at dksX3_inkShare_0 0 rfl rfl)
theorem dX3_inkShare_1 : decode cX3_inkShare 1 = .ok (.iconst 0, 1) := dk_3 (dk_at dksX3_inkShare_0 1 rfl rfl)
theorem dX3_inkShare_2 : decode cX3_inkShare 2 = .ok (.putfield 33, 3) := dk_181 0 33 (dk_at dksX3_inkShare_0 2 rfl rfl)
theorem dX3_inkShare_5 : decode cX3_inkShare 5 = .ok (.aload_n 0, 1) := dk_42 (dk_at dksX3_inkShare_0 5 rfl rfl)
theorem dX3_inkShare_6 : decode cX3_inkShare 6 = .ok (.invokevirtual 141, 3) := dk_182 0 141 (dk_at dksX3_inkShare_0 6 rfl rfl)
theorem dX3_inkShare_9 : decode cX3_inkShare 9 = .ok (.i2d, 1) := dk_135 (dk_at dksX3_inkShare_0 9 rfl rfl)
theorem dX3_inkShare_10 : decode cX3_inkShare 10 = .ok (.aload_n 0, 1) := dk_42 (dk_at dksX3_inkShare_0 10 rfl rfl)
theorem dX3_inkShare_11 : decode cX3_inkShare 11 = .ok (.invokevirtual 61, 3) := dk_182 0 61 (dk_at dksX3_inkShare_0 11 rfl rfl)
theorem dX3_inkShare_14 : decode cX3_inkShare 14 = .ok (.i2d, 1) := dk_135 (dk_at dksX3_inkShare_0 14 rfl rfl)
theorem dX3_inkShare_15 : decode cX3_inkShare 15 = .ok (.ddiv, 1) := dk_111 (dk_at dksX3_inkShare_0 15 rfl rfl)
theorem dX3_inkShare_16 : decode cX3_inkShare 16 = .ok (.dreturn, 1) := dk_175 (dk_at dksX3_inkShare_0 16 rfl rfl)
abbrev cX3_meanRun : ByteArray := prog_11_method_69_code
def yX3_meanRun : MethodName := ⟨RX3, "meanRun", "()F"⟩
def dkwX3_meanRun_1 : List UInt8 := [134, 110, 174]
abbrev dktX3_meanRun_1 : List UInt8 := dkwX3_meanRun_1 ++ []
def dkwX3_meanRun_0 : List UInt8 := [42, 3, 181, 0, 33, 42, 182, 0, 163, 60, 27, 154, 0, 7, 11, 167, 0, 11, 42, 182, 0, 141, 134, 27]
abbrev dktX3_meanRun_0 : List UInt8 := dkwX3_meanRun_0 ++ dktX3_meanRun_1
theorem dksX3_meanRun_0 : cX3_meanRun.data.toList.drop 0 = dktX3_meanRun_0 := by decide +kernel
theorem dksX3_meanRun_1 : cX3_meanRun.data.toList.drop 24 = dktX3_meanRun_1 := dk_seg dksX3_meanRun_0 24 rfl rfl
theorem dX3_meanRun_0 : decode cX3_meanRun 0 = .ok (.aload_n 0, 1) := dk_42 (dk_at dksX3_meanRun_0 0 rfl rfl)
theorem dX3_meanRun_1 : decode cX3_meanRun 1 = .ok (.iconst 0, 1) := dk_3 (dk_at dksX3_meanRun_0 1 rfl rfl)
theorem dX3_meanRun_2 : decode cX3_meanRun 2 = .ok (.putfield 33, 3) := dk_181 0 33 (dk_at dksX3_meanRun_0 2 rfl rfl)
theorem dX3_meanRun_5 : decode cX3_meanRun 5 = .ok (.aload_n 0, 1) := dk_42 (dk_at dksX3_meanRun_0 5 rfl rfl)
theorem dX3_meanRun_6 : decode cX3_meanRun 6 = .ok (.invokevirtual 163, 3) := dk_182 0 163 (dk_at dksX3_meanRun_0 6 rfl rfl)
theorem dX3_meanRun_9 : decode cX3_meanRun 9 = .ok (.istore_n 1, 1) := dk_60 (dk_at dksX3_meanRun_0 9 rfl rfl)
theorem dX3_meanRun_10 : decode cX3_meanRun 10 = .ok (.iload_n 1, 1) := dk_27 (dk_at dksX3_meanRun_0 10 rfl rfl)
theorem dX3_meanRun_11 : decode cX3_meanRun 11 = .ok (.ifCond .ne 7, 3) := dk_154 0 7 (dk_at dksX3_meanRun_0 11 rfl rfl)
theorem dX3_meanRun_14 : decode cX3_meanRun 14 = .ok (.fconst 0, 1) := dk_11 (dk_at dksX3_meanRun_0 14 rfl rfl)
theorem dX3_meanRun_15 : decode cX3_meanRun 15 = .ok (.goto 11, 3) := dk_167 0 11 (dk_at dksX3_meanRun_0 15 rfl rfl)
theorem dX3_meanRun_18 : decode cX3_meanRun 18 = .ok (.aload_n 0, 1) := dk_42 (dk_at dksX3_meanRun_0 18 rfl rfl)
theorem dX3_meanRun_19 : decode cX3_meanRun 19 = .ok (.invokevirtual 141, 3) := dk_182 0 141 (dk_at dksX3_meanRun_0 19 rfl rfl)
theorem dX3_meanRun_22 : decode cX3_meanRun 22 = .ok (.i2f, 1) := dk_134 (dk_at dksX3_meanRun_0 22 rfl rfl)
theorem dX3_meanRun_23 : decode cX3_meanRun 23 = .ok (.iload_n 1, 1) := dk_27 (dk_at dksX3_meanRun_0 23 rfl rfl)
theorem dX3_meanRun_24 : decode cX3_meanRun 24 = .ok (.i2f, 1) := dk_134 (dk_at dksX3_meanRun_1 0 rfl rfl)
theorem dX3_meanRun_25 : decode cX3_meanRun 25 = .ok (.fdiv, 1) := dk_110 (dk_at dksX3_meanRun_1 1 rfl rfl)
theorem dX3_meanRun_26 : decode cX3_meanRun 26 = .ok (.freturn, 1) := dk_174 (dk_at dksX3_meanRun_1 2 rfl rfl)
abbrev cX3_tufaErrors : ByteArray := prog_11_method_70_code
def yX3_tufaErrors : MethodName := ⟨RX3, "tufaErrors", "()I"⟩
def dkwX3_tufaErrors_8 : List UInt8 := [182, 0, 141, 100, 184, 0, 65, 96, 172]
abbrev dktX3_tufaErrors_8 : List UInt8 := dkwX3_tufaErrors_8 ++ []
def dkwX3_tufaErrors_7 : List UInt8 := [182, 0, 160, 16, 100, 112, 96, 61, 132, 4, 1, 167, 255, 230, 132, 3, 1, 167, 255, 213, 27, 28, 42]
abbrev dktX3_tufaErrors_7 : List UInt8 := dkwX3_tufaErrors_7 ++ dktX3_tufaErrors_8
def dkwX3_tufaErrors_6 : List UInt8 := [180, 0, 40, 162, 0, 41, 3, 54, 4, 21, 4, 42, 29, 182, 0, 118, 162, 0, 22, 28, 42, 29, 21, 4]
abbrev dktX3_tufaErrors_6 : List UInt8 := dkwX3_tufaErrors_6 ++ dktX3_tufaErrors_7
def dkwX3_tufaErrors_5 : List UInt8 := [182, 0, 184, 159, 0, 7, 4, 167, 0, 4, 3, 96, 60, 132, 3, 1, 167, 255, 213, 3, 62, 29, 42]
abbrev dktX3_tufaErrors_5 : List UInt8 := dkwX3_tufaErrors_5 ++ dktX3_tufaErrors_6
def dkwX3_tufaErrors_4 : List UInt8 := [162, 0, 41, 27, 42, 180, 0, 19, 29, 51, 154, 0, 18, 42, 180, 0, 22, 29, 46, 42, 29, 4]
abbrev dktX3_tufaErrors_4 : List UInt8 := dkwX3_tufaErrors_4 ++ dktX3_tufaErrors_5
def dkwX3_tufaErrors_3 : List UInt8 := [167, 0, 4, 3, 128, 84, 132, 3, 1, 167, 255, 216, 42, 4, 182, 0, 150, 3, 62, 29, 42, 182, 0, 61]
abbrev dktX3_tufaErrors_3 : List UInt8 := dkwX3_tufaErrors_3 ++ dktX3_tufaErrors_4
def dkwX3_tufaErrors_2 : List UInt8 := [180, 0, 19, 29, 92, 51, 42, 180, 0, 22, 29, 46, 42, 29, 3, 182, 0, 184, 159, 0, 7, 4]
abbrev dktX3_tufaErrors_2 : List UInt8 := dkwX3_tufaErrors_2 ++ dktX3_tufaErrors_3
def dkwX3_tufaErrors_1 : List UInt8 := [3, 84, 132, 3, 1, 167, 255, 238, 42, 3, 182, 0, 150, 3, 62, 29, 42, 182, 0, 61, 162, 0, 38, 42]
abbrev dktX3_tufaErrors_1 : List UInt8 := dkwX3_tufaErrors_1 ++ dktX3_tufaErrors_2
def dkwX3_tufaErrors_0 : List UInt8 := [42, 3, 181, 0, 33, 3, 60, 3, 61, 3, 62, 29, 42, 182, 0, 61, 162, 0, 16, 42, 180, 0, 19, 29]
abbrev dktX3_tufaErrors_0 : List UInt8 := dkwX3_tufaErrors_0 ++ dktX3_tufaErrors_1
theorem dksX3_tufaErrors_0 : cX3_tufaErrors.data.toList.drop 0 = dktX3_tufaErrors_0 := by decide +kernel
theorem dksX3_tufaErrors_1 : cX3_tufaErrors.data.toList.drop 24 = dktX3_tufaErrors_1 := dk_seg dksX3_tufaErrors_0 24 rfl rfl
theorem dksX3_tufaErrors_2 : cX3_tufaErrors.data.toList.drop 48 = dktX3_tufaErrors_2 := dk_seg dksX3_tufaErrors_1 24 rfl rfl
theorem dksX3_tufaErrors_3 : cX3_tufaErrors.data.toList.drop 70 = dktX3_tufaErrors_3 := dk_seg dksX3_tufaErrors_2 22 rfl rfl
theorem dksX3_tufaErrors_4 : cX3_tufaErrors.data.toList.drop 94 = dktX3_tufaErrors_4 := dk_seg dksX3_tufaErrors_3 24 rfl rfl
theorem dksX3_tufaErrors_5 : cX3_tufaErrors.data.toList.drop 116 = dktX3_tufaErrors_5 := dk_seg dksX3_tufaErrors_4 22 rfl rfl
theorem dksX3_tufaErrors_6 : cX3_tufaErrors.data.toList.drop 139 = dktX3_tufaErrors_6 := dk_seg dksX3_tufaErrors_5 23 rfl rfl
theorem dksX3_tufaErrors_7 : cX3_tufaErrors.data.toList.drop 163 = dktX3_tufaErrors_7 := dk_seg dksX3_tufaErrors_6 24 rfl rfl
theorem dksX3_tufaErrors_8 : cX3_tufaErrors.data.toList.drop 186 = dktX3_tufaErrors_8 := dk_seg dksX3_tufaErrors_7 23 rfl rfl
theorem dX3_tufaErrors_0 : decode cX3_tufaErrors 0 = .ok (.aload_n 0, 1) := dk_42 (dk_at dksX3_tufaErrors_0 0 rfl rfl)
theorem dX3_tufaErrors_1 : decode cX3_tufaErrors 1 = .ok (.iconst 0, 1) := dk_3 (dk_at dksX3_tufaErrors_0 1 rfl rfl)
theorem dX3_tufaErrors_2 : decode cX3_tufaErrors 2 = .ok (.putfield 33, 3) := dk_181 0 33 (dk_at dksX3_tufaErrors_0 2 rfl rfl)
theorem dX3_tufaErrors_5 : decode cX3_tufaErrors 5 = .ok (.iconst 0, 1) := dk_3 (dk_at dksX3_tufaErrors_0 5 rfl rfl)
theorem dX3_tufaErrors_6 : decode cX3_tufaErrors 6 = .ok (.istore_n 1, 1) := dk_60 (dk_at dksX3_tufaErrors_0 6 rfl rfl)
theorem dX3_tufaErrors_7 : decode cX3_tufaErrors 7 = .ok (.iconst 0, 1) := dk_3 (dk_at dksX3_tufaErrors_0 7 rfl rfl)
theorem dX3_tufaErrors_8 : decode cX3_tufaErrors 8 = .ok (.istore_n 2, 1) := dk_61 (dk_at dksX3_tufaErrors_0 8 rfl rfl)
theorem dX3_tufaErrors_9 : decode cX3_tufaErrors 9 = .ok (.iconst 0, 1) := dk_3 (dk_at dksX3_tufaErrors_0 9 rfl rfl)
theorem dX3_tufaErrors_10 : decode cX3_tufaErrors 10 = .ok (.istore_n 3, 1) := dk_62 (dk_at dksX3_tufaErrors_0 10 rfl rfl)
theorem dX3_tufaErrors_11 : decode cX3_tufaErrors 11 = .ok (.iload_n 3, 1) := dk_29 (dk_at dksX3_tufaErrors_0 11 rfl rfl)
theorem dX3_tufaErrors_12 : decode cX3_tufaErrors 12 = .ok (.aload_n 0, 1) := dk_42 (dk_at dksX3_tufaErrors_0 12 rfl rfl)
theorem dX3_tufaErrors_13 : decode cX3_tufaErrors 13 = .ok (.invokevirtual 61, 3) := dk_182 0 61 (dk_at dksX3_tufaErrors_0 13 rfl rfl)
theorem dX3_tufaErrors_16 : decode cX3_tufaErrors 16 = .ok (.if_icmp .ge 16, 3) := dk_162 0 16 (dk_at dksX3_tufaErrors_0 16 rfl rfl)
theorem dX3_tufaErrors_19 : decode cX3_tufaErrors 19 = .ok (.aload_n 0, 1) := dk_42 (dk_at dksX3_tufaErrors_0 19 rfl rfl)
theorem dX3_tufaErrors_20 : decode cX3_tufaErrors 20 = .ok (.getfield 19, 3) := dk_180 0 19 (dk_at dksX3_tufaErrors_0 20 rfl rfl)
theorem dX3_tufaErrors_23 : decode cX3_tufaErrors 23 = .ok (.iload_n 3, 1) := dk_29 (dk_at dksX3_tufaErrors_0 23 rfl rfl)
theorem dX3_tufaErrors_24 : decode cX3_tufaErrors 24 = .ok (.iconst 0, 1) := dk_3 (dk_at dksX3_tufaErrors_1 0 rfl rfl)
theorem dX3_tufaErrors_25 : decode cX3_tufaErrors 25 = .ok (.bastore, 1) := dk_84 (dk_at dksX3_tufaErrors_1 1 rfl rfl)
theorem dX3_tufaErrors_26 : decode cX3_tufaErrors 26 = .ok (.iinc 3 1, 3) := dk_132 3 1 (dk_at dksX3_tufaErrors_1 2 rfl rfl)
theorem dX3_tufaErrors_29 : decode cX3_tufaErrors 29 = .ok (.goto (-18), 3) := dk_167 255 238 (dk_at dksX3_tufaErrors_1 5 rfl rfl)
theorem dX3_tufaErrors_32 : decode cX3_tufaErrors 32 = .ok (.aload_n 0, 1) := dk_42 (dk_at dksX3_tufaErrors_1 8 rfl rfl)
theorem dX3_tufaErrors_33 : decode cX3_tufaErrors 33 = .ok (.iconst 0, 1) := dk_3 (dk_at dksX3_tufaErrors_1 9 rfl rfl)
theorem dX3_tufaErrors_34 : decode cX3_tufaErrors 34 = .ok (.invokevirtual 150, 3) := dk_182 0 150 (dk_at dksX3_tufaErrors_1 10 rfl rfl)
theorem dX3_tufaErrors_37 : decode cX3_tufaErrors 37 = .ok (.iconst 0, 1) := dk_3 (dk_at dksX3_tufaErrors_1 13 rfl rfl)
theorem dX3_tufaErrors_38 : decode cX3_tufaErrors 38 = .ok (.istore_n 3, 1) := dk_62 (dk_at dksX3_tufaErrors_1 14 rfl rfl)
theorem dX3_tufaErrors_39 : decode cX3_tufaErrors 39 = .ok (.iload_n 3, 1) := dk_29 (dk_at dksX3_tufaErrors_1 15 rfl rfl)
theorem dX3_tufaErrors_40 : decode cX3_tufaErrors 40 = .ok (.aload_n 0, 1) := dk_42 (dk_at dksX3_tufaErrors_1 16 rfl rfl)
theorem dX3_tufaErrors_41 : decode cX3_tufaErrors 41 = .ok (.invokevirtual 61, 3) := dk_182 0 61 (dk_at dksX3_tufaErrors_1 17 rfl rfl)
theorem dX3_tufaErrors_44 : decode cX3_tufaErrors 44 = .ok (.if_icmp .ge 38, 3) := dk_162 0 38 (dk_at dksX3_tufaErrors_1 20 rfl rfl)
theorem dX3_tufaErrors_47 : decode cX3_tufaErrors 47 = .ok (.aload_n 0, 1) := dk_42 (dk_at dksX3_tufaErrors_1 23 rfl rfl)
theorem dX3_tufaErrors_48 : decode cX3_tufaErrors 48 = .ok (.getfield 19, 3) := dk_180 0 19 (dk_at dksX3_tufaErrors_2 0 rfl rfl)
theorem dX3_tufaErrors_51 : decode cX3_tufaErrors 51 = .ok (.iload_n 3, 1) := dk_29 (dk_at dksX3_tufaErrors_2 3 rfl rfl)
theorem dX3_tufaErrors_52 : decode cX3_tufaErrors 52 = .ok (.dup2, 1) := dk_92 (dk_at dksX3_tufaErrors_2 4 rfl rfl)
theorem dX3_tufaErrors_53 : decode cX3_tufaErrors 53 = .ok (.baload, 1) := dk_51 (dk_at dksX3_tufaErrors_2 5 rfl rfl)
theorem dX3_tufaErrors_54 : decode cX3_tufaErrors 54 = .ok (.aload_n 0, 1) := dk_42 (dk_at dksX3_tufaErrors_2 6 rfl rfl)
theorem dX3_tufaErrors_55 : decode cX3_tufaErrors 55 = .ok (.getfield 22, 3) := dk_180 0 22 (dk_at dksX3_tufaErrors_2 7 rfl rfl)
theorem dX3_tufaErrors_58 : decode cX3_tufaErrors 58 = .ok (.iload_n 3, 1) := dk_29 (dk_at dksX3_tufaErrors_2 10 rfl rfl)
theorem dX3_tufaErrors_59 : decode cX3_tufaErrors 59 = .ok (.iaload, 1) := dk_46 (dk_at dksX3_tufaErrors_2 11 rfl rfl)
theorem dX3_tufaErrors_60 : decode cX3_tufaErrors 60 = .ok (.aload_n 0, 1) := dk_42 (dk_at dksX3_tufaErrors_2 12 rfl rfl)
theorem dX3_tufaErrors_61 : decode cX3_tufaErrors 61 = .ok (.iload_n 3, 1) := dk_29 (dk_at dksX3_tufaErrors_2 13 rfl rfl)
theorem dX3_tufaErrors_62 : decode cX3_tufaErrors 62 = .ok (.iconst 0, 1) := dk_3 (dk_at dksX3_tufaErrors_2 14 rfl rfl)
theorem dX3_tufaErrors_63 : decode cX3_tufaErrors 63 = .ok (.invokevirtual 184, 3) := dk_182 0 184 (dk_at dksX3_tufaErrors_2 15 rfl rfl)
theorem dX3_tufaErrors_66 : decode cX3_tufaErrors 66 = .ok (.if_icmp .eq 7, 3) := dk_159 0 7 (dk_at dksX3_tufaErrors_2 18 rfl rfl)
theorem dX3_tufaErrors_69 : decode cX3_tufaErrors 69 = .ok (.iconst 1, 1) := dk_4 (dk_at dksX3_tufaErrors_2 21 rfl rfl)
theorem dX3_tufaErrors_70 : decode cX3_tufaErrors 70 = .ok (.goto 4, 3) := dk_167 0 4 (dk_at dksX3_tufaErrors_3 0 rfl rfl)
theorem dX3_tufaErrors_73 : decode cX3_tufaErrors 73 = .ok (.iconst 0, 1) := dk_3 (dk_at dksX3_tufaErrors_3 3 rfl rfl)
theorem dX3_tufaErrors_74 : decode cX3_tufaErrors 74 = .ok (.ior, 1) := dk_128 (dk_at dksX3_tufaErrors_3 4 rfl rfl)
theorem dX3_tufaErrors_75 : decode cX3_tufaErrors 75 = .ok (.bastore, 1) := dk_84 (dk_at dksX3_tufaErrors_3 5 rfl rfl)
theorem dX3_tufaErrors_76 : decode cX3_tufaErrors 76 = .ok (.iinc 3 1, 3) := dk_132 3 1 (dk_at dksX3_tufaErrors_3 6 rfl rfl)
theorem dX3_tufaErrors_79 : decode cX3_tufaErrors 79 = .ok (.goto (-40), 3) := dk_167 255 216 (dk_at dksX3_tufaErrors_3 9 rfl rfl)
theorem dX3_tufaErrors_82 : decode cX3_tufaErrors 82 = .ok (.aload_n 0, 1) := dk_42 (dk_at dksX3_tufaErrors_3 12 rfl rfl)
theorem dX3_tufaErrors_83 : decode cX3_tufaErrors 83 = .ok (.iconst 1, 1) := dk_4 (dk_at dksX3_tufaErrors_3 13 rfl rfl)
theorem dX3_tufaErrors_84 : decode cX3_tufaErrors 84 = .ok (.invokevirtual 150, 3) := dk_182 0 150 (dk_at dksX3_tufaErrors_3 14 rfl rfl)
theorem dX3_tufaErrors_87 : decode cX3_tufaErrors 87 = .ok (.iconst 0, 1) := dk_3 (dk_at dksX3_tufaErrors_3 17 rfl rfl)
theorem dX3_tufaErrors_88 : decode cX3_tufaErrors 88 = .ok (.istore_n 3, 1) := dk_62 (dk_at dksX3_tufaErrors_3 18 rfl rfl)
theorem dX3_tufaErrors_89 : decode cX3_tufaErrors 89 = .ok (.iload_n 3, 1) := dk_29 (dk_at dksX3_tufaErrors_3 19 rfl rfl)
theorem dX3_tufaErrors_90 : decode cX3_tufaErrors 90 = .ok (.aload_n 0, 1) := dk_42 (dk_at dksX3_tufaErrors_3 20 rfl rfl)
theorem dX3_tufaErrors_91 : decode cX3_tufaErrors 91 = .ok (.invokevirtual 61, 3) := dk_182 0 61 (dk_at dksX3_tufaErrors_3 21 rfl rfl)
theorem dX3_tufaErrors_94 : decode cX3_tufaErrors 94 = .ok (.if_icmp .ge 41, 3) := dk_162 0 41 (dk_at dksX3_tufaErrors_4 0 rfl rfl)
theorem dX3_tufaErrors_97 : decode cX3_tufaErrors 97 = .ok (.iload_n 1, 1) := dk_27 (dk_at dksX3_tufaErrors_4 3 rfl rfl)
theorem dX3_tufaErrors_98 : decode cX3_tufaErrors 98 = .ok (.aload_n 0, 1) := dk_42 (dk_at dksX3_tufaErrors_4 4 rfl rfl)
theorem dX3_tufaErrors_99 : decode cX3_tufaErrors 99 = .ok (.getfield 19, 3) := dk_180 0 19 (dk_at dksX3_tufaErrors_4 5 rfl rfl)
theorem dX3_tufaErrors_102 : decode cX3_tufaErrors 102 = .ok (.iload_n 3, 1) := dk_29 (dk_at dksX3_tufaErrors_4 8 rfl rfl)
theorem dX3_tufaErrors_103 : decode cX3_tufaErrors 103 = .ok (.baload, 1) := dk_51 (dk_at dksX3_tufaErrors_4 9 rfl rfl)
theorem dX3_tufaErrors_104 : decode cX3_tufaErrors 104 = .ok (.ifCond .ne 18, 3) := dk_154 0 18 (dk_at dksX3_tufaErrors_4 10 rfl rfl)
theorem dX3_tufaErrors_107 : decode cX3_tufaErrors 107 = .ok (.aload_n 0, 1) := dk_42 (dk_at dksX3_tufaErrors_4 13 rfl rfl)
theorem dX3_tufaErrors_108 : decode cX3_tufaErrors 108 = .ok (.getfield 22, 3) := dk_180 0 22 (dk_at dksX3_tufaErrors_4 14 rfl rfl)
theorem dX3_tufaErrors_111 : decode cX3_tufaErrors 111 = .ok (.iload_n 3, 1) := dk_29 (dk_at dksX3_tufaErrors_4 17 rfl rfl)
theorem dX3_tufaErrors_112 : decode cX3_tufaErrors 112 = .ok (.iaload, 1) := dk_46 (dk_at dksX3_tufaErrors_4 18 rfl rfl)
theorem dX3_tufaErrors_113 : decode cX3_tufaErrors 113 = .ok (.aload_n 0, 1) := dk_42 (dk_at dksX3_tufaErrors_4 19 rfl rfl)
theorem dX3_tufaErrors_114 : decode cX3_tufaErrors 114 = .ok (.iload_n 3, 1) := dk_29 (dk_at dksX3_tufaErrors_4 20 rfl rfl)
theorem dX3_tufaErrors_115 : decode cX3_tufaErrors 115 = .ok (.iconst 1, 1) := dk_4 (dk_at dksX3_tufaErrors_4 21 rfl rfl)
theorem dX3_tufaErrors_116 : decode cX3_tufaErrors 116 = .ok (.invokevirtual 184, 3) := dk_182 0 184 (dk_at dksX3_tufaErrors_5 0 rfl rfl)
theorem dX3_tufaErrors_119 : decode cX3_tufaErrors 119 = .ok (.if_icmp .eq 7, 3) := dk_159 0 7 (dk_at dksX3_tufaErrors_5 3 rfl rfl)
theorem dX3_tufaErrors_122 : decode cX3_tufaErrors 122 = .ok (.iconst 1, 1) := dk_4 (dk_at dksX3_tufaErrors_5 6 rfl rfl)
theorem dX3_tufaErrors_123 : decode cX3_tufaErrors 123 = .ok (.goto 4, 3) := dk_167 0 4 (dk_at dksX3_tufaErrors_5 7 rfl rfl)
theorem dX3_tufaErrors_126 : decode cX3_tufaErrors 126 = .ok (.iconst 0, 1) := dk_3 (dk_at dksX3_tufaErrors_5 10 rfl rfl)
theorem dX3_tufaErrors_127 : decode cX3_tufaErrors 127 = .ok (.iadd, 1) := dk_96 (dk_at dksX3_tufaErrors_5 11 rfl rfl)
theorem dX3_tufaErrors_128 : decode cX3_tufaErrors 128 = .ok (.istore_n 1, 1) := dk_60 (dk_at dksX3_tufaErrors_5 12 rfl rfl)
theorem dX3_tufaErrors_129 : decode cX3_tufaErrors 129 = .ok (.iinc 3 1, 3) := dk_132 3 1 (dk_at dksX3_tufaErrors_5 13 rfl rfl)
theorem dX3_tufaErrors_132 : decode cX3_tufaErrors 132 = .ok (.goto (-43), 3) := dk_167 255 213 (dk_at dksX3_tufaErrors_5 16 rfl rfl)
theorem dX3_tufaErrors_135 : decode cX3_tufaErrors 135 = .ok (.iconst 0, 1) := dk_3 (dk_at dksX3_tufaErrors_5 19 rfl rfl)
theorem dX3_tufaErrors_136 : decode cX3_tufaErrors 136 = .ok (.istore_n 3, 1) := dk_62 (dk_at dksX3_tufaErrors_5 20 rfl rfl)
theorem dX3_tufaErrors_137 : decode cX3_tufaErrors 137 = .ok (.iload_n 3, 1) := dk_29 (dk_at dksX3_tufaErrors_5 21 rfl rfl)
theorem dX3_tufaErrors_138 : decode cX3_tufaErrors 138 = .ok (.aload_n 0, 1) := dk_42 (dk_at dksX3_tufaErrors_5 22 rfl rfl)
theorem dX3_tufaErrors_139 : decode cX3_tufaErrors 139 = .ok (.getfield 40, 3) := dk_180 0 40 (dk_at dksX3_tufaErrors_6 0 rfl rfl)
theorem dX3_tufaErrors_142 : decode cX3_tufaErrors 142 = .ok (.if_icmp .ge 41, 3) := dk_162 0 41 (dk_at dksX3_tufaErrors_6 3 rfl rfl)
theorem dX3_tufaErrors_145 : decode cX3_tufaErrors 145 = .ok (.iconst 0, 1) := dk_3 (dk_at dksX3_tufaErrors_6 6 rfl rfl)
theorem dX3_tufaErrors_146 : decode cX3_tufaErrors 146 = .ok (.istore 4, 2) := dk_54 4 (dk_at dksX3_tufaErrors_6 7 rfl rfl)
theorem dX3_tufaErrors_148 : decode cX3_tufaErrors 148 = .ok (.iload 4, 2) := dk_21 4 (dk_at dksX3_tufaErrors_6 9 rfl rfl)
theorem dX3_tufaErrors_150 : decode cX3_tufaErrors 150 = .ok (.aload_n 0, 1) := dk_42 (dk_at dksX3_tufaErrors_6 11 rfl rfl)
theorem dX3_tufaErrors_151 : decode cX3_tufaErrors 151 = .ok (.iload_n 3, 1) := dk_29 (dk_at dksX3_tufaErrors_6 12 rfl rfl)
theorem dX3_tufaErrors_152 : decode cX3_tufaErrors 152 = .ok (.invokevirtual 118, 3) := dk_182 0 118 (dk_at dksX3_tufaErrors_6 13 rfl rfl)
theorem dX3_tufaErrors_155 : decode cX3_tufaErrors 155 = .ok (.if_icmp .ge 22, 3) := dk_162 0 22 (dk_at dksX3_tufaErrors_6 16 rfl rfl)
theorem dX3_tufaErrors_158 : decode cX3_tufaErrors 158 = .ok (.iload_n 2, 1) := dk_28 (dk_at dksX3_tufaErrors_6 19 rfl rfl)
theorem dX3_tufaErrors_159 : decode cX3_tufaErrors 159 = .ok (.aload_n 0, 1) := dk_42 (dk_at dksX3_tufaErrors_6 20 rfl rfl)
theorem dX3_tufaErrors_160 : decode cX3_tufaErrors 160 = .ok (.iload_n 3, 1) := dk_29 (dk_at dksX3_tufaErrors_6 21 rfl rfl)
theorem dX3_tufaErrors_161 : decode cX3_tufaErrors 161 = .ok (.iload 4, 2) := dk_21 4 (dk_at dksX3_tufaErrors_6 22 rfl rfl)
theorem dX3_tufaErrors_163 : decode cX3_tufaErrors 163 = .ok (.invokevirtual 160, 3) := dk_182 0 160 (dk_at dksX3_tufaErrors_7 0 rfl rfl)
theorem dX3_tufaErrors_166 : decode cX3_tufaErrors 166 = .ok (.bipush 100, 2) := dk_16 100 (dk_at dksX3_tufaErrors_7 3 rfl rfl)
theorem dX3_tufaErrors_168 : decode cX3_tufaErrors 168 = .ok (.irem, 1) := dk_112 (dk_at dksX3_tufaErrors_7 5 rfl rfl)
theorem dX3_tufaErrors_169 : decode cX3_tufaErrors 169 = .ok (.iadd, 1) := dk_96 (dk_at dksX3_tufaErrors_7 6 rfl rfl)
theorem dX3_tufaErrors_170 : decode cX3_tufaErrors 170 = .ok (.istore_n 2, 1) := dk_61 (dk_at dksX3_tufaErrors_7 7 rfl rfl)
theorem dX3_tufaErrors_171 : decode cX3_tufaErrors 171 = .ok (.iinc 4 1, 3) := dk_132 4 1 (dk_at dksX3_tufaErrors_7 8 rfl rfl)
theorem dX3_tufaErrors_174 : decode cX3_tufaErrors 174 = .ok (.goto (-26), 3) := dk_167 255 230 (dk_at dksX3_tufaErrors_7 11 rfl rfl)
theorem dX3_tufaErrors_177 : decode cX3_tufaErrors 177 = .ok (.iinc 3 1, 3) := dk_132 3 1 (dk_at dksX3_tufaErrors_7 14 rfl rfl)
theorem dX3_tufaErrors_180 : decode cX3_tufaErrors 180 = .ok (.goto (-43), 3) := dk_167 255 213 (dk_at dksX3_tufaErrors_7 17 rfl rfl)
theorem dX3_tufaErrors_183 : decode cX3_tufaErrors 183 = .ok (.iload_n 1, 1) := dk_27 (dk_at dksX3_tufaErrors_7 20 rfl rfl)
theorem dX3_tufaErrors_184 : decode cX3_tufaErrors 184 = .ok (.iload_n 2, 1) := dk_28 (dk_at dksX3_tufaErrors_7 21 rfl rfl)
theorem dX3_tufaErrors_185 : decode cX3_tufaErrors 185 = .ok (.aload_n 0, 1) := dk_42 (dk_at dksX3_tufaErrors_7 22 rfl rfl)
theorem dX3_tufaErrors_186 : decode cX3_tufaErrors 186 = .ok (.invokevirtual 141, 3) := dk_182 0 141 (dk_at dksX3_tufaErrors_8 0 rfl rfl)
theorem dX3_tufaErrors_189 : decode cX3_tufaErrors 189 = .ok (.isub, 1) := dk_100 (dk_at dksX3_tufaErrors_8 3 rfl rfl)
theorem dX3_tufaErrors_190 : decode cX3_tufaErrors 190 = .ok (.invokestatic 65, 3) := dk_184 0 65 (dk_at dksX3_tufaErrors_8 4 rfl rfl)
theorem dX3_tufaErrors_193 : decode cX3_tufaErrors 193 = .ok (.iadd, 1) := dk_96 (dk_at dksX3_tufaErrors_8 7 rfl rfl)
theorem dX3_tufaErrors_194 : decode cX3_tufaErrors 194 = .ok (.ireturn, 1) := dk_172 (dk_at dksX3_tufaErrors_8 8 rfl rfl)
abbrev cX3_looked : ByteArray := prog_11_method_18_code
def yX3_looked : MethodName := ⟨RX3, "looked", "(IZ)I"⟩
def dkwX3_looked_4 : List UInt8 := [132, 5, 1, 167, 255, 178, 132, 4, 1, 167, 255, 160, 29, 172]
abbrev dktX3_looked_4 : List UInt8 := dkwX3_looked_4 ++ []
def dkwX3_looked_3 : List UInt8 := [29, 28, 153, 0, 13, 21, 6, 21, 7, 184, 0, 83, 167, 0, 8, 21, 6, 21, 7, 96, 184, 0, 87, 62]
abbrev dktX3_looked_3 : List UInt8 := dkwX3_looked_3 ++ dktX3_looked_4
def dkwX3_looked_2 : List UInt8 := [180, 0, 37, 112, 100, 184, 0, 65, 54, 6, 21, 4, 27, 42, 180, 0, 37, 108, 100, 184, 0, 65, 54, 7]
abbrev dktX3_looked_2 : List UInt8 := dkwX3_looked_2 ++ dktX3_looked_3
def dkwX3_looked_1 : List UInt8 := [180, 0, 37, 163, 0, 75, 42, 21, 5, 21, 4, 182, 0, 58, 153, 0, 6, 167, 0, 55, 21, 5, 27, 42]
abbrev dktX3_looked_1 : List UInt8 := dkwX3_looked_1 ++ dktX3_looked_2
def dkwX3_looked_0 : List UInt8 := [17, 4, 0, 62, 2, 54, 4, 21, 4, 42, 180, 0, 40, 163, 0, 93, 2, 54, 5, 21, 5, 42]
abbrev dktX3_looked_0 : List UInt8 := dkwX3_looked_0 ++ dktX3_looked_1
theorem dksX3_looked_0 : cX3_looked.data.toList.drop 0 = dktX3_looked_0 := by decide +kernel
theorem dksX3_looked_1 : cX3_looked.data.toList.drop 22 = dktX3_looked_1 := dk_seg dksX3_looked_0 22 rfl rfl
theorem dksX3_looked_2 : cX3_looked.data.toList.drop 46 = dktX3_looked_2 := dk_seg dksX3_looked_1 24 rfl rfl
theorem dksX3_looked_3 : cX3_looked.data.toList.drop 70 = dktX3_looked_3 := dk_seg dksX3_looked_2 24 rfl rfl
theorem dksX3_looked_4 : cX3_looked.data.toList.drop 94 = dktX3_looked_4 := dk_seg dksX3_looked_3 24 rfl rfl
theorem dX3_looked_0 : decode cX3_looked 0 = .ok (.sipush 1024, 3) := dk_17 4 0 (dk_at dksX3_looked_0 0 rfl rfl)
theorem dX3_looked_3 : decode cX3_looked 3 = .ok (.istore_n 3, 1) := dk_62 (dk_at dksX3_looked_0 3 rfl rfl)
theorem dX3_looked_4 : decode cX3_looked 4 = .ok (.iconst (-1), 1) := dk_2 (dk_at dksX3_looked_0 4 rfl rfl)
theorem dX3_looked_5 : decode cX3_looked 5 = .ok (.istore 4, 2) := dk_54 4 (dk_at dksX3_looked_0 5 rfl rfl)
theorem dX3_looked_7 : decode cX3_looked 7 = .ok (.iload 4, 2) := dk_21 4 (dk_at dksX3_looked_0 7 rfl rfl)
theorem dX3_looked_9 : decode cX3_looked 9 = .ok (.aload_n 0, 1) := dk_42 (dk_at dksX3_looked_0 9 rfl rfl)
theorem dX3_looked_10 : decode cX3_looked 10 = .ok (.getfield 40, 3) := dk_180 0 40 (dk_at dksX3_looked_0 10 rfl rfl)
theorem dX3_looked_13 : decode cX3_looked 13 = .ok (.if_icmp .gt 93, 3) := dk_163 0 93 (dk_at dksX3_looked_0 13 rfl rfl)
theorem dX3_looked_16 : decode cX3_looked 16 = .ok (.iconst (-1), 1) := dk_2 (dk_at dksX3_looked_0 16 rfl rfl)
theorem dX3_looked_17 : decode cX3_looked 17 = .ok (.istore 5, 2) := dk_54 5 (dk_at dksX3_looked_0 17 rfl rfl)
theorem dX3_looked_19 : decode cX3_looked 19 = .ok (.iload 5, 2) := dk_21 5 (dk_at dksX3_looked_0 19 rfl rfl)
theorem dX3_looked_21 : decode cX3_looked 21 = .ok (.aload_n 0, 1) := dk_42 (dk_at dksX3_looked_0 21 rfl rfl)
theorem dX3_looked_22 : decode cX3_looked 22 = .ok (.getfield 37, 3) := dk_180 0 37 (dk_at dksX3_looked_1 0 rfl rfl)
theorem dX3_looked_25 : decode cX3_looked 25 = .ok (.if_icmp .gt 75, 3) := dk_163 0 75 (dk_at dksX3_looked_1 3 rfl rfl)
theorem dX3_looked_28 : decode cX3_looked 28 = .ok (.aload_n 0, 1) := dk_42 (dk_at dksX3_looked_1 6 rfl rfl)
theorem dX3_looked_29 : decode cX3_looked 29 = .ok (.iload 5, 2) := dk_21 5 (dk_at dksX3_looked_1 7 rfl rfl)
theorem dX3_looked_31 : decode cX3_looked 31 = .ok (.iload 4, 2) := dk_21 4 (dk_at dksX3_looked_1 9 rfl rfl)
theorem dX3_looked_33 : decode cX3_looked 33 = .ok (.invokevirtual 58, 3) := dk_182 0 58 (dk_at dksX3_looked_1 11 rfl rfl)
theorem dX3_looked_36 : decode cX3_looked 36 = .ok (.ifCond .eq 6, 3) := dk_153 0 6 (dk_at dksX3_looked_1 14 rfl rfl)
theorem dX3_looked_39 : decode cX3_looked 39 = .ok (.goto 55, 3) := dk_167 0 55 (dk_at dksX3_looked_1 17 rfl rfl)
theorem dX3_looked_42 : decode cX3_looked 42 = .ok (.iload 5, 2) := dk_21 5 (dk_at dksX3_looked_1 20 rfl rfl)
theorem dX3_looked_44 : decode cX3_looked 44 = .ok (.iload_n 1, 1) := dk_27 (dk_at dksX3_looked_1 22 rfl rfl)
theorem dX3_looked_45 : decode cX3_looked 45 = .ok (.aload_n 0, 1) := dk_42 (dk_at dksX3_looked_1 23 rfl rfl)
theorem dX3_looked_46 : decode cX3_looked 46 = .ok (.getfield 37, 3) := dk_180 0 37 (dk_at dksX3_looked_2 0 rfl rfl)
theorem dX3_looked_49 : decode cX3_looked 49 = .ok (.irem, 1) := dk_112 (dk_at dksX3_looked_2 3 rfl rfl)
theorem dX3_looked_50 : decode cX3_looked 50 = .ok (.isub, 1) := dk_100 (dk_at dksX3_looked_2 4 rfl rfl)
theorem dX3_looked_51 : decode cX3_looked 51 = .ok (.invokestatic 65, 3) := dk_184 0 65 (dk_at dksX3_looked_2 5 rfl rfl)
theorem dX3_looked_54 : decode cX3_looked 54 = .ok (.istore 6, 2) := dk_54 6 (dk_at dksX3_looked_2 8 rfl rfl)
theorem dX3_looked_56 : decode cX3_looked 56 = .ok (.iload 4, 2) := dk_21 4 (dk_at dksX3_looked_2 10 rfl rfl)
theorem dX3_looked_58 : decode cX3_looked 58 = .ok (.iload_n 1, 1) := dk_27 (dk_at dksX3_looked_2 12 rfl rfl)
theorem dX3_looked_59 : decode cX3_looked 59 = .ok (.aload_n 0, 1) := dk_42 (dk_at dksX3_looked_2 13 rfl rfl)
theorem dX3_looked_60 : decode cX3_looked 60 = .ok (.getfield 37, 3) := dk_180 0 37 (dk_at dksX3_looked_2 14 rfl rfl)
theorem dX3_looked_63 : decode cX3_looked 63 = .ok (.idiv, 1) := dk_108 (dk_at dksX3_looked_2 17 rfl rfl)
theorem dX3_looked_64 : decode cX3_looked 64 = .ok (.isub, 1) := dk_100 (dk_at dksX3_looked_2 18 rfl rfl)
theorem dX3_looked_65 : decode cX3_looked 65 = .ok (.invokestatic 65, 3) := dk_184 0 65 (dk_at dksX3_looked_2 19 rfl rfl)
theorem dX3_looked_68 : decode cX3_looked 68 = .ok (.istore 7, 2) := dk_54 7 (dk_at dksX3_looked_2 22 rfl rfl)
theorem dX3_looked_70 : decode cX3_looked 70 = .ok (.iload_n 3, 1) := dk_29 (dk_at dksX3_looked_3 0 rfl rfl)
theorem dX3_looked_71 : decode cX3_looked 71 = .ok (.iload_n 2, 1) := dk_28 (dk_at dksX3_looked_3 1 rfl rfl)
theorem dX3_looked_72 : decode cX3_looked 72 = .ok (.ifCond .eq 13, 3) := dk_153 0 13 (dk_at dksX3_looked_3 2 rfl rfl)
theorem dX3_looked_75 : decode cX3_looked 75 = .ok (.iload 6, 2) := dk_21 6 (dk_at dksX3_looked_3 5 rfl rfl)
theorem dX3_looked_77 : decode cX3_looked 77 = .ok (.iload 7, 2) := dk_21 7 (dk_at dksX3_looked_3 7 rfl rfl)
theorem dX3_looked_79 : decode cX3_looked 79 = .ok (.invokestatic 83, 3) := dk_184 0 83 (dk_at dksX3_looked_3 9 rfl rfl)
theorem dX3_looked_82 : decode cX3_looked 82 = .ok (.goto 8, 3) := dk_167 0 8 (dk_at dksX3_looked_3 12 rfl rfl)
theorem dX3_looked_85 : decode cX3_looked 85 = .ok (.iload 6, 2) := dk_21 6 (dk_at dksX3_looked_3 15 rfl rfl)
theorem dX3_looked_87 : decode cX3_looked 87 = .ok (.iload 7, 2) := dk_21 7 (dk_at dksX3_looked_3 17 rfl rfl)
theorem dX3_looked_89 : decode cX3_looked 89 = .ok (.iadd, 1) := dk_96 (dk_at dksX3_looked_3 19 rfl rfl)
theorem dX3_looked_90 : decode cX3_looked 90 = .ok (.invokestatic 87, 3) := dk_184 0 87 (dk_at dksX3_looked_3 20 rfl rfl)
theorem dX3_looked_93 : decode cX3_looked 93 = .ok (.istore_n 3, 1) := dk_62 (dk_at dksX3_looked_3 23 rfl rfl)
theorem dX3_looked_94 : decode cX3_looked 94 = .ok (.iinc 5 1, 3) := dk_132 5 1 (dk_at dksX3_looked_4 0 rfl rfl)
theorem dX3_looked_97 : decode cX3_looked 97 = .ok (.goto (-78), 3) := dk_167 255 178 (dk_at dksX3_looked_4 3 rfl rfl)
theorem dX3_looked_100 : decode cX3_looked 100 = .ok (.iinc 4 1, 3) := dk_132 4 1 (dk_at dksX3_looked_4 6 rfl rfl)
theorem dX3_looked_103 : decode cX3_looked 103 = .ok (.goto (-96), 3) := dk_167 255 160 (dk_at dksX3_looked_4 9 rfl rfl)
theorem dX3_looked_106 : decode cX3_looked 106 = .ok (.iload_n 3, 1) := dk_29 (dk_at dksX3_looked_4 12 rfl rfl)
theorem dX3_looked_107 : decode cX3_looked 107 = .ok (.ireturn, 1) := dk_172 (dk_at dksX3_looked_4 13 rfl rfl)
abbrev cX3_checksum : ByteArray := prog_11_method_72_code
def yX3_checksum : MethodName := ⟨RX3, "checksum", "()J"⟩
def dkwX3_checksum_6 : List UInt8 := [184, 0, 189, 64, 132, 3, 1, 167, 255, 189, 31, 173]
abbrev dktX3_checksum_6 : List UInt8 := dkwX3_checksum_6 ++ []
def dkwX3_checksum_5 : List UInt8 := [180, 0, 22, 29, 46, 133, 184, 0, 189, 42, 180, 0, 13, 29, 51, 153, 0, 7, 10, 167, 0, 4, 9]
abbrev dktX3_checksum_5 : List UInt8 := dkwX3_checksum_5 ++ dktX3_checksum_6
def dkwX3_checksum_4 : List UInt8 := [51, 153, 0, 7, 10, 167, 0, 4, 9, 184, 0, 189, 42, 180, 0, 26, 29, 46, 133, 184, 0, 189, 42]
abbrev dktX3_checksum_4 : List UInt8 := dkwX3_checksum_4 ++ dktX3_checksum_5
def dkwX3_checksum_3 : List UInt8 := [167, 255, 233, 42, 4, 182, 0, 150, 3, 62, 29, 42, 182, 0, 61, 162, 0, 65, 31, 42, 180, 0, 7, 29]
abbrev dktX3_checksum_3 : List UInt8 := dkwX3_checksum_3 ++ dktX3_checksum_4
def dkwX3_checksum_2 : List UInt8 := [42, 182, 0, 61, 162, 0, 21, 42, 180, 0, 26, 29, 42, 180, 0, 22, 29, 46, 79, 132, 3, 1]
abbrev dktX3_checksum_2 : List UInt8 := dkwX3_checksum_2 ++ dktX3_checksum_3
def dkwX3_checksum_1 : List UInt8 := [182, 0, 166, 133, 184, 0, 189, 42, 182, 0, 175, 133, 184, 0, 189, 64, 42, 3, 182, 0, 150, 3, 62, 29]
abbrev dktX3_checksum_1 : List UInt8 := dkwX3_checksum_1 ++ dktX3_checksum_2
def dkwX3_checksum_0 : List UInt8 := [42, 3, 181, 0, 33, 9, 42, 180, 0, 37, 133, 184, 0, 189, 42, 180, 0, 40, 133, 184, 0, 189, 42]
abbrev dktX3_checksum_0 : List UInt8 := dkwX3_checksum_0 ++ dktX3_checksum_1
theorem dksX3_checksum_0 : cX3_checksum.data.toList.drop 0 = dktX3_checksum_0 := by decide +kernel
theorem dksX3_checksum_1 : cX3_checksum.data.toList.drop 23 = dktX3_checksum_1 := dk_seg dksX3_checksum_0 23 rfl rfl
theorem dksX3_checksum_2 : cX3_checksum.data.toList.drop 47 = dktX3_checksum_2 := dk_seg dksX3_checksum_1 24 rfl rfl
theorem dksX3_checksum_3 : cX3_checksum.data.toList.drop 69 = dktX3_checksum_3 := dk_seg dksX3_checksum_2 22 rfl rfl
theorem dksX3_checksum_4 : cX3_checksum.data.toList.drop 93 = dktX3_checksum_4 := dk_seg dksX3_checksum_3 24 rfl rfl
theorem dksX3_checksum_5 : cX3_checksum.data.toList.drop 116 = dktX3_checksum_5 := dk_seg dksX3_checksum_4 23 rfl rfl
theorem dksX3_checksum_6 : cX3_checksum.data.toList.drop 139 = dktX3_checksum_6 := dk_seg dksX3_checksum_5 23 rfl rfl
theorem dX3_checksum_0 : decode cX3_checksum 0 = .ok (.aload_n 0, 1) := dk_42 (dk_at dksX3_checksum_0 0 rfl rfl)
theorem dX3_checksum_1 : decode cX3_checksum 1 = .ok (.iconst 0, 1) := dk_3 (dk_at dksX3_checksum_0 1 rfl rfl)
theorem dX3_checksum_2 : decode cX3_checksum 2 = .ok (.putfield 33, 3) := dk_181 0 33 (dk_at dksX3_checksum_0 2 rfl rfl)
theorem dX3_checksum_5 : decode cX3_checksum 5 = .ok (.lconst 0, 1) := dk_9 (dk_at dksX3_checksum_0 5 rfl rfl)
theorem dX3_checksum_6 : decode cX3_checksum 6 = .ok (.aload_n 0, 1) := dk_42 (dk_at dksX3_checksum_0 6 rfl rfl)
theorem dX3_checksum_7 : decode cX3_checksum 7 = .ok (.getfield 37, 3) := dk_180 0 37 (dk_at dksX3_checksum_0 7 rfl rfl)
theorem dX3_checksum_10 : decode cX3_checksum 10 = .ok (.i2l, 1) := dk_133 (dk_at dksX3_checksum_0 10 rfl rfl)
theorem dX3_checksum_11 : decode cX3_checksum 11 = .ok (.invokestatic 189, 3) := dk_184 0 189 (dk_at dksX3_checksum_0 11 rfl rfl)
theorem dX3_checksum_14 : decode cX3_checksum 14 = .ok (.aload_n 0, 1) := dk_42 (dk_at dksX3_checksum_0 14 rfl rfl)
theorem dX3_checksum_15 : decode cX3_checksum 15 = .ok (.getfield 40, 3) := dk_180 0 40 (dk_at dksX3_checksum_0 15 rfl rfl)
theorem dX3_checksum_18 : decode cX3_checksum 18 = .ok (.i2l, 1) := dk_133 (dk_at dksX3_checksum_0 18 rfl rfl)
theorem dX3_checksum_19 : decode cX3_checksum 19 = .ok (.invokestatic 189, 3) := dk_184 0 189 (dk_at dksX3_checksum_0 19 rfl rfl)
theorem dX3_checksum_22 : decode cX3_checksum 22 = .ok (.aload_n 0, 1) := dk_42 (dk_at dksX3_checksum_0 22 rfl rfl)
theorem dX3_checksum_23 : decode cX3_checksum 23 = .ok (.invokevirtual 166, 3) := dk_182 0 166 (dk_at dksX3_checksum_1 0 rfl rfl)
theorem dX3_checksum_26 : decode cX3_checksum 26 = .ok (.i2l, 1) := dk_133 (dk_at dksX3_checksum_1 3 rfl rfl)
theorem dX3_checksum_27 : decode cX3_checksum 27 = .ok (.invokestatic 189, 3) := dk_184 0 189 (dk_at dksX3_checksum_1 4 rfl rfl)
theorem dX3_checksum_30 : decode cX3_checksum 30 = .ok (.aload_n 0, 1) := dk_42 (dk_at dksX3_checksum_1 7 rfl rfl)
theorem dX3_checksum_31 : decode cX3_checksum 31 = .ok (.invokevirtual 175, 3) := dk_182 0 175 (dk_at dksX3_checksum_1 8 rfl rfl)
theorem dX3_checksum_34 : decode cX3_checksum 34 = .ok (.i2l, 1) := dk_133 (dk_at dksX3_checksum_1 11 rfl rfl)
theorem dX3_checksum_35 : decode cX3_checksum 35 = .ok (.invokestatic 189, 3) := dk_184 0 189 (dk_at dksX3_checksum_1 12 rfl rfl)
theorem dX3_checksum_38 : decode cX3_checksum 38 = .ok (.lstore_n 1, 1) := dk_64 (dk_at dksX3_checksum_1 15 rfl rfl)
theorem dX3_checksum_39 : decode cX3_checksum 39 = .ok (.aload_n 0, 1) := dk_42 (dk_at dksX3_checksum_1 16 rfl rfl)
theorem dX3_checksum_40 : decode cX3_checksum 40 = .ok (.iconst 0, 1) := dk_3 (dk_at dksX3_checksum_1 17 rfl rfl)
theorem dX3_checksum_41 : decode cX3_checksum 41 = .ok (.invokevirtual 150, 3) := dk_182 0 150 (dk_at dksX3_checksum_1 18 rfl rfl)
theorem dX3_checksum_44 : decode cX3_checksum 44 = .ok (.iconst 0, 1) := dk_3 (dk_at dksX3_checksum_1 21 rfl rfl)
theorem dX3_checksum_45 : decode cX3_checksum 45 = .ok (.istore_n 3, 1) := dk_62 (dk_at dksX3_checksum_1 22 rfl rfl)
theorem dX3_checksum_46 : decode cX3_checksum 46 = .ok (.iload_n 3, 1) := dk_29 (dk_at dksX3_checksum_1 23 rfl rfl)
theorem dX3_checksum_47 : decode cX3_checksum 47 = .ok (.aload_n 0, 1) := dk_42 (dk_at dksX3_checksum_2 0 rfl rfl)
theorem dX3_checksum_48 : decode cX3_checksum 48 = .ok (.invokevirtual 61, 3) := dk_182 0 61 (dk_at dksX3_checksum_2 1 rfl rfl)
theorem dX3_checksum_51 : decode cX3_checksum 51 = .ok (.if_icmp .ge 21, 3) := dk_162 0 21 (dk_at dksX3_checksum_2 4 rfl rfl)
theorem dX3_checksum_54 : decode cX3_checksum 54 = .ok (.aload_n 0, 1) := dk_42 (dk_at dksX3_checksum_2 7 rfl rfl)
theorem dX3_checksum_55 : decode cX3_checksum 55 = .ok (.getfield 26, 3) := dk_180 0 26 (dk_at dksX3_checksum_2 8 rfl rfl)
theorem dX3_checksum_58 : decode cX3_checksum 58 = .ok (.iload_n 3, 1) := dk_29 (dk_at dksX3_checksum_2 11 rfl rfl)
theorem dX3_checksum_59 : decode cX3_checksum 59 = .ok (.aload_n 0, 1) := dk_42 (dk_at dksX3_checksum_2 12 rfl rfl)
theorem dX3_checksum_60 : decode cX3_checksum 60 = .ok (.getfield 22, 3) := dk_180 0 22 (dk_at dksX3_checksum_2 13 rfl rfl)
theorem dX3_checksum_63 : decode cX3_checksum 63 = .ok (.iload_n 3, 1) := dk_29 (dk_at dksX3_checksum_2 16 rfl rfl)
theorem dX3_checksum_64 : decode cX3_checksum 64 = .ok (.iaload, 1) := dk_46 (dk_at dksX3_checksum_2 17 rfl rfl)
theorem dX3_checksum_65 : decode cX3_checksum 65 = .ok (.iastore, 1) := dk_79 (dk_at dksX3_checksum_2 18 rfl rfl)
theorem dX3_checksum_66 : decode cX3_checksum 66 = .ok (.iinc 3 1, 3) := dk_132 3 1 (dk_at dksX3_checksum_2 19 rfl rfl)
theorem dX3_checksum_69 : decode cX3_checksum 69 = .ok (.goto (-23), 3) := dk_167 255 233 (dk_at dksX3_checksum_3 0 rfl rfl)
theorem dX3_checksum_72 : decode cX3_checksum 72 = .ok (.aload_n 0, 1) := dk_42 (dk_at dksX3_checksum_3 3 rfl rfl)
theorem dX3_checksum_73 : decode cX3_checksum 73 = .ok (.iconst 1, 1) := dk_4 (dk_at dksX3_checksum_3 4 rfl rfl)
theorem dX3_checksum_74 : decode cX3_checksum 74 = .ok (.invokevirtual 150, 3) := dk_182 0 150 (dk_at dksX3_checksum_3 5 rfl rfl)
theorem dX3_checksum_77 : decode cX3_checksum 77 = .ok (.iconst 0, 1) := dk_3 (dk_at dksX3_checksum_3 8 rfl rfl)
theorem dX3_checksum_78 : decode cX3_checksum 78 = .ok (.istore_n 3, 1) := dk_62 (dk_at dksX3_checksum_3 9 rfl rfl)
theorem dX3_checksum_79 : decode cX3_checksum 79 = .ok (.iload_n 3, 1) := dk_29 (dk_at dksX3_checksum_3 10 rfl rfl)
theorem dX3_checksum_80 : decode cX3_checksum 80 = .ok (.aload_n 0, 1) := dk_42 (dk_at dksX3_checksum_3 11 rfl rfl)
theorem dX3_checksum_81 : decode cX3_checksum 81 = .ok (.invokevirtual 61, 3) := dk_182 0 61 (dk_at dksX3_checksum_3 12 rfl rfl)
theorem dX3_checksum_84 : decode cX3_checksum 84 = .ok (.if_icmp .ge 65, 3) := dk_162 0 65 (dk_at dksX3_checksum_3 15 rfl rfl)
theorem dX3_checksum_87 : decode cX3_checksum 87 = .ok (.lload_n 1, 1) := dk_31 (dk_at dksX3_checksum_3 18 rfl rfl)
theorem dX3_checksum_88 : decode cX3_checksum 88 = .ok (.aload_n 0, 1) := dk_42 (dk_at dksX3_checksum_3 19 rfl rfl)
theorem dX3_checksum_89 : decode cX3_checksum 89 = .ok (.getfield 7, 3) := dk_180 0 7 (dk_at dksX3_checksum_3 20 rfl rfl)
theorem dX3_checksum_92 : decode cX3_checksum 92 = .ok (.iload_n 3, 1) := dk_29 (dk_at dksX3_checksum_3 23 rfl rfl)
theorem dX3_checksum_93 : decode cX3_checksum 93 = .ok (.baload, 1) := dk_51 (dk_at dksX3_checksum_4 0 rfl rfl)
theorem dX3_checksum_94 : decode cX3_checksum 94 = .ok (.ifCond .eq 7, 3) := dk_153 0 7 (dk_at dksX3_checksum_4 1 rfl rfl)
theorem dX3_checksum_97 : decode cX3_checksum 97 = .ok (.lconst 1, 1) := dk_10 (dk_at dksX3_checksum_4 4 rfl rfl)
theorem dX3_checksum_98 : decode cX3_checksum 98 = .ok (.goto 4, 3) := dk_167 0 4 (dk_at dksX3_checksum_4 5 rfl rfl)
theorem dX3_checksum_101 : decode cX3_checksum 101 = .ok (.lconst 0, 1) := dk_9 (dk_at dksX3_checksum_4 8 rfl rfl)
theorem dX3_checksum_102 : decode cX3_checksum 102 = .ok (.invokestatic 189, 3) := dk_184 0 189 (dk_at dksX3_checksum_4 9 rfl rfl)
theorem dX3_checksum_105 : decode cX3_checksum 105 = .ok (.aload_n 0, 1) := dk_42 (dk_at dksX3_checksum_4 12 rfl rfl)
theorem dX3_checksum_106 : decode cX3_checksum 106 = .ok (.getfield 26, 3) := dk_180 0 26 (dk_at dksX3_checksum_4 13 rfl rfl)
theorem dX3_checksum_109 : decode cX3_checksum 109 = .ok (.iload_n 3, 1) := dk_29 (dk_at dksX3_checksum_4 16 rfl rfl)
theorem dX3_checksum_110 : decode cX3_checksum 110 = .ok (.iaload, 1) := dk_46 (dk_at dksX3_checksum_4 17 rfl rfl)
theorem dX3_checksum_111 : decode cX3_checksum 111 = .ok (.i2l, 1) := dk_133 (dk_at dksX3_checksum_4 18 rfl rfl)
theorem dX3_checksum_112 : decode cX3_checksum 112 = .ok (.invokestatic 189, 3) := dk_184 0 189 (dk_at dksX3_checksum_4 19 rfl rfl)
theorem dX3_checksum_115 : decode cX3_checksum 115 = .ok (.aload_n 0, 1) := dk_42 (dk_at dksX3_checksum_4 22 rfl rfl)
theorem dX3_checksum_116 : decode cX3_checksum 116 = .ok (.getfield 22, 3) := dk_180 0 22 (dk_at dksX3_checksum_5 0 rfl rfl)
theorem dX3_checksum_119 : decode cX3_checksum 119 = .ok (.iload_n 3, 1) := dk_29 (dk_at dksX3_checksum_5 3 rfl rfl)
theorem dX3_checksum_120 : decode cX3_checksum 120 = .ok (.iaload, 1) := dk_46 (dk_at dksX3_checksum_5 4 rfl rfl)
theorem dX3_checksum_121 : decode cX3_checksum 121 = .ok (.i2l, 1) := dk_133 (dk_at dksX3_checksum_5 5 rfl rfl)
theorem dX3_checksum_122 : decode cX3_checksum 122 = .ok (.invokestatic 189, 3) := dk_184 0 189 (dk_at dksX3_checksum_5 6 rfl rfl)
theorem dX3_checksum_125 : decode cX3_checksum 125 = .ok (.aload_n 0, 1) := dk_42 (dk_at dksX3_checksum_5 9 rfl rfl)
theorem dX3_checksum_126 : decode cX3_checksum 126 = .ok (.getfield 13, 3) := dk_180 0 13 (dk_at dksX3_checksum_5 10 rfl rfl)
theorem dX3_checksum_129 : decode cX3_checksum 129 = .ok (.iload_n 3, 1) := dk_29 (dk_at dksX3_checksum_5 13 rfl rfl)
theorem dX3_checksum_130 : decode cX3_checksum 130 = .ok (.baload, 1) := dk_51 (dk_at dksX3_checksum_5 14 rfl rfl)
theorem dX3_checksum_131 : decode cX3_checksum 131 = .ok (.ifCond .eq 7, 3) := dk_153 0 7 (dk_at dksX3_checksum_5 15 rfl rfl)
theorem dX3_checksum_134 : decode cX3_checksum 134 = .ok (.lconst 1, 1) := dk_10 (dk_at dksX3_checksum_5 18 rfl rfl)
theorem dX3_checksum_135 : decode cX3_checksum 135 = .ok (.goto 4, 3) := dk_167 0 4 (dk_at dksX3_checksum_5 19 rfl rfl)
theorem dX3_checksum_138 : decode cX3_checksum 138 = .ok (.lconst 0, 1) := dk_9 (dk_at dksX3_checksum_5 22 rfl rfl)
theorem dX3_checksum_139 : decode cX3_checksum 139 = .ok (.invokestatic 189, 3) := dk_184 0 189 (dk_at dksX3_checksum_6 0 rfl rfl)
theorem dX3_checksum_142 : decode cX3_checksum 142 = .ok (.lstore_n 1, 1) := dk_64 (dk_at dksX3_checksum_6 3 rfl rfl)
theorem dX3_checksum_143 : decode cX3_checksum 143 = .ok (.iinc 3 1, 3) := dk_132 3 1 (dk_at dksX3_checksum_6 4 rfl rfl)
theorem dX3_checksum_146 : decode cX3_checksum 146 = .ok (.goto (-67), 3) := dk_167 255 189 (dk_at dksX3_checksum_6 7 rfl rfl)
theorem dX3_checksum_149 : decode cX3_checksum 149 = .ok (.lload_n 1, 1) := dk_31 (dk_at dksX3_checksum_6 10 rfl rfl)
theorem dX3_checksum_150 : decode cX3_checksum 150 = .ok (.lreturn, 1) := dk_173 (dk_at dksX3_checksum_6 11 rfl rfl)
abbrev cX3_mixes : ByteArray := prog_11_method_71_code
def yX3_mixes : MethodName := ⟨RX3, "mixes", "(JJ)J"⟩
def dkwX3_mixes_0 : List UInt8 := [20, 0, 187, 30, 105, 32, 97, 173]
abbrev dktX3_mixes_0 : List UInt8 := dkwX3_mixes_0 ++ []
theorem dksX3_mixes_0 : cX3_mixes.data.toList.drop 0 = dktX3_mixes_0 := by decide +kernel
theorem dX3_mixes_0 : decode cX3_mixes 0 = .ok (.ldc2_w 187, 3) := dk_20 0 187 (dk_at dksX3_mixes_0 0 rfl rfl)
theorem dX3_mixes_3 : decode cX3_mixes 3 = .ok (.lload_n 0, 1) := dk_30 (dk_at dksX3_mixes_0 3 rfl rfl)
theorem dX3_mixes_4 : decode cX3_mixes 4 = .ok (.lmul, 1) := dk_105 (dk_at dksX3_mixes_0 4 rfl rfl)
theorem dX3_mixes_5 : decode cX3_mixes 5 = .ok (.lload_n 2, 1) := dk_32 (dk_at dksX3_mixes_0 5 rfl rfl)
theorem dX3_mixes_6 : decode cX3_mixes 6 = .ok (.ladd, 1) := dk_97 (dk_at dksX3_mixes_0 6 rfl rfl)
theorem dX3_mixes_7 : decode cX3_mixes 7 = .ok (.lreturn, 1) := dk_173 (dk_at dksX3_mixes_0 7 rfl rfl)
theorem q62 : (Jvm.Cond.initialized "TufaStepsModel") ∈ lw_all := lw_g (lw_at lw_m1 4 rfl) rfl
theorem q895 : (Jvm.Cond.selects "TufaStepsModel" ({ cls := "java/lang/Object", name := "getClass", desc := "()Ljava/lang/Class;" } : Jvm.MethodName) ({ cls := "java/lang/Object", name := "getClass", desc := "()Ljava/lang/Class;" } : Jvm.MethodName)) ∈ lw_all := lw_g (lw_at lw_m4 117 rfl) rfl
theorem q1361 : (Jvm.Cond.instantiable "TufaStepsModel" (9 : Nat)) ∈ lw_all := lw_g (lw_at lw_m6 103 rfl) rfl
theorem q1363 : (Jvm.Cond.instanceMethod ({ cls := "TufaStepsModel", name := "<init>", desc := "()V" } : Jvm.MethodName)) ∈ lw_all := lw_g (lw_at lw_m6 105 rfl) rfl
theorem q1364 : (Jvm.Cond.code ({ cls := "TufaStepsModel", name := "<init>", desc := "()V" } : Jvm.MethodName) prog_11_method_1_code (1 : Nat) (Option.none : Option Jvm.ClassFile.FieldType)) ∈ lw_all := lw_g (lw_at lw_m6 106 rfl) rfl
theorem q1365 : (Jvm.Cond.methodLink "TufaStepsModel" (1 : Nat) ({ cls := "java/lang/Object", name := "<init>", desc := "()V" } : Jvm.MethodName)) ∈ lw_all := lw_g (lw_at lw_m6 107 rfl) rfl
theorem q1366 : (Jvm.Cond.methodLink "TufaStepsModel" (29 : Nat) ({ cls := "TufaStepsModel", name := "begins", desc := "(II)V" } : Jvm.MethodName)) ∈ lw_all := lw_g (lw_at lw_m6 108 rfl) rfl
theorem q1367 : (Jvm.Cond.privateMethod ({ cls := "TufaStepsModel", name := "begins", desc := "(II)V" } : Jvm.MethodName)) ∈ lw_tbl := lw_at lw_m6 109 rfl
theorem q1368 : (Jvm.Cond.instanceMethod ({ cls := "TufaStepsModel", name := "begins", desc := "(II)V" } : Jvm.MethodName)) ∈ lw_all := lw_g (lw_at lw_m6 110 rfl) rfl
theorem q1369 : (Jvm.Cond.code ({ cls := "TufaStepsModel", name := "begins", desc := "(II)V" } : Jvm.MethodName) prog_11_method_5_code (4 : Nat) (Option.none : Option Jvm.ClassFile.FieldType)) ∈ lw_all := lw_g (lw_at lw_m6 111 rfl) rfl
theorem q1370 : (Jvm.Cond.fieldLink "TufaStepsModel" (33 : Nat) "TufaStepsModel" "thrown" "I") ∈ lw_all := lw_g (lw_at lw_m6 112 rfl) rfl
theorem q1371 : (Jvm.Cond.fieldLink "TufaStepsModel" (7 : Nat) "TufaStepsModel" "ink" "[Z") ∈ lw_all := lw_g (lw_at lw_m6 113 rfl) rfl
theorem q1372 : (Jvm.Cond.fieldLink "TufaStepsModel" (13 : Nat) "TufaStepsModel" "stored" "[Z") ∈ lw_all := lw_g (lw_at lw_m6 114 rfl) rfl
theorem q1373 : (Jvm.Cond.fieldLink "TufaStepsModel" (16 : Nat) "TufaStepsModel" "kept" "[Z") ∈ lw_all := lw_g (lw_at lw_m6 115 rfl) rfl
theorem q1374 : (Jvm.Cond.fieldLink "TufaStepsModel" (19 : Nat) "TufaStepsModel" "goes" "[Z") ∈ lw_all := lw_g (lw_at lw_m6 116 rfl) rfl
theorem q1375 : (Jvm.Cond.fieldLink "TufaStepsModel" (22 : Nat) "TufaStepsModel" "depth" "[I") ∈ lw_all := lw_g (lw_at lw_m6 117 rfl) rfl
theorem q1376 : (Jvm.Cond.fieldLink "TufaStepsModel" (26 : Nat) "TufaStepsModel" "part" "[I") ∈ lw_all := lw_g (lw_at lw_m6 118 rfl) rfl
theorem q1377 : (Jvm.Cond.fieldLink "TufaStepsModel" (37 : Nat) "TufaStepsModel" "wide" "I") ∈ lw_all := lw_g (lw_at lw_m6 119 rfl) rfl
theorem q1378 : (Jvm.Cond.fieldLink "TufaStepsModel" (40 : Nat) "TufaStepsModel" "high" "I") ∈ lw_all := lw_g (lw_at lw_m6 120 rfl) rfl
theorem q1379 : (Jvm.Cond.lays "TufaStepsModel" "TufaStepsModel" "thrown" "I") ∈ lw_all := lw_g (lw_at lw_m6 121 rfl) rfl
theorem q1380 : (Jvm.Cond.soleField "TufaStepsModel" "thrown") ∈ lw_all := lw_g (lw_at lw_m6 122 rfl) rfl
theorem q1381 : (Jvm.Cond.laysFinal "TufaStepsModel" "TufaStepsModel" "ink" "[Z") ∈ lw_all := lw_g (lw_at lw_m6 123 rfl) rfl
theorem q1382 : (Jvm.Cond.soleField "TufaStepsModel" "ink") ∈ lw_all := lw_g (lw_at lw_m6 124 rfl) rfl
theorem q1383 : (Jvm.Cond.laysFinal "TufaStepsModel" "TufaStepsModel" "stored" "[Z") ∈ lw_all := lw_g (lw_at lw_m6 125 rfl) rfl
theorem q1384 : (Jvm.Cond.soleField "TufaStepsModel" "stored") ∈ lw_all := lw_g (lw_at lw_m6 126 rfl) rfl
theorem q1385 : (Jvm.Cond.laysFinal "TufaStepsModel" "TufaStepsModel" "kept" "[Z") ∈ lw_all := lw_g (lw_at lw_m6 127 rfl) rfl
theorem q1386 : (Jvm.Cond.soleField "TufaStepsModel" "kept") ∈ lw_all := lw_g (lw_at lw_m6 128 rfl) rfl
theorem q1387 : (Jvm.Cond.laysFinal "TufaStepsModel" "TufaStepsModel" "goes" "[Z") ∈ lw_all := lw_g (lw_at lw_m6 129 rfl) rfl
theorem q1388 : (Jvm.Cond.soleField "TufaStepsModel" "goes") ∈ lw_all := lw_g (lw_at lw_m6 130 rfl) rfl
theorem q1389 : (Jvm.Cond.laysFinal "TufaStepsModel" "TufaStepsModel" "depth" "[I") ∈ lw_all := lw_g (lw_at lw_m6 131 rfl) rfl
theorem q1390 : (Jvm.Cond.soleField "TufaStepsModel" "depth") ∈ lw_all := lw_g (lw_at lw_m6 132 rfl) rfl
theorem q1391 : (Jvm.Cond.laysFinal "TufaStepsModel" "TufaStepsModel" "part" "[I") ∈ lw_all := lw_g (lw_at lw_m6 133 rfl) rfl
theorem q1392 : (Jvm.Cond.soleField "TufaStepsModel" "part") ∈ lw_all := lw_g (lw_at lw_m6 134 rfl) rfl
theorem q1393 : (Jvm.Cond.lays "TufaStepsModel" "TufaStepsModel" "wide" "I") ∈ lw_all := lw_g (lw_at lw_m6 135 rfl) rfl
theorem q1394 : (Jvm.Cond.soleField "TufaStepsModel" "wide") ∈ lw_all := lw_g (lw_at lw_m6 136 rfl) rfl
theorem q1395 : (Jvm.Cond.lays "TufaStepsModel" "TufaStepsModel" "high" "I") ∈ lw_all := lw_g (lw_at lw_m6 137 rfl) rfl
theorem q1396 : (Jvm.Cond.soleField "TufaStepsModel" "high") ∈ lw_all := lw_g (lw_at lw_m6 138 rfl) rfl
theorem q1397 : (Jvm.Cond.superclass "TufaStepsModel" "java/lang/Object") ∈ lw_all := lw_g (lw_at lw_m6 139 rfl) rfl
theorem q1400 : (Jvm.Cond.instanceMethod ({ cls := "TufaStepsModel", name := "thrown", desc := "()I" } : Jvm.MethodName)) ∈ lw_all := lw_g (lw_at lw_m6 142 rfl) rfl
theorem q1401 : (Jvm.Cond.selects "TufaStepsModel" ({ cls := "TufaStepsModel", name := "thrown", desc := "()I" } : Jvm.MethodName) ({ cls := "TufaStepsModel", name := "thrown", desc := "()I" } : Jvm.MethodName)) ∈ lw_all := lw_g (lw_at lw_m6 143 rfl) rfl
theorem q1402 : (Jvm.Cond.code ({ cls := "TufaStepsModel", name := "thrown", desc := "()I" } : Jvm.MethodName) prog_11_method_2_code (1 : Nat) (Option.some Jvm.ClassFile.FieldType.int)) ∈ lw_all := lw_g (lw_at lw_m6 144 rfl) rfl
theorem q1404 : (Jvm.Cond.instanceMethod ({ cls := "TufaStepsModel", name := "open", desc := "(II)I" } : Jvm.MethodName)) ∈ lw_all := lw_g (lw_at lw_m6 146 rfl) rfl
theorem q1405 : (Jvm.Cond.selects "TufaStepsModel" ({ cls := "TufaStepsModel", name := "open", desc := "(II)I" } : Jvm.MethodName) ({ cls := "TufaStepsModel", name := "open", desc := "(II)I" } : Jvm.MethodName)) ∈ lw_all := lw_g (lw_at lw_m6 147 rfl) rfl
theorem q1406 : (Jvm.Cond.code ({ cls := "TufaStepsModel", name := "open", desc := "(II)I" } : Jvm.MethodName) prog_11_method_36_code (4 : Nat) (Option.some Jvm.ClassFile.FieldType.int)) ∈ lw_all := lw_g (lw_at lw_m6 148 rfl) rfl
theorem q1407 : (Jvm.Cond.methodLink "TufaStepsModel" (43 : Nat) ({ cls := "TufaStepsModel", name := "isIn", desc := "(III)Z" } : Jvm.MethodName)) ∈ lw_all := lw_g (lw_at lw_m6 149 rfl) rfl
theorem q1408 : (Jvm.Cond.static ({ cls := "TufaStepsModel", name := "isIn", desc := "(III)Z" } : Jvm.MethodName)) ∈ lw_all := lw_g (lw_at lw_m6 150 rfl) rfl
theorem q1409 : (Jvm.Cond.code ({ cls := "TufaStepsModel", name := "isIn", desc := "(III)Z" } : Jvm.MethodName) prog_11_method_3_code (3 : Nat) (Option.some Jvm.ClassFile.FieldType.boolean)) ∈ lw_all := lw_g (lw_at lw_m6 151 rfl) rfl
theorem q1410 : (Jvm.Cond.methodLink "TufaStepsModel" (121 : Nat) ({ cls := "TufaStepsModel", name := "right", desc := "(ZI)Z" } : Jvm.MethodName)) ∈ lw_all := lw_g (lw_at lw_m6 152 rfl) rfl
theorem q1411 : (Jvm.Cond.privateMethod ({ cls := "TufaStepsModel", name := "right", desc := "(ZI)Z" } : Jvm.MethodName)) ∈ lw_tbl := lw_at lw_m6 153 rfl
theorem q1412 : (Jvm.Cond.instanceMethod ({ cls := "TufaStepsModel", name := "right", desc := "(ZI)Z" } : Jvm.MethodName)) ∈ lw_all := lw_g (lw_at lw_m6 154 rfl) rfl
theorem q1413 : (Jvm.Cond.code ({ cls := "TufaStepsModel", name := "right", desc := "(ZI)Z" } : Jvm.MethodName) prog_11_method_4_code (3 : Nat) (Option.some Jvm.ClassFile.FieldType.boolean)) ∈ lw_all := lw_g (lw_at lw_m6 155 rfl) rfl
theorem q1415 : (Jvm.Cond.instanceMethod ({ cls := "TufaStepsModel", name := "set", desc := "(IIZ)Z" } : Jvm.MethodName)) ∈ lw_all := lw_g (lw_at lw_m6 157 rfl) rfl
theorem q1416 : (Jvm.Cond.selects "TufaStepsModel" ({ cls := "TufaStepsModel", name := "set", desc := "(IIZ)Z" } : Jvm.MethodName) ({ cls := "TufaStepsModel", name := "set", desc := "(IIZ)Z" } : Jvm.MethodName)) ∈ lw_all := lw_g (lw_at lw_m6 158 rfl) rfl
theorem q1417 : (Jvm.Cond.code ({ cls := "TufaStepsModel", name := "set", desc := "(IIZ)Z" } : Jvm.MethodName) prog_11_method_37_code (4 : Nat) (Option.some Jvm.ClassFile.FieldType.boolean)) ∈ lw_all := lw_g (lw_at lw_m6 159 rfl) rfl
theorem q1418 : (Jvm.Cond.methodLink "TufaStepsModel" (125 : Nat) ({ cls := "TufaStepsModel", name := "cell", desc := "(II)Z" } : Jvm.MethodName)) ∈ lw_all := lw_g (lw_at lw_m6 160 rfl) rfl
theorem q1419 : (Jvm.Cond.privateMethod ({ cls := "TufaStepsModel", name := "cell", desc := "(II)Z" } : Jvm.MethodName)) ∈ lw_tbl := lw_at lw_m6 161 rfl
theorem q1420 : (Jvm.Cond.instanceMethod ({ cls := "TufaStepsModel", name := "cell", desc := "(II)Z" } : Jvm.MethodName)) ∈ lw_all := lw_g (lw_at lw_m6 162 rfl) rfl
theorem q1421 : (Jvm.Cond.code ({ cls := "TufaStepsModel", name := "cell", desc := "(II)Z" } : Jvm.MethodName) prog_11_method_34_code (3 : Nat) (Option.some Jvm.ClassFile.FieldType.boolean)) ∈ lw_all := lw_g (lw_at lw_m6 163 rfl) rfl
theorem q1422 : (Jvm.Cond.methodLink "TufaStepsModel" (47 : Nat) ({ cls := "TufaStepsModel", name := "isBoard", desc := "(II)Z" } : Jvm.MethodName)) ∈ lw_all := lw_g (lw_at lw_m6 164 rfl) rfl
theorem q1423 : (Jvm.Cond.privateMethod ({ cls := "TufaStepsModel", name := "isBoard", desc := "(II)Z" } : Jvm.MethodName)) ∈ lw_tbl := lw_at lw_m6 165 rfl
theorem q1424 : (Jvm.Cond.instanceMethod ({ cls := "TufaStepsModel", name := "isBoard", desc := "(II)Z" } : Jvm.MethodName)) ∈ lw_all := lw_g (lw_at lw_m6 166 rfl) rfl
theorem q1425 : (Jvm.Cond.code ({ cls := "TufaStepsModel", name := "isBoard", desc := "(II)Z" } : Jvm.MethodName) prog_11_method_7_code (3 : Nat) (Option.some Jvm.ClassFile.FieldType.boolean)) ∈ lw_all := lw_g (lw_at lw_m6 167 rfl) rfl
theorem q1426 : (Jvm.Cond.methodLink "TufaStepsModel" (70 : Nat) ({ cls := "TufaStepsModel", name := "draws", desc := "(IIZ)I" } : Jvm.MethodName)) ∈ lw_all := lw_g (lw_at lw_m6 168 rfl) rfl
theorem q1427 : (Jvm.Cond.privateMethod ({ cls := "TufaStepsModel", name := "draws", desc := "(IIZ)I" } : Jvm.MethodName)) ∈ lw_tbl := lw_at lw_m6 169 rfl
theorem q1428 : (Jvm.Cond.instanceMethod ({ cls := "TufaStepsModel", name := "draws", desc := "(IIZ)I" } : Jvm.MethodName)) ∈ lw_all := lw_g (lw_at lw_m6 170 rfl) rfl
theorem q1429 : (Jvm.Cond.code ({ cls := "TufaStepsModel", name := "draws", desc := "(IIZ)I" } : Jvm.MethodName) prog_11_method_9_code (4 : Nat) (Option.some Jvm.ClassFile.FieldType.int)) ∈ lw_all := lw_g (lw_at lw_m6 171 rfl) rfl
theorem q1431 : (Jvm.Cond.instanceMethod ({ cls := "TufaStepsModel", name := "line", desc := "(IIIIZ)I" } : Jvm.MethodName)) ∈ lw_all := lw_g (lw_at lw_m6 173 rfl) rfl
theorem q1432 : (Jvm.Cond.selects "TufaStepsModel" ({ cls := "TufaStepsModel", name := "line", desc := "(IIIIZ)I" } : Jvm.MethodName) ({ cls := "TufaStepsModel", name := "line", desc := "(IIIIZ)I" } : Jvm.MethodName)) ∈ lw_all := lw_g (lw_at lw_m6 174 rfl) rfl
theorem q1433 : (Jvm.Cond.code ({ cls := "TufaStepsModel", name := "line", desc := "(IIIIZ)I" } : Jvm.MethodName) prog_11_method_38_code (6 : Nat) (Option.some Jvm.ClassFile.FieldType.int)) ∈ lw_all := lw_g (lw_at lw_m6 175 rfl) rfl
theorem q1434 : (Jvm.Cond.methodLink "TufaStepsModel" (128 : Nat) ({ cls := "TufaStepsModel", name := "isNear", desc := "(I)Z" } : Jvm.MethodName)) ∈ lw_all := lw_g (lw_at lw_m6 176 rfl) rfl
theorem q1435 : (Jvm.Cond.static ({ cls := "TufaStepsModel", name := "isNear", desc := "(I)Z" } : Jvm.MethodName)) ∈ lw_all := lw_g (lw_at lw_m6 177 rfl) rfl
theorem q1436 : (Jvm.Cond.code ({ cls := "TufaStepsModel", name := "isNear", desc := "(I)Z" } : Jvm.MethodName) prog_11_method_35_code (1 : Nat) (Option.some Jvm.ClassFile.FieldType.boolean)) ∈ lw_all := lw_g (lw_at lw_m6 178 rfl) rfl
theorem q1437 : (Jvm.Cond.methodLink "TufaStepsModel" (131 : Nat) ({ cls := "TufaStepsModel", name := "lines", desc := "(IIIIZ)I" } : Jvm.MethodName)) ∈ lw_all := lw_g (lw_at lw_m6 179 rfl) rfl
theorem q1438 : (Jvm.Cond.privateMethod ({ cls := "TufaStepsModel", name := "lines", desc := "(IIIIZ)I" } : Jvm.MethodName)) ∈ lw_tbl := lw_at lw_m6 180 rfl
theorem q1439 : (Jvm.Cond.instanceMethod ({ cls := "TufaStepsModel", name := "lines", desc := "(IIIIZ)I" } : Jvm.MethodName)) ∈ lw_all := lw_g (lw_at lw_m6 181 rfl) rfl
theorem q1440 : (Jvm.Cond.code ({ cls := "TufaStepsModel", name := "lines", desc := "(IIIIZ)I" } : Jvm.MethodName) prog_11_method_14_code (13 : Nat) (Option.some Jvm.ClassFile.FieldType.int)) ∈ lw_all := lw_g (lw_at lw_m6 182 rfl) rfl
theorem q1441 : (Jvm.Cond.methodLink "TufaStepsModel" (65 : Nat) ({ cls := "java/lang/Math", name := "abs", desc := "(I)I" } : Jvm.MethodName)) ∈ lw_all := lw_g (lw_at lw_m6 183 rfl) rfl
theorem q1442 : (Jvm.Cond.methodLink "TufaStepsModel" (74 : Nat) ({ cls := "java/lang/Integer", name := "signum", desc := "(I)I" } : Jvm.MethodName)) ∈ lw_all := lw_g (lw_at lw_m6 184 rfl) rfl
theorem q1444 : (Jvm.Cond.instanceMethod ({ cls := "TufaStepsModel", name := "circle", desc := "(IIIZ)I" } : Jvm.MethodName)) ∈ lw_all := lw_g (lw_at lw_m6 186 rfl) rfl
theorem q1445 : (Jvm.Cond.selects "TufaStepsModel" ({ cls := "TufaStepsModel", name := "circle", desc := "(IIIZ)I" } : Jvm.MethodName) ({ cls := "TufaStepsModel", name := "circle", desc := "(IIIZ)I" } : Jvm.MethodName)) ∈ lw_all := lw_g (lw_at lw_m6 187 rfl) rfl
theorem q1446 : (Jvm.Cond.code ({ cls := "TufaStepsModel", name := "circle", desc := "(IIIZ)I" } : Jvm.MethodName) prog_11_method_39_code (5 : Nat) (Option.some Jvm.ClassFile.FieldType.int)) ∈ lw_all := lw_g (lw_at lw_m6 188 rfl) rfl
theorem q1447 : (Jvm.Cond.methodLink "TufaStepsModel" (134 : Nat) ({ cls := "TufaStepsModel", name := "circles", desc := "(IIIZ)I" } : Jvm.MethodName)) ∈ lw_all := lw_g (lw_at lw_m6 189 rfl) rfl
theorem q1448 : (Jvm.Cond.privateMethod ({ cls := "TufaStepsModel", name := "circles", desc := "(IIIZ)I" } : Jvm.MethodName)) ∈ lw_tbl := lw_at lw_m6 190 rfl
theorem q1449 : (Jvm.Cond.instanceMethod ({ cls := "TufaStepsModel", name := "circles", desc := "(IIIZ)I" } : Jvm.MethodName)) ∈ lw_all := lw_g (lw_at lw_m6 191 rfl) rfl
theorem q1450 : (Jvm.Cond.code ({ cls := "TufaStepsModel", name := "circles", desc := "(IIIZ)I" } : Jvm.MethodName) prog_11_method_16_code (9 : Nat) (Option.some Jvm.ClassFile.FieldType.int)) ∈ lw_all := lw_g (lw_at lw_m6 192 rfl) rfl
theorem q1451 : (Jvm.Cond.methodLink "TufaStepsModel" (79 : Nat) ({ cls := "TufaStepsModel", name := "eight", desc := "(IIIIZ)I" } : Jvm.MethodName)) ∈ lw_all := lw_g (lw_at lw_m6 193 rfl) rfl
theorem q1452 : (Jvm.Cond.privateMethod ({ cls := "TufaStepsModel", name := "eight", desc := "(IIIIZ)I" } : Jvm.MethodName)) ∈ lw_tbl := lw_at lw_m6 194 rfl
theorem q1453 : (Jvm.Cond.instanceMethod ({ cls := "TufaStepsModel", name := "eight", desc := "(IIIIZ)I" } : Jvm.MethodName)) ∈ lw_all := lw_g (lw_at lw_m6 195 rfl) rfl
theorem q1454 : (Jvm.Cond.code ({ cls := "TufaStepsModel", name := "eight", desc := "(IIIIZ)I" } : Jvm.MethodName) prog_11_method_15_code (10 : Nat) (Option.some Jvm.ClassFile.FieldType.int)) ∈ lw_all := lw_g (lw_at lw_m6 196 rfl) rfl
theorem q1456 : (Jvm.Cond.instanceMethod ({ cls := "TufaStepsModel", name := "fill", desc := "(II)I" } : Jvm.MethodName)) ∈ lw_all := lw_g (lw_at lw_m6 198 rfl) rfl
theorem q1457 : (Jvm.Cond.selects "TufaStepsModel" ({ cls := "TufaStepsModel", name := "fill", desc := "(II)I" } : Jvm.MethodName) ({ cls := "TufaStepsModel", name := "fill", desc := "(II)I" } : Jvm.MethodName)) ∈ lw_all := lw_g (lw_at lw_m6 199 rfl) rfl
theorem q1458 : (Jvm.Cond.code ({ cls := "TufaStepsModel", name := "fill", desc := "(II)I" } : Jvm.MethodName) prog_11_method_40_code (5 : Nat) (Option.some Jvm.ClassFile.FieldType.int)) ∈ lw_all := lw_g (lw_at lw_m6 200 rfl) rfl
theorem q1459 : (Jvm.Cond.methodLink "TufaStepsModel" (58 : Nat) ({ cls := "TufaStepsModel", name := "isInk", desc := "(II)Z" } : Jvm.MethodName)) ∈ lw_all := lw_g (lw_at lw_m6 201 rfl) rfl
theorem q1460 : (Jvm.Cond.privateMethod ({ cls := "TufaStepsModel", name := "isInk", desc := "(II)Z" } : Jvm.MethodName)) ∈ lw_tbl := lw_at lw_m6 202 rfl
theorem q1461 : (Jvm.Cond.instanceMethod ({ cls := "TufaStepsModel", name := "isInk", desc := "(II)Z" } : Jvm.MethodName)) ∈ lw_all := lw_g (lw_at lw_m6 203 rfl) rfl
theorem q1462 : (Jvm.Cond.code ({ cls := "TufaStepsModel", name := "isInk", desc := "(II)Z" } : Jvm.MethodName) prog_11_method_8_code (3 : Nat) (Option.some Jvm.ClassFile.FieldType.boolean)) ∈ lw_all := lw_g (lw_at lw_m6 204 rfl) rfl
theorem q1463 : (Jvm.Cond.methodLink "TufaStepsModel" (107 : Nat) ({ cls := "TufaStepsModel", name := "spreads", desc := "(Z)V" } : Jvm.MethodName)) ∈ lw_all := lw_g (lw_at lw_m6 205 rfl) rfl
theorem q1464 : (Jvm.Cond.privateMethod ({ cls := "TufaStepsModel", name := "spreads", desc := "(Z)V" } : Jvm.MethodName)) ∈ lw_tbl := lw_at lw_m6 206 rfl
theorem q1465 : (Jvm.Cond.instanceMethod ({ cls := "TufaStepsModel", name := "spreads", desc := "(Z)V" } : Jvm.MethodName)) ∈ lw_all := lw_g (lw_at lw_m6 207 rfl) rfl
theorem q1466 : (Jvm.Cond.code ({ cls := "TufaStepsModel", name := "spreads", desc := "(Z)V" } : Jvm.MethodName) prog_11_method_24_code (8 : Nat) (Option.none : Option Jvm.ClassFile.FieldType)) ∈ lw_all := lw_g (lw_at lw_m6 208 rfl) rfl
theorem q1467 : (Jvm.Cond.methodLink "TufaStepsModel" (61 : Nat) ({ cls := "TufaStepsModel", name := "cells", desc := "()I" } : Jvm.MethodName)) ∈ lw_all := lw_g (lw_at lw_m6 209 rfl) rfl
theorem q1468 : (Jvm.Cond.privateMethod ({ cls := "TufaStepsModel", name := "cells", desc := "()I" } : Jvm.MethodName)) ∈ lw_tbl := lw_at lw_m6 210 rfl
theorem q1469 : (Jvm.Cond.instanceMethod ({ cls := "TufaStepsModel", name := "cells", desc := "()I" } : Jvm.MethodName)) ∈ lw_all := lw_g (lw_at lw_m6 211 rfl) rfl
theorem q1470 : (Jvm.Cond.code ({ cls := "TufaStepsModel", name := "cells", desc := "()I" } : Jvm.MethodName) prog_11_method_6_code (1 : Nat) (Option.some Jvm.ClassFile.FieldType.int)) ∈ lw_all := lw_g (lw_at lw_m6 212 rfl) rfl
theorem q1471 : (Jvm.Cond.methodLink "TufaStepsModel" (51 : Nat) ({ cls := "TufaStepsModel", name := "stepX", desc := "(I)I" } : Jvm.MethodName)) ∈ lw_all := lw_g (lw_at lw_m6 213 rfl) rfl
theorem q1472 : (Jvm.Cond.static ({ cls := "TufaStepsModel", name := "stepX", desc := "(I)I" } : Jvm.MethodName)) ∈ lw_all := lw_g (lw_at lw_m6 214 rfl) rfl
theorem q1473 : (Jvm.Cond.code ({ cls := "TufaStepsModel", name := "stepX", desc := "(I)I" } : Jvm.MethodName) prog_11_method_10_code (1 : Nat) (Option.some Jvm.ClassFile.FieldType.int)) ∈ lw_all := lw_g (lw_at lw_m6 215 rfl) rfl
theorem q1474 : (Jvm.Cond.methodLink "TufaStepsModel" (55 : Nat) ({ cls := "TufaStepsModel", name := "stepY", desc := "(I)I" } : Jvm.MethodName)) ∈ lw_all := lw_g (lw_at lw_m6 216 rfl) rfl
theorem q1475 : (Jvm.Cond.static ({ cls := "TufaStepsModel", name := "stepY", desc := "(I)I" } : Jvm.MethodName)) ∈ lw_all := lw_g (lw_at lw_m6 217 rfl) rfl
theorem q1476 : (Jvm.Cond.code ({ cls := "TufaStepsModel", name := "stepY", desc := "(I)I" } : Jvm.MethodName) prog_11_method_11_code (1 : Nat) (Option.some Jvm.ClassFile.FieldType.int)) ∈ lw_all := lw_g (lw_at lw_m6 218 rfl) rfl
theorem q1477 : (Jvm.Cond.methodLink "TufaStepsModel" (138 : Nat) ({ cls := "TufaStepsModel", name := "sizeOf", desc := "(I)I" } : Jvm.MethodName)) ∈ lw_all := lw_g (lw_at lw_m6 219 rfl) rfl
theorem q1478 : (Jvm.Cond.privateMethod ({ cls := "TufaStepsModel", name := "sizeOf", desc := "(I)I" } : Jvm.MethodName)) ∈ lw_tbl := lw_at lw_m6 220 rfl
theorem q1479 : (Jvm.Cond.instanceMethod ({ cls := "TufaStepsModel", name := "sizeOf", desc := "(I)I" } : Jvm.MethodName)) ∈ lw_all := lw_g (lw_at lw_m6 221 rfl) rfl
theorem q1480 : (Jvm.Cond.code ({ cls := "TufaStepsModel", name := "sizeOf", desc := "(I)I" } : Jvm.MethodName) prog_11_method_28_code (4 : Nat) (Option.some Jvm.ClassFile.FieldType.int)) ∈ lw_all := lw_g (lw_at lw_m6 222 rfl) rfl
theorem q1482 : (Jvm.Cond.instanceMethod ({ cls := "TufaStepsModel", name := "invert", desc := "()I" } : Jvm.MethodName)) ∈ lw_all := lw_g (lw_at lw_m6 224 rfl) rfl
theorem q1483 : (Jvm.Cond.selects "TufaStepsModel" ({ cls := "TufaStepsModel", name := "invert", desc := "()I" } : Jvm.MethodName) ({ cls := "TufaStepsModel", name := "invert", desc := "()I" } : Jvm.MethodName)) ∈ lw_all := lw_g (lw_at lw_m6 225 rfl) rfl
theorem q1484 : (Jvm.Cond.code ({ cls := "TufaStepsModel", name := "invert", desc := "()I" } : Jvm.MethodName) prog_11_method_41_code (2 : Nat) (Option.some Jvm.ClassFile.FieldType.int)) ∈ lw_all := lw_g (lw_at lw_m6 226 rfl) rfl
theorem q1485 : (Jvm.Cond.methodLink "TufaStepsModel" (141 : Nat) ({ cls := "TufaStepsModel", name := "count", desc := "()I" } : Jvm.MethodName)) ∈ lw_all := lw_g (lw_at lw_m6 227 rfl) rfl
theorem q1486 : (Jvm.Cond.privateMethod ({ cls := "TufaStepsModel", name := "count", desc := "()I" } : Jvm.MethodName)) ∈ lw_tbl := lw_at lw_m6 228 rfl
theorem q1487 : (Jvm.Cond.instanceMethod ({ cls := "TufaStepsModel", name := "count", desc := "()I" } : Jvm.MethodName)) ∈ lw_all := lw_g (lw_at lw_m6 229 rfl) rfl
theorem q1488 : (Jvm.Cond.code ({ cls := "TufaStepsModel", name := "count", desc := "()I" } : Jvm.MethodName) prog_11_method_13_code (3 : Nat) (Option.some Jvm.ClassFile.FieldType.int)) ∈ lw_all := lw_g (lw_at lw_m6 230 rfl) rfl
theorem q1490 : (Jvm.Cond.instanceMethod ({ cls := "TufaStepsModel", name := "store", desc := "()I" } : Jvm.MethodName)) ∈ lw_all := lw_g (lw_at lw_m6 232 rfl) rfl
theorem q1491 : (Jvm.Cond.selects "TufaStepsModel" ({ cls := "TufaStepsModel", name := "store", desc := "()I" } : Jvm.MethodName) ({ cls := "TufaStepsModel", name := "store", desc := "()I" } : Jvm.MethodName)) ∈ lw_all := lw_g (lw_at lw_m6 233 rfl) rfl
theorem q1492 : (Jvm.Cond.code ({ cls := "TufaStepsModel", name := "store", desc := "()I" } : Jvm.MethodName) prog_11_method_42_code (3 : Nat) (Option.some Jvm.ClassFile.FieldType.int)) ∈ lw_all := lw_g (lw_at lw_m6 234 rfl) rfl
theorem q1494 : (Jvm.Cond.instanceMethod ({ cls := "TufaStepsModel", name := "join", desc := "(I)I" } : Jvm.MethodName)) ∈ lw_all := lw_g (lw_at lw_m6 236 rfl) rfl
theorem q1495 : (Jvm.Cond.selects "TufaStepsModel" ({ cls := "TufaStepsModel", name := "join", desc := "(I)I" } : Jvm.MethodName) ({ cls := "TufaStepsModel", name := "join", desc := "(I)I" } : Jvm.MethodName)) ∈ lw_all := lw_g (lw_at lw_m6 237 rfl) rfl
theorem q1496 : (Jvm.Cond.code ({ cls := "TufaStepsModel", name := "join", desc := "(I)I" } : Jvm.MethodName) prog_11_method_43_code (3 : Nat) (Option.some Jvm.ClassFile.FieldType.int)) ∈ lw_all := lw_g (lw_at lw_m6 238 rfl) rfl
theorem q1498 : (Jvm.Cond.instanceMethod ({ cls := "TufaStepsModel", name := "thin", desc := "()I" } : Jvm.MethodName)) ∈ lw_all := lw_g (lw_at lw_m7 0 rfl) rfl
theorem q1499 : (Jvm.Cond.selects "TufaStepsModel" ({ cls := "TufaStepsModel", name := "thin", desc := "()I" } : Jvm.MethodName) ({ cls := "TufaStepsModel", name := "thin", desc := "()I" } : Jvm.MethodName)) ∈ lw_all := lw_g (lw_at lw_m7 1 rfl) rfl
theorem q1500 : (Jvm.Cond.code ({ cls := "TufaStepsModel", name := "thin", desc := "()I" } : Jvm.MethodName) prog_11_method_44_code (1 : Nat) (Option.some Jvm.ClassFile.FieldType.int)) ∈ lw_all := lw_g (lw_at lw_m7 2 rfl) rfl
theorem q1501 : (Jvm.Cond.methodLink "TufaStepsModel" (144 : Nat) ({ cls := "TufaStepsModel", name := "thins", desc := "()I" } : Jvm.MethodName)) ∈ lw_all := lw_g (lw_at lw_m7 3 rfl) rfl
theorem q1502 : (Jvm.Cond.privateMethod ({ cls := "TufaStepsModel", name := "thins", desc := "()I" } : Jvm.MethodName)) ∈ lw_tbl := lw_at lw_m7 4 rfl
theorem q1503 : (Jvm.Cond.instanceMethod ({ cls := "TufaStepsModel", name := "thins", desc := "()I" } : Jvm.MethodName)) ∈ lw_all := lw_g (lw_at lw_m7 5 rfl) rfl
theorem q1504 : (Jvm.Cond.code ({ cls := "TufaStepsModel", name := "thins", desc := "()I" } : Jvm.MethodName) prog_11_method_23_code (2 : Nat) (Option.some Jvm.ClassFile.FieldType.int)) ∈ lw_all := lw_g (lw_at lw_m7 6 rfl) rfl
theorem q1505 : (Jvm.Cond.methodLink "TufaStepsModel" (103 : Nat) ({ cls := "TufaStepsModel", name := "half", desc := "(Z)I" } : Jvm.MethodName)) ∈ lw_all := lw_g (lw_at lw_m7 7 rfl) rfl
theorem q1506 : (Jvm.Cond.privateMethod ({ cls := "TufaStepsModel", name := "half", desc := "(Z)I" } : Jvm.MethodName)) ∈ lw_tbl := lw_at lw_m7 8 rfl
theorem q1507 : (Jvm.Cond.instanceMethod ({ cls := "TufaStepsModel", name := "half", desc := "(Z)I" } : Jvm.MethodName)) ∈ lw_all := lw_g (lw_at lw_m7 9 rfl) rfl
theorem q1508 : (Jvm.Cond.code ({ cls := "TufaStepsModel", name := "half", desc := "(Z)I" } : Jvm.MethodName) prog_11_method_22_code (4 : Nat) (Option.some Jvm.ClassFile.FieldType.int)) ∈ lw_all := lw_g (lw_at lw_m7 10 rfl) rfl
theorem q1509 : (Jvm.Cond.methodLink "TufaStepsModel" (99 : Nat) ({ cls := "TufaStepsModel", name := "isThin", desc := "(IZ)Z" } : Jvm.MethodName)) ∈ lw_all := lw_g (lw_at lw_m7 11 rfl) rfl
theorem q1510 : (Jvm.Cond.privateMethod ({ cls := "TufaStepsModel", name := "isThin", desc := "(IZ)Z" } : Jvm.MethodName)) ∈ lw_tbl := lw_at lw_m7 12 rfl
theorem q1511 : (Jvm.Cond.instanceMethod ({ cls := "TufaStepsModel", name := "isThin", desc := "(IZ)Z" } : Jvm.MethodName)) ∈ lw_all := lw_g (lw_at lw_m7 13 rfl) rfl
theorem q1512 : (Jvm.Cond.code ({ cls := "TufaStepsModel", name := "isThin", desc := "(IZ)Z" } : Jvm.MethodName) prog_11_method_21_code (7 : Nat) (Option.some Jvm.ClassFile.FieldType.boolean)) ∈ lw_all := lw_g (lw_at lw_m7 14 rfl) rfl
theorem q1513 : (Jvm.Cond.methodLink "TufaStepsModel" (93 : Nat) ({ cls := "TufaStepsModel", name := "around", desc := "(I)I" } : Jvm.MethodName)) ∈ lw_all := lw_g (lw_at lw_m7 15 rfl) rfl
theorem q1514 : (Jvm.Cond.privateMethod ({ cls := "TufaStepsModel", name := "around", desc := "(I)I" } : Jvm.MethodName)) ∈ lw_tbl := lw_at lw_m7 16 rfl
theorem q1515 : (Jvm.Cond.instanceMethod ({ cls := "TufaStepsModel", name := "around", desc := "(I)I" } : Jvm.MethodName)) ∈ lw_all := lw_g (lw_at lw_m7 17 rfl) rfl
theorem q1516 : (Jvm.Cond.code ({ cls := "TufaStepsModel", name := "around", desc := "(I)I" } : Jvm.MethodName) prog_11_method_19_code (4 : Nat) (Option.some Jvm.ClassFile.FieldType.int)) ∈ lw_all := lw_g (lw_at lw_m7 18 rfl) rfl
theorem q1517 : (Jvm.Cond.methodLink "TufaStepsModel" (90 : Nat) ({ cls := "TufaStepsModel", name := "beside", desc := "(II)Z" } : Jvm.MethodName)) ∈ lw_all := lw_g (lw_at lw_m7 19 rfl) rfl
theorem q1518 : (Jvm.Cond.privateMethod ({ cls := "TufaStepsModel", name := "beside", desc := "(II)Z" } : Jvm.MethodName)) ∈ lw_tbl := lw_at lw_m7 20 rfl
theorem q1519 : (Jvm.Cond.instanceMethod ({ cls := "TufaStepsModel", name := "beside", desc := "(II)Z" } : Jvm.MethodName)) ∈ lw_all := lw_g (lw_at lw_m7 21 rfl) rfl
theorem q1520 : (Jvm.Cond.code ({ cls := "TufaStepsModel", name := "beside", desc := "(II)Z" } : Jvm.MethodName) prog_11_method_12_code (3 : Nat) (Option.some Jvm.ClassFile.FieldType.boolean)) ∈ lw_all := lw_g (lw_at lw_m7 22 rfl) rfl
theorem q1521 : (Jvm.Cond.methodLink "TufaStepsModel" (96 : Nat) ({ cls := "TufaStepsModel", name := "changes", desc := "(I)I" } : Jvm.MethodName)) ∈ lw_all := lw_g (lw_at lw_m7 23 rfl) rfl
theorem q1522 : (Jvm.Cond.privateMethod ({ cls := "TufaStepsModel", name := "changes", desc := "(I)I" } : Jvm.MethodName)) ∈ lw_tbl := lw_at lw_m7 24 rfl
theorem q1523 : (Jvm.Cond.instanceMethod ({ cls := "TufaStepsModel", name := "changes", desc := "(I)I" } : Jvm.MethodName)) ∈ lw_all := lw_g (lw_at lw_m7 25 rfl) rfl
theorem q1524 : (Jvm.Cond.code ({ cls := "TufaStepsModel", name := "changes", desc := "(I)I" } : Jvm.MethodName) prog_11_method_20_code (4 : Nat) (Option.some Jvm.ClassFile.FieldType.int)) ∈ lw_all := lw_g (lw_at lw_m7 26 rfl) rfl
theorem q1525 : (Jvm.Cond.methodLink "TufaStepsModel" (147 : Nat) ({ cls := "TufaStepsModel", name := "toldOf", desc := "(I)I" } : Jvm.MethodName)) ∈ lw_all := lw_g (lw_at lw_m7 27 rfl) rfl
theorem q1526 : (Jvm.Cond.privateMethod ({ cls := "TufaStepsModel", name := "toldOf", desc := "(I)I" } : Jvm.MethodName)) ∈ lw_tbl := lw_at lw_m7 28 rfl
theorem q1527 : (Jvm.Cond.instanceMethod ({ cls := "TufaStepsModel", name := "toldOf", desc := "(I)I" } : Jvm.MethodName)) ∈ lw_all := lw_g (lw_at lw_m7 29 rfl) rfl
theorem q1528 : (Jvm.Cond.code ({ cls := "TufaStepsModel", name := "toldOf", desc := "(I)I" } : Jvm.MethodName) prog_11_method_33_code (2 : Nat) (Option.some Jvm.ClassFile.FieldType.int)) ∈ lw_all := lw_g (lw_at lw_m7 30 rfl) rfl
theorem q1530 : (Jvm.Cond.instanceMethod ({ cls := "TufaStepsModel", name := "width", desc := "()I" } : Jvm.MethodName)) ∈ lw_all := lw_g (lw_at lw_m7 32 rfl) rfl
theorem q1531 : (Jvm.Cond.selects "TufaStepsModel" ({ cls := "TufaStepsModel", name := "width", desc := "()I" } : Jvm.MethodName) ({ cls := "TufaStepsModel", name := "width", desc := "()I" } : Jvm.MethodName)) ∈ lw_all := lw_g (lw_at lw_m7 33 rfl) rfl
theorem q1532 : (Jvm.Cond.code ({ cls := "TufaStepsModel", name := "width", desc := "()I" } : Jvm.MethodName) prog_11_method_45_code (1 : Nat) (Option.some Jvm.ClassFile.FieldType.int)) ∈ lw_all := lw_g (lw_at lw_m7 34 rfl) rfl
theorem q1534 : (Jvm.Cond.instanceMethod ({ cls := "TufaStepsModel", name := "height", desc := "()I" } : Jvm.MethodName)) ∈ lw_all := lw_g (lw_at lw_m7 36 rfl) rfl
theorem q1535 : (Jvm.Cond.selects "TufaStepsModel" ({ cls := "TufaStepsModel", name := "height", desc := "()I" } : Jvm.MethodName) ({ cls := "TufaStepsModel", name := "height", desc := "()I" } : Jvm.MethodName)) ∈ lw_all := lw_g (lw_at lw_m7 37 rfl) rfl
theorem q1536 : (Jvm.Cond.code ({ cls := "TufaStepsModel", name := "height", desc := "()I" } : Jvm.MethodName) prog_11_method_46_code (1 : Nat) (Option.some Jvm.ClassFile.FieldType.int)) ∈ lw_all := lw_g (lw_at lw_m7 38 rfl) rfl
theorem q1538 : (Jvm.Cond.instanceMethod ({ cls := "TufaStepsModel", name := "at", desc := "(II)Z" } : Jvm.MethodName)) ∈ lw_all := lw_g (lw_at lw_m7 40 rfl) rfl
theorem q1539 : (Jvm.Cond.selects "TufaStepsModel" ({ cls := "TufaStepsModel", name := "at", desc := "(II)Z" } : Jvm.MethodName) ({ cls := "TufaStepsModel", name := "at", desc := "(II)Z" } : Jvm.MethodName)) ∈ lw_all := lw_g (lw_at lw_m7 41 rfl) rfl
theorem q1540 : (Jvm.Cond.code ({ cls := "TufaStepsModel", name := "at", desc := "(II)Z" } : Jvm.MethodName) prog_11_method_47_code (3 : Nat) (Option.some Jvm.ClassFile.FieldType.boolean)) ∈ lw_all := lw_g (lw_at lw_m7 42 rfl) rfl
theorem q1542 : (Jvm.Cond.instanceMethod ({ cls := "TufaStepsModel", name := "ink", desc := "()I" } : Jvm.MethodName)) ∈ lw_all := lw_g (lw_at lw_m7 44 rfl) rfl
theorem q1543 : (Jvm.Cond.selects "TufaStepsModel" ({ cls := "TufaStepsModel", name := "ink", desc := "()I" } : Jvm.MethodName) ({ cls := "TufaStepsModel", name := "ink", desc := "()I" } : Jvm.MethodName)) ∈ lw_all := lw_g (lw_at lw_m7 45 rfl) rfl
theorem q1544 : (Jvm.Cond.code ({ cls := "TufaStepsModel", name := "ink", desc := "()I" } : Jvm.MethodName) prog_11_method_48_code (1 : Nat) (Option.some Jvm.ClassFile.FieldType.int)) ∈ lw_all := lw_g (lw_at lw_m7 46 rfl) rfl
theorem q1546 : (Jvm.Cond.instanceMethod ({ cls := "TufaStepsModel", name := "depthAt", desc := "(IIZ)I" } : Jvm.MethodName)) ∈ lw_all := lw_g (lw_at lw_m7 48 rfl) rfl
theorem q1547 : (Jvm.Cond.selects "TufaStepsModel" ({ cls := "TufaStepsModel", name := "depthAt", desc := "(IIZ)I" } : Jvm.MethodName) ({ cls := "TufaStepsModel", name := "depthAt", desc := "(IIZ)I" } : Jvm.MethodName)) ∈ lw_all := lw_g (lw_at lw_m7 49 rfl) rfl
theorem q1548 : (Jvm.Cond.code ({ cls := "TufaStepsModel", name := "depthAt", desc := "(IIZ)I" } : Jvm.MethodName) prog_11_method_50_code (4 : Nat) (Option.some Jvm.ClassFile.FieldType.int)) ∈ lw_all := lw_g (lw_at lw_m7 50 rfl) rfl
theorem q1549 : (Jvm.Cond.methodLink "TufaStepsModel" (153 : Nat) ({ cls := "TufaStepsModel", name := "depthOf", desc := "(IZ)I" } : Jvm.MethodName)) ∈ lw_all := lw_g (lw_at lw_m7 51 rfl) rfl
theorem q1550 : (Jvm.Cond.privateMethod ({ cls := "TufaStepsModel", name := "depthOf", desc := "(IZ)I" } : Jvm.MethodName)) ∈ lw_tbl := lw_at lw_m7 52 rfl
theorem q1551 : (Jvm.Cond.instanceMethod ({ cls := "TufaStepsModel", name := "depthOf", desc := "(IZ)I" } : Jvm.MethodName)) ∈ lw_all := lw_g (lw_at lw_m7 53 rfl) rfl
theorem q1552 : (Jvm.Cond.code ({ cls := "TufaStepsModel", name := "depthOf", desc := "(IZ)I" } : Jvm.MethodName) prog_11_method_49_code (3 : Nat) (Option.some Jvm.ClassFile.FieldType.int)) ∈ lw_all := lw_g (lw_at lw_m7 54 rfl) rfl
theorem q1553 : (Jvm.Cond.methodLink "TufaStepsModel" (150 : Nat) ({ cls := "TufaStepsModel", name := "depths", desc := "(Z)V" } : Jvm.MethodName)) ∈ lw_all := lw_g (lw_at lw_m7 55 rfl) rfl
theorem q1554 : (Jvm.Cond.privateMethod ({ cls := "TufaStepsModel", name := "depths", desc := "(Z)V" } : Jvm.MethodName)) ∈ lw_tbl := lw_at lw_m7 56 rfl
theorem q1555 : (Jvm.Cond.instanceMethod ({ cls := "TufaStepsModel", name := "depths", desc := "(Z)V" } : Jvm.MethodName)) ∈ lw_all := lw_g (lw_at lw_m7 57 rfl) rfl
theorem q1556 : (Jvm.Cond.code ({ cls := "TufaStepsModel", name := "depths", desc := "(Z)V" } : Jvm.MethodName) prog_11_method_17_code (7 : Nat) (Option.none : Option Jvm.ClassFile.FieldType)) ∈ lw_all := lw_g (lw_at lw_m7 58 rfl) rfl
theorem q1558 : (Jvm.Cond.instanceMethod ({ cls := "TufaStepsModel", name := "greatestDepth", desc := "(Z)I" } : Jvm.MethodName)) ∈ lw_all := lw_g (lw_at lw_m7 60 rfl) rfl
theorem q1559 : (Jvm.Cond.selects "TufaStepsModel" ({ cls := "TufaStepsModel", name := "greatestDepth", desc := "(Z)I" } : Jvm.MethodName) ({ cls := "TufaStepsModel", name := "greatestDepth", desc := "(Z)I" } : Jvm.MethodName)) ∈ lw_all := lw_g (lw_at lw_m7 61 rfl) rfl
theorem q1560 : (Jvm.Cond.code ({ cls := "TufaStepsModel", name := "greatestDepth", desc := "(Z)I" } : Jvm.MethodName) prog_11_method_51_code (4 : Nat) (Option.some Jvm.ClassFile.FieldType.int)) ∈ lw_all := lw_g (lw_at lw_m7 62 rfl) rfl
theorem q1561 : (Jvm.Cond.methodLink "TufaStepsModel" (83 : Nat) ({ cls := "java/lang/Math", name := "max", desc := "(II)I" } : Jvm.MethodName)) ∈ lw_all := lw_g (lw_at lw_m7 63 rfl) rfl
theorem q1563 : (Jvm.Cond.instanceMethod ({ cls := "TufaStepsModel", name := "depthSum", desc := "(Z)I" } : Jvm.MethodName)) ∈ lw_all := lw_g (lw_at lw_m7 65 rfl) rfl
theorem q1564 : (Jvm.Cond.selects "TufaStepsModel" ({ cls := "TufaStepsModel", name := "depthSum", desc := "(Z)I" } : Jvm.MethodName) ({ cls := "TufaStepsModel", name := "depthSum", desc := "(Z)I" } : Jvm.MethodName)) ∈ lw_all := lw_g (lw_at lw_m7 66 rfl) rfl
theorem q1565 : (Jvm.Cond.code ({ cls := "TufaStepsModel", name := "depthSum", desc := "(Z)I" } : Jvm.MethodName) prog_11_method_52_code (4 : Nat) (Option.some Jvm.ClassFile.FieldType.int)) ∈ lw_all := lw_g (lw_at lw_m7 67 rfl) rfl
theorem q1567 : (Jvm.Cond.instanceMethod ({ cls := "TufaStepsModel", name := "runs", desc := "(I)I" } : Jvm.MethodName)) ∈ lw_all := lw_g (lw_at lw_m7 69 rfl) rfl
theorem q1568 : (Jvm.Cond.selects "TufaStepsModel" ({ cls := "TufaStepsModel", name := "runs", desc := "(I)I" } : Jvm.MethodName) ({ cls := "TufaStepsModel", name := "runs", desc := "(I)I" } : Jvm.MethodName)) ∈ lw_all := lw_g (lw_at lw_m7 70 rfl) rfl
theorem q1569 : (Jvm.Cond.code ({ cls := "TufaStepsModel", name := "runs", desc := "(I)I" } : Jvm.MethodName) prog_11_method_54_code (2 : Nat) (Option.some Jvm.ClassFile.FieldType.int)) ∈ lw_all := lw_g (lw_at lw_m7 71 rfl) rfl
theorem q1570 : (Jvm.Cond.methodLink "TufaStepsModel" (157 : Nat) ({ cls := "TufaStepsModel", name := "row", desc := "(I)Z" } : Jvm.MethodName)) ∈ lw_all := lw_g (lw_at lw_m7 72 rfl) rfl
theorem q1571 : (Jvm.Cond.privateMethod ({ cls := "TufaStepsModel", name := "row", desc := "(I)Z" } : Jvm.MethodName)) ∈ lw_tbl := lw_at lw_m7 73 rfl
theorem q1572 : (Jvm.Cond.instanceMethod ({ cls := "TufaStepsModel", name := "row", desc := "(I)Z" } : Jvm.MethodName)) ∈ lw_all := lw_g (lw_at lw_m7 74 rfl) rfl
theorem q1573 : (Jvm.Cond.code ({ cls := "TufaStepsModel", name := "row", desc := "(I)Z" } : Jvm.MethodName) prog_11_method_53_code (2 : Nat) (Option.some Jvm.ClassFile.FieldType.boolean)) ∈ lw_all := lw_g (lw_at lw_m7 75 rfl) rfl
theorem q1574 : (Jvm.Cond.methodLink "TufaStepsModel" (118 : Nat) ({ cls := "TufaStepsModel", name := "runsOf", desc := "(I)I" } : Jvm.MethodName)) ∈ lw_all := lw_g (lw_at lw_m7 76 rfl) rfl
theorem q1575 : (Jvm.Cond.privateMethod ({ cls := "TufaStepsModel", name := "runsOf", desc := "(I)I" } : Jvm.MethodName)) ∈ lw_tbl := lw_at lw_m7 77 rfl
theorem q1576 : (Jvm.Cond.instanceMethod ({ cls := "TufaStepsModel", name := "runsOf", desc := "(I)I" } : Jvm.MethodName)) ∈ lw_all := lw_g (lw_at lw_m7 78 rfl) rfl
theorem q1577 : (Jvm.Cond.code ({ cls := "TufaStepsModel", name := "runsOf", desc := "(I)I" } : Jvm.MethodName) prog_11_method_30_code (4 : Nat) (Option.some Jvm.ClassFile.FieldType.int)) ∈ lw_all := lw_g (lw_at lw_m7 79 rfl) rfl
theorem q1578 : (Jvm.Cond.methodLink "TufaStepsModel" (115 : Nat) ({ cls := "TufaStepsModel", name := "isFirst", desc := "(II)Z" } : Jvm.MethodName)) ∈ lw_all := lw_g (lw_at lw_m7 80 rfl) rfl
theorem q1579 : (Jvm.Cond.privateMethod ({ cls := "TufaStepsModel", name := "isFirst", desc := "(II)Z" } : Jvm.MethodName)) ∈ lw_tbl := lw_at lw_m7 81 rfl
theorem q1580 : (Jvm.Cond.instanceMethod ({ cls := "TufaStepsModel", name := "isFirst", desc := "(II)Z" } : Jvm.MethodName)) ∈ lw_all := lw_g (lw_at lw_m7 82 rfl) rfl
theorem q1581 : (Jvm.Cond.code ({ cls := "TufaStepsModel", name := "isFirst", desc := "(II)Z" } : Jvm.MethodName) prog_11_method_29_code (3 : Nat) (Option.some Jvm.ClassFile.FieldType.boolean)) ∈ lw_all := lw_g (lw_at lw_m7 83 rfl) rfl
theorem q1583 : (Jvm.Cond.instanceMethod ({ cls := "TufaStepsModel", name := "runAt", desc := "(II)I" } : Jvm.MethodName)) ∈ lw_all := lw_g (lw_at lw_m7 85 rfl) rfl
theorem q1584 : (Jvm.Cond.selects "TufaStepsModel" ({ cls := "TufaStepsModel", name := "runAt", desc := "(II)I" } : Jvm.MethodName) ({ cls := "TufaStepsModel", name := "runAt", desc := "(II)I" } : Jvm.MethodName)) ∈ lw_all := lw_g (lw_at lw_m7 86 rfl) rfl
theorem q1585 : (Jvm.Cond.code ({ cls := "TufaStepsModel", name := "runAt", desc := "(II)I" } : Jvm.MethodName) prog_11_method_55_code (3 : Nat) (Option.some Jvm.ClassFile.FieldType.int)) ∈ lw_all := lw_g (lw_at lw_m7 87 rfl) rfl
theorem q1586 : (Jvm.Cond.methodLink "TufaStepsModel" (160 : Nat) ({ cls := "TufaStepsModel", name := "run", desc := "(II)I" } : Jvm.MethodName)) ∈ lw_all := lw_g (lw_at lw_m7 88 rfl) rfl
theorem q1587 : (Jvm.Cond.privateMethod ({ cls := "TufaStepsModel", name := "run", desc := "(II)I" } : Jvm.MethodName)) ∈ lw_tbl := lw_at lw_m7 89 rfl
theorem q1588 : (Jvm.Cond.instanceMethod ({ cls := "TufaStepsModel", name := "run", desc := "(II)I" } : Jvm.MethodName)) ∈ lw_all := lw_g (lw_at lw_m7 90 rfl) rfl
theorem q1589 : (Jvm.Cond.code ({ cls := "TufaStepsModel", name := "run", desc := "(II)I" } : Jvm.MethodName) prog_11_method_32_code (6 : Nat) (Option.some Jvm.ClassFile.FieldType.int)) ∈ lw_all := lw_g (lw_at lw_m7 91 rfl) rfl
theorem q1591 : (Jvm.Cond.instanceMethod ({ cls := "TufaStepsModel", name := "allRuns", desc := "()I" } : Jvm.MethodName)) ∈ lw_all := lw_g (lw_at lw_m7 93 rfl) rfl
theorem q1592 : (Jvm.Cond.selects "TufaStepsModel" ({ cls := "TufaStepsModel", name := "allRuns", desc := "()I" } : Jvm.MethodName) ({ cls := "TufaStepsModel", name := "allRuns", desc := "()I" } : Jvm.MethodName)) ∈ lw_all := lw_g (lw_at lw_m7 94 rfl) rfl
theorem q1593 : (Jvm.Cond.code ({ cls := "TufaStepsModel", name := "allRuns", desc := "()I" } : Jvm.MethodName) prog_11_method_56_code (1 : Nat) (Option.some Jvm.ClassFile.FieldType.int)) ∈ lw_all := lw_g (lw_at lw_m7 95 rfl) rfl
theorem q1594 : (Jvm.Cond.methodLink "TufaStepsModel" (163 : Nat) ({ cls := "TufaStepsModel", name := "runsInAll", desc := "()I" } : Jvm.MethodName)) ∈ lw_all := lw_g (lw_at lw_m7 96 rfl) rfl
theorem q1595 : (Jvm.Cond.privateMethod ({ cls := "TufaStepsModel", name := "runsInAll", desc := "()I" } : Jvm.MethodName)) ∈ lw_tbl := lw_at lw_m7 97 rfl
theorem q1596 : (Jvm.Cond.instanceMethod ({ cls := "TufaStepsModel", name := "runsInAll", desc := "()I" } : Jvm.MethodName)) ∈ lw_all := lw_g (lw_at lw_m7 98 rfl) rfl
theorem q1597 : (Jvm.Cond.code ({ cls := "TufaStepsModel", name := "runsInAll", desc := "()I" } : Jvm.MethodName) prog_11_method_31_code (3 : Nat) (Option.some Jvm.ClassFile.FieldType.int)) ∈ lw_all := lw_g (lw_at lw_m7 99 rfl) rfl
theorem q1599 : (Jvm.Cond.instanceMethod ({ cls := "TufaStepsModel", name := "parts", desc := "()I" } : Jvm.MethodName)) ∈ lw_all := lw_g (lw_at lw_m7 101 rfl) rfl
theorem q1600 : (Jvm.Cond.selects "TufaStepsModel" ({ cls := "TufaStepsModel", name := "parts", desc := "()I" } : Jvm.MethodName) ({ cls := "TufaStepsModel", name := "parts", desc := "()I" } : Jvm.MethodName)) ∈ lw_all := lw_g (lw_at lw_m7 102 rfl) rfl
theorem q1601 : (Jvm.Cond.code ({ cls := "TufaStepsModel", name := "parts", desc := "()I" } : Jvm.MethodName) prog_11_method_57_code (1 : Nat) (Option.some Jvm.ClassFile.FieldType.int)) ∈ lw_all := lw_g (lw_at lw_m7 103 rfl) rfl
theorem q1602 : (Jvm.Cond.methodLink "TufaStepsModel" (166 : Nat) ({ cls := "TufaStepsModel", name := "allParts", desc := "()I" } : Jvm.MethodName)) ∈ lw_all := lw_g (lw_at lw_m7 104 rfl) rfl
theorem q1603 : (Jvm.Cond.privateMethod ({ cls := "TufaStepsModel", name := "allParts", desc := "()I" } : Jvm.MethodName)) ∈ lw_tbl := lw_at lw_m7 105 rfl
theorem q1604 : (Jvm.Cond.instanceMethod ({ cls := "TufaStepsModel", name := "allParts", desc := "()I" } : Jvm.MethodName)) ∈ lw_all := lw_g (lw_at lw_m7 106 rfl) rfl
theorem q1605 : (Jvm.Cond.code ({ cls := "TufaStepsModel", name := "allParts", desc := "()I" } : Jvm.MethodName) prog_11_method_26_code (3 : Nat) (Option.some Jvm.ClassFile.FieldType.int)) ∈ lw_all := lw_g (lw_at lw_m7 107 rfl) rfl
theorem q1607 : (Jvm.Cond.instanceMethod ({ cls := "TufaStepsModel", name := "partOf", desc := "(II)I" } : Jvm.MethodName)) ∈ lw_all := lw_g (lw_at lw_m7 109 rfl) rfl
theorem q1608 : (Jvm.Cond.selects "TufaStepsModel" ({ cls := "TufaStepsModel", name := "partOf", desc := "(II)I" } : Jvm.MethodName) ({ cls := "TufaStepsModel", name := "partOf", desc := "(II)I" } : Jvm.MethodName)) ∈ lw_all := lw_g (lw_at lw_m7 110 rfl) rfl
theorem q1609 : (Jvm.Cond.code ({ cls := "TufaStepsModel", name := "partOf", desc := "(II)I" } : Jvm.MethodName) prog_11_method_59_code (3 : Nat) (Option.some Jvm.ClassFile.FieldType.int)) ∈ lw_all := lw_g (lw_at lw_m7 111 rfl) rfl
theorem q1610 : (Jvm.Cond.methodLink "TufaStepsModel" (169 : Nat) ({ cls := "TufaStepsModel", name := "partAt", desc := "(I)I" } : Jvm.MethodName)) ∈ lw_all := lw_g (lw_at lw_m7 112 rfl) rfl
theorem q1611 : (Jvm.Cond.privateMethod ({ cls := "TufaStepsModel", name := "partAt", desc := "(I)I" } : Jvm.MethodName)) ∈ lw_tbl := lw_at lw_m7 113 rfl
theorem q1612 : (Jvm.Cond.instanceMethod ({ cls := "TufaStepsModel", name := "partAt", desc := "(I)I" } : Jvm.MethodName)) ∈ lw_all := lw_g (lw_at lw_m7 114 rfl) rfl
theorem q1613 : (Jvm.Cond.code ({ cls := "TufaStepsModel", name := "partAt", desc := "(I)I" } : Jvm.MethodName) prog_11_method_58_code (2 : Nat) (Option.some Jvm.ClassFile.FieldType.int)) ∈ lw_all := lw_g (lw_at lw_m7 115 rfl) rfl
theorem q1615 : (Jvm.Cond.instanceMethod ({ cls := "TufaStepsModel", name := "partSize", desc := "(II)I" } : Jvm.MethodName)) ∈ lw_all := lw_g (lw_at lw_m7 117 rfl) rfl
theorem q1616 : (Jvm.Cond.selects "TufaStepsModel" ({ cls := "TufaStepsModel", name := "partSize", desc := "(II)I" } : Jvm.MethodName) ({ cls := "TufaStepsModel", name := "partSize", desc := "(II)I" } : Jvm.MethodName)) ∈ lw_all := lw_g (lw_at lw_m7 118 rfl) rfl
theorem q1617 : (Jvm.Cond.code ({ cls := "TufaStepsModel", name := "partSize", desc := "(II)I" } : Jvm.MethodName) prog_11_method_61_code (3 : Nat) (Option.some Jvm.ClassFile.FieldType.int)) ∈ lw_all := lw_g (lw_at lw_m7 119 rfl) rfl
theorem q1618 : (Jvm.Cond.methodLink "TufaStepsModel" (172 : Nat) ({ cls := "TufaStepsModel", name := "sizeAt", desc := "(I)I" } : Jvm.MethodName)) ∈ lw_all := lw_g (lw_at lw_m7 120 rfl) rfl
theorem q1619 : (Jvm.Cond.privateMethod ({ cls := "TufaStepsModel", name := "sizeAt", desc := "(I)I" } : Jvm.MethodName)) ∈ lw_tbl := lw_at lw_m7 121 rfl
theorem q1620 : (Jvm.Cond.instanceMethod ({ cls := "TufaStepsModel", name := "sizeAt", desc := "(I)I" } : Jvm.MethodName)) ∈ lw_all := lw_g (lw_at lw_m7 122 rfl) rfl
theorem q1621 : (Jvm.Cond.code ({ cls := "TufaStepsModel", name := "sizeAt", desc := "(I)I" } : Jvm.MethodName) prog_11_method_60_code (3 : Nat) (Option.some Jvm.ClassFile.FieldType.int)) ∈ lw_all := lw_g (lw_at lw_m7 123 rfl) rfl
theorem q1623 : (Jvm.Cond.instanceMethod ({ cls := "TufaStepsModel", name := "holes", desc := "()I" } : Jvm.MethodName)) ∈ lw_all := lw_g (lw_at lw_m7 125 rfl) rfl
theorem q1624 : (Jvm.Cond.selects "TufaStepsModel" ({ cls := "TufaStepsModel", name := "holes", desc := "()I" } : Jvm.MethodName) ({ cls := "TufaStepsModel", name := "holes", desc := "()I" } : Jvm.MethodName)) ∈ lw_all := lw_g (lw_at lw_m7 126 rfl) rfl
theorem q1625 : (Jvm.Cond.code ({ cls := "TufaStepsModel", name := "holes", desc := "()I" } : Jvm.MethodName) prog_11_method_62_code (1 : Nat) (Option.some Jvm.ClassFile.FieldType.int)) ∈ lw_all := lw_g (lw_at lw_m7 127 rfl) rfl
theorem q1626 : (Jvm.Cond.methodLink "TufaStepsModel" (175 : Nat) ({ cls := "TufaStepsModel", name := "allHoles", desc := "()I" } : Jvm.MethodName)) ∈ lw_all := lw_g (lw_at lw_m7 128 rfl) rfl
theorem q1627 : (Jvm.Cond.privateMethod ({ cls := "TufaStepsModel", name := "allHoles", desc := "()I" } : Jvm.MethodName)) ∈ lw_tbl := lw_at lw_m7 129 rfl
theorem q1628 : (Jvm.Cond.instanceMethod ({ cls := "TufaStepsModel", name := "allHoles", desc := "()I" } : Jvm.MethodName)) ∈ lw_all := lw_g (lw_at lw_m7 130 rfl) rfl
theorem q1629 : (Jvm.Cond.code ({ cls := "TufaStepsModel", name := "allHoles", desc := "()I" } : Jvm.MethodName) prog_11_method_27_code (3 : Nat) (Option.some Jvm.ClassFile.FieldType.int)) ∈ lw_all := lw_g (lw_at lw_m7 131 rfl) rfl
theorem q1630 : (Jvm.Cond.methodLink "TufaStepsModel" (111 : Nat) ({ cls := "TufaStepsModel", name := "isOpen", desc := "(I)Z" } : Jvm.MethodName)) ∈ lw_all := lw_g (lw_at lw_m7 132 rfl) rfl
theorem q1631 : (Jvm.Cond.privateMethod ({ cls := "TufaStepsModel", name := "isOpen", desc := "(I)Z" } : Jvm.MethodName)) ∈ lw_tbl := lw_at lw_m7 133 rfl
theorem q1632 : (Jvm.Cond.instanceMethod ({ cls := "TufaStepsModel", name := "isOpen", desc := "(I)Z" } : Jvm.MethodName)) ∈ lw_all := lw_g (lw_at lw_m7 134 rfl) rfl
theorem q1633 : (Jvm.Cond.code ({ cls := "TufaStepsModel", name := "isOpen", desc := "(I)Z" } : Jvm.MethodName) prog_11_method_25_code (3 : Nat) (Option.some Jvm.ClassFile.FieldType.boolean)) ∈ lw_all := lw_g (lw_at lw_m7 135 rfl) rfl
theorem q1635 : (Jvm.Cond.instanceMethod ({ cls := "TufaStepsModel", name := "edges", desc := "()I" } : Jvm.MethodName)) ∈ lw_all := lw_g (lw_at lw_m7 137 rfl) rfl
theorem q1636 : (Jvm.Cond.selects "TufaStepsModel" ({ cls := "TufaStepsModel", name := "edges", desc := "()I" } : Jvm.MethodName) ({ cls := "TufaStepsModel", name := "edges", desc := "()I" } : Jvm.MethodName)) ∈ lw_all := lw_g (lw_at lw_m7 138 rfl) rfl
theorem q1637 : (Jvm.Cond.code ({ cls := "TufaStepsModel", name := "edges", desc := "()I" } : Jvm.MethodName) prog_11_method_63_code (4 : Nat) (Option.some Jvm.ClassFile.FieldType.int)) ∈ lw_all := lw_g (lw_at lw_m7 139 rfl) rfl
theorem q1639 : (Jvm.Cond.instanceMethod ({ cls := "TufaStepsModel", name := "stepsToThin", desc := "()I" } : Jvm.MethodName)) ∈ lw_all := lw_g (lw_at lw_m7 141 rfl) rfl
theorem q1640 : (Jvm.Cond.selects "TufaStepsModel" ({ cls := "TufaStepsModel", name := "stepsToThin", desc := "()I" } : Jvm.MethodName) ({ cls := "TufaStepsModel", name := "stepsToThin", desc := "()I" } : Jvm.MethodName)) ∈ lw_all := lw_g (lw_at lw_m7 142 rfl) rfl
theorem q1641 : (Jvm.Cond.code ({ cls := "TufaStepsModel", name := "stepsToThin", desc := "()I" } : Jvm.MethodName) prog_11_method_66_code (2 : Nat) (Option.some Jvm.ClassFile.FieldType.int)) ∈ lw_all := lw_g (lw_at lw_m7 143 rfl) rfl
theorem q1642 : (Jvm.Cond.methodLink "TufaStepsModel" (178 : Nat) ({ cls := "TufaStepsModel", name := "keeps", desc := "()V" } : Jvm.MethodName)) ∈ lw_all := lw_g (lw_at lw_m7 144 rfl) rfl
theorem q1643 : (Jvm.Cond.privateMethod ({ cls := "TufaStepsModel", name := "keeps", desc := "()V" } : Jvm.MethodName)) ∈ lw_tbl := lw_at lw_m7 145 rfl
theorem q1644 : (Jvm.Cond.instanceMethod ({ cls := "TufaStepsModel", name := "keeps", desc := "()V" } : Jvm.MethodName)) ∈ lw_all := lw_g (lw_at lw_m7 146 rfl) rfl
theorem q1645 : (Jvm.Cond.code ({ cls := "TufaStepsModel", name := "keeps", desc := "()V" } : Jvm.MethodName) prog_11_method_64_code (2 : Nat) (Option.none : Option Jvm.ClassFile.FieldType)) ∈ lw_all := lw_g (lw_at lw_m7 147 rfl) rfl
theorem q1646 : (Jvm.Cond.methodLink "TufaStepsModel" (181 : Nat) ({ cls := "TufaStepsModel", name := "brings", desc := "()V" } : Jvm.MethodName)) ∈ lw_all := lw_g (lw_at lw_m7 148 rfl) rfl
theorem q1647 : (Jvm.Cond.privateMethod ({ cls := "TufaStepsModel", name := "brings", desc := "()V" } : Jvm.MethodName)) ∈ lw_tbl := lw_at lw_m7 149 rfl
theorem q1648 : (Jvm.Cond.instanceMethod ({ cls := "TufaStepsModel", name := "brings", desc := "()V" } : Jvm.MethodName)) ∈ lw_all := lw_g (lw_at lw_m7 150 rfl) rfl
theorem q1649 : (Jvm.Cond.code ({ cls := "TufaStepsModel", name := "brings", desc := "()V" } : Jvm.MethodName) prog_11_method_65_code (2 : Nat) (Option.none : Option Jvm.ClassFile.FieldType)) ∈ lw_all := lw_g (lw_at lw_m7 151 rfl) rfl
theorem q1651 : (Jvm.Cond.instanceMethod ({ cls := "TufaStepsModel", name := "thinned", desc := "()I" } : Jvm.MethodName)) ∈ lw_all := lw_g (lw_at lw_m7 153 rfl) rfl
theorem q1652 : (Jvm.Cond.selects "TufaStepsModel" ({ cls := "TufaStepsModel", name := "thinned", desc := "()I" } : Jvm.MethodName) ({ cls := "TufaStepsModel", name := "thinned", desc := "()I" } : Jvm.MethodName)) ∈ lw_all := lw_g (lw_at lw_m7 154 rfl) rfl
theorem q1653 : (Jvm.Cond.code ({ cls := "TufaStepsModel", name := "thinned", desc := "()I" } : Jvm.MethodName) prog_11_method_67_code (2 : Nat) (Option.some Jvm.ClassFile.FieldType.int)) ∈ lw_all := lw_g (lw_at lw_m7 155 rfl) rfl
theorem q1655 : (Jvm.Cond.instanceMethod ({ cls := "TufaStepsModel", name := "inkShare", desc := "()D" } : Jvm.MethodName)) ∈ lw_all := lw_g (lw_at lw_m7 157 rfl) rfl
theorem q1656 : (Jvm.Cond.selects "TufaStepsModel" ({ cls := "TufaStepsModel", name := "inkShare", desc := "()D" } : Jvm.MethodName) ({ cls := "TufaStepsModel", name := "inkShare", desc := "()D" } : Jvm.MethodName)) ∈ lw_all := lw_g (lw_at lw_m7 158 rfl) rfl
theorem q1657 : (Jvm.Cond.code ({ cls := "TufaStepsModel", name := "inkShare", desc := "()D" } : Jvm.MethodName) prog_11_method_68_code (1 : Nat) (Option.some Jvm.ClassFile.FieldType.double)) ∈ lw_all := lw_g (lw_at lw_m7 159 rfl) rfl
theorem q1659 : (Jvm.Cond.instanceMethod ({ cls := "TufaStepsModel", name := "meanRun", desc := "()F" } : Jvm.MethodName)) ∈ lw_all := lw_g (lw_at lw_m7 161 rfl) rfl
theorem q1660 : (Jvm.Cond.selects "TufaStepsModel" ({ cls := "TufaStepsModel", name := "meanRun", desc := "()F" } : Jvm.MethodName) ({ cls := "TufaStepsModel", name := "meanRun", desc := "()F" } : Jvm.MethodName)) ∈ lw_all := lw_g (lw_at lw_m7 162 rfl) rfl
theorem q1661 : (Jvm.Cond.code ({ cls := "TufaStepsModel", name := "meanRun", desc := "()F" } : Jvm.MethodName) prog_11_method_69_code (2 : Nat) (Option.some Jvm.ClassFile.FieldType.float)) ∈ lw_all := lw_g (lw_at lw_m7 163 rfl) rfl
theorem q1663 : (Jvm.Cond.instanceMethod ({ cls := "TufaStepsModel", name := "tufaErrors", desc := "()I" } : Jvm.MethodName)) ∈ lw_all := lw_g (lw_at lw_m7 165 rfl) rfl
theorem q1664 : (Jvm.Cond.selects "TufaStepsModel" ({ cls := "TufaStepsModel", name := "tufaErrors", desc := "()I" } : Jvm.MethodName) ({ cls := "TufaStepsModel", name := "tufaErrors", desc := "()I" } : Jvm.MethodName)) ∈ lw_all := lw_g (lw_at lw_m7 166 rfl) rfl
theorem q1665 : (Jvm.Cond.code ({ cls := "TufaStepsModel", name := "tufaErrors", desc := "()I" } : Jvm.MethodName) prog_11_method_70_code (5 : Nat) (Option.some Jvm.ClassFile.FieldType.int)) ∈ lw_all := lw_g (lw_at lw_m7 167 rfl) rfl
theorem q1666 : (Jvm.Cond.methodLink "TufaStepsModel" (184 : Nat) ({ cls := "TufaStepsModel", name := "looked", desc := "(IZ)I" } : Jvm.MethodName)) ∈ lw_all := lw_g (lw_at lw_m7 168 rfl) rfl
theorem q1667 : (Jvm.Cond.privateMethod ({ cls := "TufaStepsModel", name := "looked", desc := "(IZ)I" } : Jvm.MethodName)) ∈ lw_tbl := lw_at lw_m7 169 rfl
theorem q1668 : (Jvm.Cond.instanceMethod ({ cls := "TufaStepsModel", name := "looked", desc := "(IZ)I" } : Jvm.MethodName)) ∈ lw_all := lw_g (lw_at lw_m7 170 rfl) rfl
theorem q1669 : (Jvm.Cond.code ({ cls := "TufaStepsModel", name := "looked", desc := "(IZ)I" } : Jvm.MethodName) prog_11_method_18_code (8 : Nat) (Option.some Jvm.ClassFile.FieldType.int)) ∈ lw_all := lw_g (lw_at lw_m7 171 rfl) rfl
theorem q1670 : (Jvm.Cond.methodLink "TufaStepsModel" (87 : Nat) ({ cls := "java/lang/Math", name := "min", desc := "(II)I" } : Jvm.MethodName)) ∈ lw_all := lw_g (lw_at lw_m7 172 rfl) rfl
theorem q1672 : (Jvm.Cond.instanceMethod ({ cls := "TufaStepsModel", name := "checksum", desc := "()J" } : Jvm.MethodName)) ∈ lw_all := lw_g (lw_at lw_m7 174 rfl) rfl
theorem q1673 : (Jvm.Cond.selects "TufaStepsModel" ({ cls := "TufaStepsModel", name := "checksum", desc := "()J" } : Jvm.MethodName) ({ cls := "TufaStepsModel", name := "checksum", desc := "()J" } : Jvm.MethodName)) ∈ lw_all := lw_g (lw_at lw_m7 175 rfl) rfl
theorem q1674 : (Jvm.Cond.code ({ cls := "TufaStepsModel", name := "checksum", desc := "()J" } : Jvm.MethodName) prog_11_method_72_code (4 : Nat) (Option.some Jvm.ClassFile.FieldType.long)) ∈ lw_all := lw_g (lw_at lw_m7 176 rfl) rfl
theorem q1675 : (Jvm.Cond.methodLink "TufaStepsModel" (189 : Nat) ({ cls := "TufaStepsModel", name := "mixes", desc := "(JJ)J" } : Jvm.MethodName)) ∈ lw_all := lw_g (lw_at lw_m7 177 rfl) rfl
theorem q1676 : (Jvm.Cond.static ({ cls := "TufaStepsModel", name := "mixes", desc := "(JJ)J" } : Jvm.MethodName)) ∈ lw_all := lw_g (lw_at lw_m7 178 rfl) rfl
theorem q1677 : (Jvm.Cond.code ({ cls := "TufaStepsModel", name := "mixes", desc := "(JJ)J" } : Jvm.MethodName) prog_11_method_71_code (4 : Nat) (Option.some Jvm.ClassFile.FieldType.long)) ∈ lw_all := lw_g (lw_at lw_m7 179 rfl) rfl
theorem q1678 : (Jvm.Cond.constantLong "TufaStepsModel" (187 : Nat) (31 : Int64)) ∈ lw_all := lw_g (lw_at lw_m7 180 rfl) rfl
theorem q1696 : (Jvm.Cond.castable "TufaStepsModel" "java/lang/Object") ∈ lw_tbl := lw_at lw_m7 198 rfl
theorem in_X3 : ∀ w ∈ wsX30, w ∈ lw_all := lw_in wsX30 [1379, 1381, 1383, 1385, 1387, 1389, 1391, 1393, 1395] (by decide +kernel) (by decide +kernel)
/-! TufaSteps$Way -/
set_option maxRecDepth 100000
def RX4 : String := "TufaSteps$Way"
abbrev cX4_values : ByteArray := prog_5_method_1_code
def yX4_values : MethodName := ⟨RX4, "values", "()[LTufaSteps$Way;"⟩
def dkwX4_values_0 : List UInt8 := [178, 0, 16, 182, 0, 20, 192, 0, 21, 176]
abbrev dktX4_values_0 : List UInt8 := dkwX4_values_0 ++ []
theorem dksX4_values_0 : cX4_values.data.toList.drop 0 = dktX4_values_0 := by decide +kernel
theorem dX4_values_0 : decode cX4_values 0 = .ok (.getstatic 16, 3) := dk_178 0 16 (dk_at dksX4_values_0 0 rfl rfl)
theorem dX4_values_3 : decode cX4_values 3 = .ok (.invokevirtual 20, 3) := dk_182 0 20 (dk_at dksX4_values_0 3 rfl rfl)
theorem dX4_values_6 : decode cX4_values 6 = .ok (.checkcast 21, 3) := dk_192 0 21 (dk_at dksX4_values_0 6 rfl rfl)
theorem dX4_values_9 : decode cX4_values 9 = .ok (.areturn, 1) := dk_176 (dk_at dksX4_values_0 9 rfl rfl)
theorem q87 : (Jvm.Cond.initialized "TufaSteps$Way") ∈ lw_all := lw_g (lw_at lw_m1 29 rfl) rfl
theorem q1281 : (Jvm.Cond.static ({ cls := "TufaSteps$Way", name := "values", desc := "()[LTufaSteps$Way;" } : Jvm.MethodName)) ∈ lw_all := lw_g (lw_at lw_m6 23 rfl) rfl
theorem q1282 : (Jvm.Cond.code ({ cls := "TufaSteps$Way", name := "values", desc := "()[LTufaSteps$Way;" } : Jvm.MethodName) prog_5_method_1_code (0 : Nat) (Option.some (Jvm.ClassFile.FieldType.array (Jvm.ClassFile.FieldType.object "TufaSteps$Way")))) ∈ lw_all := lw_g (lw_at lw_m6 24 rfl) rfl
theorem q1283 : (Jvm.Cond.fieldLink "TufaSteps$Way" (16 : Nat) "TufaSteps$Way" "$VALUES" "[LTufaSteps$Way;") ∈ lw_all := lw_g (lw_at lw_m6 25 rfl) rfl
theorem q1284 : (Jvm.Cond.laysStatic "TufaSteps$Way" "$VALUES" "[LTufaSteps$Way;") ∈ lw_tbl := lw_at lw_m6 26 rfl
theorem q1285 : (Jvm.Cond.methodLink "TufaSteps$Way" (20 : Nat) ({ cls := "[LTufaSteps$Way;", name := "clone", desc := "()Ljava/lang/Object;" } : Jvm.MethodName)) ∈ lw_all := lw_g (lw_at lw_m6 27 rfl) rfl
theorem q1290 : (Jvm.Cond.classLink "TufaSteps$Way" (21 : Nat) "[LTufaSteps$Way;") ∈ lw_all := lw_g (lw_at lw_m6 32 rfl) rfl
theorem q1292 : (Jvm.Cond.declares ({ cls := "TufaSteps$Way", name := "join", desc := "(Ljava/util/BitSet;Ljava/util/BitSet;)V" } : Jvm.MethodName)) ∈ lw_tbl := lw_at lw_m6 34 rfl
theorem q1293 : (Jvm.Cond.sameMethod "TufaSteps$Way" "TufaSteps$Way" "join" "(Ljava/util/BitSet;Ljava/util/BitSet;)V") ∈ lw_all := lw_g (lw_at lw_m6 35 rfl) rfl
theorem q1692 : (Jvm.Cond.castable "TufaSteps$Way" "java/lang/Object") ∈ lw_tbl := lw_at lw_m7 194 rfl
theorem q1737 : (Jvm.Cond.laysStatic "TufaSteps$Way" "OR" "LTufaSteps$Way;") ∈ lw_tbl := lw_at lw_m7 239 rfl
theorem q1738 : (Jvm.Cond.laysStatic "TufaSteps$Way" "AND" "LTufaSteps$Way;") ∈ lw_tbl := lw_at lw_m8 0 rfl
theorem q1739 : (Jvm.Cond.laysStatic "TufaSteps$Way" "XOR" "LTufaSteps$Way;") ∈ lw_tbl := lw_at lw_m8 1 rfl
theorem q1740 : (Jvm.Cond.laysStatic "TufaSteps$Way" "AND_NOT" "LTufaSteps$Way;") ∈ lw_tbl := lw_at lw_m8 2 rfl
/-! TufaSteps$Run -/
set_option maxRecDepth 100000
def RX5 : String := "TufaSteps$Run"
def TX5 : u_T := fun k => match k with
  | 0 => ("TufaSteps$Run", "start", "I", true)
  | _ => ("TufaSteps$Run", "length", "I", false)
def tyX5 : Nat → FieldType := fun k => match k with
  | 0 => .int
  | _ => .int
abbrev wsX50 : List Cond := u_ws RX5 TX5 2
theorem nmX5 : ∀ a, a < 2 → ∀ b, b < 2 → a ≠ b → (TX5 a).2.1 ≠ (TX5 b).2.1 := by decide +kernel
theorem tyX5_ok : ∀ k, k < 2 → parseFieldDescriptor (TX5 k).2.2.1 = some (tyX5 k) := by decide +kernel
abbrev cX5_init : ByteArray := prog_4_method_1_code
def yX5_init : MethodName := ⟨RX5, "<init>", "(I)V"⟩
def dkwX5_init_0 : List UInt8 := [42, 183, 0, 1, 42, 4, 181, 0, 7, 42, 27, 181, 0, 13, 177]
abbrev dktX5_init_0 : List UInt8 := dkwX5_init_0 ++ []
theorem dksX5_init_0 : cX5_init.data.toList.drop 0 = dktX5_init_0 := by decide +kernel
theorem dX5_init_0 : decode cX5_init 0 = .ok (.aload_n 0, 1) := dk_42 (dk_at dksX5_init_0 0 rfl rfl)
theorem dX5_init_1 : decode cX5_init 1 = .ok (.invokespecial 1, 3) := dk_183 0 1 (dk_at dksX5_init_0 1 rfl rfl)
theorem dX5_init_4 : decode cX5_init 4 = .ok (.aload_n 0, 1) := dk_42 (dk_at dksX5_init_0 4 rfl rfl)
theorem dX5_init_5 : decode cX5_init 5 = .ok (.iconst 1, 1) := dk_4 (dk_at dksX5_init_0 5 rfl rfl)
theorem dX5_init_6 : decode cX5_init 6 = .ok (.putfield 7, 3) := dk_181 0 7 (dk_at dksX5_init_0 6 rfl rfl)
theorem dX5_init_9 : decode cX5_init 9 = .ok (.aload_n 0, 1) := dk_42 (dk_at dksX5_init_0 9 rfl rfl)
theorem dX5_init_10 : decode cX5_init 10 = .ok (.iload_n 1, 1) := dk_27 (dk_at dksX5_init_0 10 rfl rfl)
theorem dX5_init_11 : decode cX5_init 11 = .ok (.putfield 13, 3) := dk_181 0 13 (dk_at dksX5_init_0 11 rfl rfl)
theorem dX5_init_14 : decode cX5_init 14 = .ok (.return_, 1) := dk_177 (dk_at dksX5_init_0 14 rfl rfl)
theorem q91 : (Jvm.Cond.initialized "TufaSteps$Run") ∈ lw_all := lw_g (lw_at lw_m1 33 rfl) rfl
theorem q762 : (Jvm.Cond.instantiable "TufaSteps$Run" (2 : Nat)) ∈ lw_all := lw_g (lw_at lw_m3 224 rfl) rfl
theorem q764 : (Jvm.Cond.instanceMethod ({ cls := "TufaSteps$Run", name := "<init>", desc := "(I)V" } : Jvm.MethodName)) ∈ lw_all := lw_g (lw_at lw_m3 226 rfl) rfl
theorem q765 : (Jvm.Cond.code ({ cls := "TufaSteps$Run", name := "<init>", desc := "(I)V" } : Jvm.MethodName) prog_4_method_1_code (2 : Nat) (Option.none : Option Jvm.ClassFile.FieldType)) ∈ lw_all := lw_g (lw_at lw_m3 227 rfl) rfl
theorem q766 : (Jvm.Cond.methodLink "TufaSteps$Run" (1 : Nat) ({ cls := "java/lang/Object", name := "<init>", desc := "()V" } : Jvm.MethodName)) ∈ lw_all := lw_g (lw_at lw_m3 228 rfl) rfl
theorem q767 : (Jvm.Cond.fieldLink "TufaSteps$Run" (13 : Nat) "TufaSteps$Run" "start" "I") ∈ lw_all := lw_g (lw_at lw_m3 229 rfl) rfl
theorem q769 : (Jvm.Cond.fieldLink "TufaSteps$Run" (7 : Nat) "TufaSteps$Run" "length" "I") ∈ lw_all := lw_g (lw_at lw_m3 231 rfl) rfl
theorem q772 : (Jvm.Cond.laysFinal "TufaSteps$Run" "TufaSteps$Run" "start" "I") ∈ lw_all := lw_g (lw_at lw_m3 234 rfl) rfl
theorem q773 : (Jvm.Cond.soleField "TufaSteps$Run" "start") ∈ lw_all := lw_g (lw_at lw_m3 235 rfl) rfl
theorem q774 : (Jvm.Cond.lays "TufaSteps$Run" "TufaSteps$Run" "length" "I") ∈ lw_all := lw_g (lw_at lw_m3 236 rfl) rfl
theorem q775 : (Jvm.Cond.soleField "TufaSteps$Run" "length") ∈ lw_all := lw_g (lw_at lw_m3 237 rfl) rfl
theorem q776 : (Jvm.Cond.superclass "TufaSteps$Run" "java/lang/Object") ∈ lw_all := lw_g (lw_at lw_m3 238 rfl) rfl
theorem q890 : (Jvm.Cond.selects "TufaSteps$Run" ({ cls := "java/lang/Object", name := "getClass", desc := "()Ljava/lang/Class;" } : Jvm.MethodName) ({ cls := "java/lang/Object", name := "getClass", desc := "()Ljava/lang/Class;" } : Jvm.MethodName)) ∈ lw_all := lw_g (lw_at lw_m4 112 rfl) rfl
theorem q1710 : (Jvm.Cond.castable "TufaSteps$Run" "java/lang/Object") ∈ lw_tbl := lw_at lw_m7 212 rfl
theorem in_X5 : ∀ w ∈ wsX50, w ∈ lw_all := lw_in wsX50 [772, 774] (by decide +kernel) (by decide +kernel)
/-! TufaSteps$Way$1 -/
set_option maxRecDepth 100000
def RX6 : String := "TufaSteps$Way$1"
abbrev cX6_join : ByteArray := prog_6_method_2_code
def yX6_join : MethodName := ⟨RX6, "join", "(Ljava/util/BitSet;Ljava/util/BitSet;)V"⟩
def dkwX6_join_0 : List UInt8 := [43, 44, 182, 0, 7, 177]
abbrev dktX6_join_0 : List UInt8 := dkwX6_join_0 ++ []
theorem dksX6_join_0 : cX6_join.data.toList.drop 0 = dktX6_join_0 := by decide +kernel
theorem dX6_join_0 : decode cX6_join 0 = .ok (.aload_n 1, 1) := dk_43 (dk_at dksX6_join_0 0 rfl rfl)
theorem dX6_join_1 : decode cX6_join 1 = .ok (.aload_n 2, 1) := dk_44 (dk_at dksX6_join_0 1 rfl rfl)
theorem dX6_join_2 : decode cX6_join 2 = .ok (.invokevirtual 7, 3) := dk_182 0 7 (dk_at dksX6_join_0 2 rfl rfl)
theorem dX6_join_5 : decode cX6_join 5 = .ok (.return_, 1) := dk_177 (dk_at dksX6_join_0 5 rfl rfl)
theorem q891 : (Jvm.Cond.selects "TufaSteps$Way$1" ({ cls := "java/lang/Object", name := "getClass", desc := "()Ljava/lang/Class;" } : Jvm.MethodName) ({ cls := "java/lang/Object", name := "getClass", desc := "()Ljava/lang/Class;" } : Jvm.MethodName)) ∈ lw_all := lw_g (lw_at lw_m4 113 rfl) rfl
theorem q1294 : (Jvm.Cond.selects "TufaSteps$Way$1" ({ cls := "TufaSteps$Way", name := "join", desc := "(Ljava/util/BitSet;Ljava/util/BitSet;)V" } : Jvm.MethodName) ({ cls := "TufaSteps$Way$1", name := "join", desc := "(Ljava/util/BitSet;Ljava/util/BitSet;)V" } : Jvm.MethodName)) ∈ lw_all := lw_g (lw_at lw_m6 36 rfl) rfl
theorem q1295 : (Jvm.Cond.instanceMethod ({ cls := "TufaSteps$Way$1", name := "join", desc := "(Ljava/util/BitSet;Ljava/util/BitSet;)V" } : Jvm.MethodName)) ∈ lw_all := lw_g (lw_at lw_m6 37 rfl) rfl
theorem q1296 : (Jvm.Cond.code ({ cls := "TufaSteps$Way$1", name := "join", desc := "(Ljava/util/BitSet;Ljava/util/BitSet;)V" } : Jvm.MethodName) prog_6_method_2_code (3 : Nat) (Option.none : Option Jvm.ClassFile.FieldType)) ∈ lw_all := lw_g (lw_at lw_m6 38 rfl) rfl
theorem q1297 : (Jvm.Cond.methodLink "TufaSteps$Way$1" (7 : Nat) ({ cls := "java/util/BitSet", name := "or", desc := "(Ljava/util/BitSet;)V" } : Jvm.MethodName)) ∈ lw_all := lw_g (lw_at lw_m6 39 rfl) rfl
theorem q1705 : (Jvm.Cond.castable "TufaSteps$Way$1" "java/lang/Object") ∈ lw_tbl := lw_at lw_m7 207 rfl
theorem q1715 : (Jvm.Cond.castable "TufaSteps$Way$1" "TufaSteps$Way") ∈ lw_tbl := lw_at lw_m7 217 rfl
/-! TufaSteps$Way$2 -/
set_option maxRecDepth 100000
def RX7 : String := "TufaSteps$Way$2"
abbrev cX7_join : ByteArray := prog_7_method_2_code
def yX7_join : MethodName := ⟨RX7, "join", "(Ljava/util/BitSet;Ljava/util/BitSet;)V"⟩
def dkwX7_join_0 : List UInt8 := [43, 44, 182, 0, 7, 177]
abbrev dktX7_join_0 : List UInt8 := dkwX7_join_0 ++ []
theorem dksX7_join_0 : cX7_join.data.toList.drop 0 = dktX7_join_0 := by decide +kernel
theorem dX7_join_0 : decode cX7_join 0 = .ok (.aload_n 1, 1) := dk_43 (dk_at dksX7_join_0 0 rfl rfl)
theorem dX7_join_1 : decode cX7_join 1 = .ok (.aload_n 2, 1) := dk_44 (dk_at dksX7_join_0 1 rfl rfl)
theorem dX7_join_2 : decode cX7_join 2 = .ok (.invokevirtual 7, 3) := dk_182 0 7 (dk_at dksX7_join_0 2 rfl rfl)
theorem dX7_join_5 : decode cX7_join 5 = .ok (.return_, 1) := dk_177 (dk_at dksX7_join_0 5 rfl rfl)
theorem q892 : (Jvm.Cond.selects "TufaSteps$Way$2" ({ cls := "java/lang/Object", name := "getClass", desc := "()Ljava/lang/Class;" } : Jvm.MethodName) ({ cls := "java/lang/Object", name := "getClass", desc := "()Ljava/lang/Class;" } : Jvm.MethodName)) ∈ lw_all := lw_g (lw_at lw_m4 114 rfl) rfl
theorem q1298 : (Jvm.Cond.selects "TufaSteps$Way$2" ({ cls := "TufaSteps$Way", name := "join", desc := "(Ljava/util/BitSet;Ljava/util/BitSet;)V" } : Jvm.MethodName) ({ cls := "TufaSteps$Way$2", name := "join", desc := "(Ljava/util/BitSet;Ljava/util/BitSet;)V" } : Jvm.MethodName)) ∈ lw_all := lw_g (lw_at lw_m6 40 rfl) rfl
theorem q1299 : (Jvm.Cond.instanceMethod ({ cls := "TufaSteps$Way$2", name := "join", desc := "(Ljava/util/BitSet;Ljava/util/BitSet;)V" } : Jvm.MethodName)) ∈ lw_all := lw_g (lw_at lw_m6 41 rfl) rfl
theorem q1300 : (Jvm.Cond.code ({ cls := "TufaSteps$Way$2", name := "join", desc := "(Ljava/util/BitSet;Ljava/util/BitSet;)V" } : Jvm.MethodName) prog_7_method_2_code (3 : Nat) (Option.none : Option Jvm.ClassFile.FieldType)) ∈ lw_all := lw_g (lw_at lw_m6 42 rfl) rfl
theorem q1301 : (Jvm.Cond.methodLink "TufaSteps$Way$2" (7 : Nat) ({ cls := "java/util/BitSet", name := "and", desc := "(Ljava/util/BitSet;)V" } : Jvm.MethodName)) ∈ lw_all := lw_g (lw_at lw_m6 43 rfl) rfl
theorem q1706 : (Jvm.Cond.castable "TufaSteps$Way$2" "java/lang/Object") ∈ lw_tbl := lw_at lw_m7 208 rfl
theorem q1716 : (Jvm.Cond.castable "TufaSteps$Way$2" "TufaSteps$Way") ∈ lw_tbl := lw_at lw_m7 218 rfl
/-! TufaSteps$Way$3 -/
set_option maxRecDepth 100000
def RX8 : String := "TufaSteps$Way$3"
abbrev cX8_join : ByteArray := prog_8_method_2_code
def yX8_join : MethodName := ⟨RX8, "join", "(Ljava/util/BitSet;Ljava/util/BitSet;)V"⟩
def dkwX8_join_0 : List UInt8 := [43, 44, 182, 0, 7, 177]
abbrev dktX8_join_0 : List UInt8 := dkwX8_join_0 ++ []
theorem dksX8_join_0 : cX8_join.data.toList.drop 0 = dktX8_join_0 := by decide +kernel
theorem dX8_join_0 : decode cX8_join 0 = .ok (.aload_n 1, 1) := dk_43 (dk_at dksX8_join_0 0 rfl rfl)
theorem dX8_join_1 : decode cX8_join 1 = .ok (.aload_n 2, 1) := dk_44 (dk_at dksX8_join_0 1 rfl rfl)
theorem dX8_join_2 : decode cX8_join 2 = .ok (.invokevirtual 7, 3) := dk_182 0 7 (dk_at dksX8_join_0 2 rfl rfl)
theorem dX8_join_5 : decode cX8_join 5 = .ok (.return_, 1) := dk_177 (dk_at dksX8_join_0 5 rfl rfl)
theorem q893 : (Jvm.Cond.selects "TufaSteps$Way$3" ({ cls := "java/lang/Object", name := "getClass", desc := "()Ljava/lang/Class;" } : Jvm.MethodName) ({ cls := "java/lang/Object", name := "getClass", desc := "()Ljava/lang/Class;" } : Jvm.MethodName)) ∈ lw_all := lw_g (lw_at lw_m4 115 rfl) rfl
theorem q1305 : (Jvm.Cond.selects "TufaSteps$Way$3" ({ cls := "TufaSteps$Way", name := "join", desc := "(Ljava/util/BitSet;Ljava/util/BitSet;)V" } : Jvm.MethodName) ({ cls := "TufaSteps$Way$3", name := "join", desc := "(Ljava/util/BitSet;Ljava/util/BitSet;)V" } : Jvm.MethodName)) ∈ lw_all := lw_g (lw_at lw_m6 47 rfl) rfl
theorem q1306 : (Jvm.Cond.instanceMethod ({ cls := "TufaSteps$Way$3", name := "join", desc := "(Ljava/util/BitSet;Ljava/util/BitSet;)V" } : Jvm.MethodName)) ∈ lw_all := lw_g (lw_at lw_m6 48 rfl) rfl
theorem q1307 : (Jvm.Cond.code ({ cls := "TufaSteps$Way$3", name := "join", desc := "(Ljava/util/BitSet;Ljava/util/BitSet;)V" } : Jvm.MethodName) prog_8_method_2_code (3 : Nat) (Option.none : Option Jvm.ClassFile.FieldType)) ∈ lw_all := lw_g (lw_at lw_m6 49 rfl) rfl
theorem q1308 : (Jvm.Cond.methodLink "TufaSteps$Way$3" (7 : Nat) ({ cls := "java/util/BitSet", name := "xor", desc := "(Ljava/util/BitSet;)V" } : Jvm.MethodName)) ∈ lw_all := lw_g (lw_at lw_m6 50 rfl) rfl
theorem q1707 : (Jvm.Cond.castable "TufaSteps$Way$3" "java/lang/Object") ∈ lw_tbl := lw_at lw_m7 209 rfl
theorem q1717 : (Jvm.Cond.castable "TufaSteps$Way$3" "TufaSteps$Way") ∈ lw_tbl := lw_at lw_m7 219 rfl
/-! TufaSteps$Way$4 -/
set_option maxRecDepth 100000
def RX9 : String := "TufaSteps$Way$4"
abbrev cX9_join : ByteArray := prog_9_method_2_code
def yX9_join : MethodName := ⟨RX9, "join", "(Ljava/util/BitSet;Ljava/util/BitSet;)V"⟩
def dkwX9_join_0 : List UInt8 := [43, 44, 182, 0, 7, 177]
abbrev dktX9_join_0 : List UInt8 := dkwX9_join_0 ++ []
theorem dksX9_join_0 : cX9_join.data.toList.drop 0 = dktX9_join_0 := by decide +kernel
theorem dX9_join_0 : decode cX9_join 0 = .ok (.aload_n 1, 1) := dk_43 (dk_at dksX9_join_0 0 rfl rfl)
theorem dX9_join_1 : decode cX9_join 1 = .ok (.aload_n 2, 1) := dk_44 (dk_at dksX9_join_0 1 rfl rfl)
theorem dX9_join_2 : decode cX9_join 2 = .ok (.invokevirtual 7, 3) := dk_182 0 7 (dk_at dksX9_join_0 2 rfl rfl)
theorem dX9_join_5 : decode cX9_join 5 = .ok (.return_, 1) := dk_177 (dk_at dksX9_join_0 5 rfl rfl)
theorem q894 : (Jvm.Cond.selects "TufaSteps$Way$4" ({ cls := "java/lang/Object", name := "getClass", desc := "()Ljava/lang/Class;" } : Jvm.MethodName) ({ cls := "java/lang/Object", name := "getClass", desc := "()Ljava/lang/Class;" } : Jvm.MethodName)) ∈ lw_all := lw_g (lw_at lw_m4 116 rfl) rfl
theorem q1309 : (Jvm.Cond.selects "TufaSteps$Way$4" ({ cls := "TufaSteps$Way", name := "join", desc := "(Ljava/util/BitSet;Ljava/util/BitSet;)V" } : Jvm.MethodName) ({ cls := "TufaSteps$Way$4", name := "join", desc := "(Ljava/util/BitSet;Ljava/util/BitSet;)V" } : Jvm.MethodName)) ∈ lw_all := lw_g (lw_at lw_m6 51 rfl) rfl
theorem q1310 : (Jvm.Cond.instanceMethod ({ cls := "TufaSteps$Way$4", name := "join", desc := "(Ljava/util/BitSet;Ljava/util/BitSet;)V" } : Jvm.MethodName)) ∈ lw_all := lw_g (lw_at lw_m6 52 rfl) rfl
theorem q1311 : (Jvm.Cond.code ({ cls := "TufaSteps$Way$4", name := "join", desc := "(Ljava/util/BitSet;Ljava/util/BitSet;)V" } : Jvm.MethodName) prog_9_method_2_code (3 : Nat) (Option.none : Option Jvm.ClassFile.FieldType)) ∈ lw_all := lw_g (lw_at lw_m6 53 rfl) rfl
theorem q1312 : (Jvm.Cond.methodLink "TufaSteps$Way$4" (7 : Nat) ({ cls := "java/util/BitSet", name := "andNot", desc := "(Ljava/util/BitSet;)V" } : Jvm.MethodName)) ∈ lw_all := lw_g (lw_at lw_m6 54 rfl) rfl
theorem q1708 : (Jvm.Cond.castable "TufaSteps$Way$4" "java/lang/Object") ∈ lw_tbl := lw_at lw_m7 210 rfl
theorem q1718 : (Jvm.Cond.castable "TufaSteps$Way$4" "TufaSteps$Way") ∈ lw_tbl := lw_at lw_m7 220 rfl
/-! TufaStepsLaw -/
set_option maxRecDepth 100000
def RX0 : String := "TufaStepsLaw"
abbrev cX0_open : ByteArray := method_3_code
def yX0_open : MethodName := ⟨RX0, "open", "(LTufaSteps;II[J)I"⟩
def dkwX0_open_0 : List UInt8 := [45, 3, 42, 27, 28, 182, 0, 7, 133, 80, 167, 0, 7, 58, 4, 4, 172, 3, 172]
abbrev dktX0_open_0 : List UInt8 := dkwX0_open_0 ++ []
theorem dksX0_open_0 : cX0_open.data.toList.drop 0 = dktX0_open_0 := by decide +kernel
theorem dX0_open_0 : decode cX0_open 0 = .ok (.aload_n 3, 1) := dk_45 (dk_at dksX0_open_0 0 rfl rfl)
theorem dX0_open_1 : decode cX0_open 1 = .ok (.iconst 0, 1) := dk_3 (dk_at dksX0_open_0 1 rfl rfl)
theorem dX0_open_2 : decode cX0_open 2 = .ok (.aload_n 0, 1) := dk_42 (dk_at dksX0_open_0 2 rfl rfl)
theorem dX0_open_3 : decode cX0_open 3 = .ok (.iload_n 1, 1) := dk_27 (dk_at dksX0_open_0 3 rfl rfl)
theorem dX0_open_4 : decode cX0_open 4 = .ok (.iload_n 2, 1) := dk_28 (dk_at dksX0_open_0 4 rfl rfl)
theorem dX0_open_5 : decode cX0_open 5 = .ok (.invokevirtual 7, 3) := dk_182 0 7 (dk_at dksX0_open_0 5 rfl rfl)
theorem dX0_open_8 : decode cX0_open 8 = .ok (.i2l, 1) := dk_133 (dk_at dksX0_open_0 8 rfl rfl)
theorem dX0_open_9 : decode cX0_open 9 = .ok (.lastore, 1) := dk_80 (dk_at dksX0_open_0 9 rfl rfl)
theorem dX0_open_10 : decode cX0_open 10 = .ok (.goto 7, 3) := dk_167 0 7 (dk_at dksX0_open_0 10 rfl rfl)
theorem dX0_open_13 : decode cX0_open 13 = .ok (.astore 4, 2) := dk_58 4 (dk_at dksX0_open_0 13 rfl rfl)
theorem dX0_open_15 : decode cX0_open 15 = .ok (.iconst 1, 1) := dk_4 (dk_at dksX0_open_0 15 rfl rfl)
theorem dX0_open_16 : decode cX0_open 16 = .ok (.ireturn, 1) := dk_172 (dk_at dksX0_open_0 16 rfl rfl)
theorem dX0_open_17 : decode cX0_open 17 = .ok (.iconst 0, 1) := dk_3 (dk_at dksX0_open_0 17 rfl rfl)
theorem dX0_open_18 : decode cX0_open 18 = .ok (.ireturn, 1) := dk_172 (dk_at dksX0_open_0 18 rfl rfl)
abbrev cX0_set : ByteArray := method_4_code
def yX0_set : MethodName := ⟨RX0, "set", "(LTufaSteps;IIZ[J)I"⟩
def dkwX0_set_1 : List UInt8 := [4, 172, 3, 172]
abbrev dktX0_set_1 : List UInt8 := dkwX0_set_1 ++ []
def dkwX0_set_0 : List UInt8 := [25, 4, 3, 42, 27, 28, 29, 182, 0, 15, 153, 0, 7, 10, 167, 0, 4, 9, 80, 167, 0, 7, 58, 5]
abbrev dktX0_set_0 : List UInt8 := dkwX0_set_0 ++ dktX0_set_1
theorem dksX0_set_0 : cX0_set.data.toList.drop 0 = dktX0_set_0 := by decide +kernel
theorem dksX0_set_1 : cX0_set.data.toList.drop 24 = dktX0_set_1 := dk_seg dksX0_set_0 24 rfl rfl
theorem dX0_set_0 : decode cX0_set 0 = .ok (.aload 4, 2) := dk_25 4 (dk_at dksX0_set_0 0 rfl rfl)
theorem dX0_set_2 : decode cX0_set 2 = .ok (.iconst 0, 1) := dk_3 (dk_at dksX0_set_0 2 rfl rfl)
theorem dX0_set_3 : decode cX0_set 3 = .ok (.aload_n 0, 1) := dk_42 (dk_at dksX0_set_0 3 rfl rfl)
theorem dX0_set_4 : decode cX0_set 4 = .ok (.iload_n 1, 1) := dk_27 (dk_at dksX0_set_0 4 rfl rfl)
theorem dX0_set_5 : decode cX0_set 5 = .ok (.iload_n 2, 1) := dk_28 (dk_at dksX0_set_0 5 rfl rfl)
theorem dX0_set_6 : decode cX0_set 6 = .ok (.iload_n 3, 1) := dk_29 (dk_at dksX0_set_0 6 rfl rfl)
theorem dX0_set_7 : decode cX0_set 7 = .ok (.invokevirtual 15, 3) := dk_182 0 15 (dk_at dksX0_set_0 7 rfl rfl)
theorem dX0_set_10 : decode cX0_set 10 = .ok (.ifCond .eq 7, 3) := dk_153 0 7 (dk_at dksX0_set_0 10 rfl rfl)
theorem dX0_set_13 : decode cX0_set 13 = .ok (.lconst 1, 1) := dk_10 (dk_at dksX0_set_0 13 rfl rfl)
theorem dX0_set_14 : decode cX0_set 14 = .ok (.goto 4, 3) := dk_167 0 4 (dk_at dksX0_set_0 14 rfl rfl)
theorem dX0_set_17 : decode cX0_set 17 = .ok (.lconst 0, 1) := dk_9 (dk_at dksX0_set_0 17 rfl rfl)
theorem dX0_set_18 : decode cX0_set 18 = .ok (.lastore, 1) := dk_80 (dk_at dksX0_set_0 18 rfl rfl)
theorem dX0_set_19 : decode cX0_set 19 = .ok (.goto 7, 3) := dk_167 0 7 (dk_at dksX0_set_0 19 rfl rfl)
theorem dX0_set_22 : decode cX0_set 22 = .ok (.astore 5, 2) := dk_58 5 (dk_at dksX0_set_0 22 rfl rfl)
theorem dX0_set_24 : decode cX0_set 24 = .ok (.iconst 1, 1) := dk_4 (dk_at dksX0_set_1 0 rfl rfl)
theorem dX0_set_25 : decode cX0_set 25 = .ok (.ireturn, 1) := dk_172 (dk_at dksX0_set_1 1 rfl rfl)
theorem dX0_set_26 : decode cX0_set 26 = .ok (.iconst 0, 1) := dk_3 (dk_at dksX0_set_1 2 rfl rfl)
theorem dX0_set_27 : decode cX0_set 27 = .ok (.ireturn, 1) := dk_172 (dk_at dksX0_set_1 3 rfl rfl)
abbrev cX0_line : ByteArray := method_5_code
def yX0_line : MethodName := ⟨RX0, "line", "(LTufaSteps;IIIIZ[J)I"⟩
def dkwX0_line_1 : List UInt8 := [172]
abbrev dktX0_line_1 : List UInt8 := dkwX0_line_1 ++ []
def dkwX0_line_0 : List UInt8 := [25, 6, 3, 42, 27, 28, 29, 21, 4, 21, 5, 182, 0, 21, 133, 80, 167, 0, 7, 58, 7, 4, 172, 3]
abbrev dktX0_line_0 : List UInt8 := dkwX0_line_0 ++ dktX0_line_1
theorem dksX0_line_0 : cX0_line.data.toList.drop 0 = dktX0_line_0 := by decide +kernel
theorem dksX0_line_1 : cX0_line.data.toList.drop 24 = dktX0_line_1 := dk_seg dksX0_line_0 24 rfl rfl
theorem dX0_line_0 : decode cX0_line 0 = .ok (.aload 6, 2) := dk_25 6 (dk_at dksX0_line_0 0 rfl rfl)
theorem dX0_line_2 : decode cX0_line 2 = .ok (.iconst 0, 1) := dk_3 (dk_at dksX0_line_0 2 rfl rfl)
theorem dX0_line_3 : decode cX0_line 3 = .ok (.aload_n 0, 1) := dk_42 (dk_at dksX0_line_0 3 rfl rfl)
theorem dX0_line_4 : decode cX0_line 4 = .ok (.iload_n 1, 1) := dk_27 (dk_at dksX0_line_0 4 rfl rfl)
theorem dX0_line_5 : decode cX0_line 5 = .ok (.iload_n 2, 1) := dk_28 (dk_at dksX0_line_0 5 rfl rfl)
theorem dX0_line_6 : decode cX0_line 6 = .ok (.iload_n 3, 1) := dk_29 (dk_at dksX0_line_0 6 rfl rfl)
theorem dX0_line_7 : decode cX0_line 7 = .ok (.iload 4, 2) := dk_21 4 (dk_at dksX0_line_0 7 rfl rfl)
theorem dX0_line_9 : decode cX0_line 9 = .ok (.iload 5, 2) := dk_21 5 (dk_at dksX0_line_0 9 rfl rfl)
theorem dX0_line_11 : decode cX0_line 11 = .ok (.invokevirtual 21, 3) := dk_182 0 21 (dk_at dksX0_line_0 11 rfl rfl)
theorem dX0_line_14 : decode cX0_line 14 = .ok (.i2l, 1) := dk_133 (dk_at dksX0_line_0 14 rfl rfl)
theorem dX0_line_15 : decode cX0_line 15 = .ok (.lastore, 1) := dk_80 (dk_at dksX0_line_0 15 rfl rfl)
theorem dX0_line_16 : decode cX0_line 16 = .ok (.goto 7, 3) := dk_167 0 7 (dk_at dksX0_line_0 16 rfl rfl)
theorem dX0_line_19 : decode cX0_line 19 = .ok (.astore 7, 2) := dk_58 7 (dk_at dksX0_line_0 19 rfl rfl)
theorem dX0_line_21 : decode cX0_line 21 = .ok (.iconst 1, 1) := dk_4 (dk_at dksX0_line_0 21 rfl rfl)
theorem dX0_line_22 : decode cX0_line 22 = .ok (.ireturn, 1) := dk_172 (dk_at dksX0_line_0 22 rfl rfl)
theorem dX0_line_23 : decode cX0_line 23 = .ok (.iconst 0, 1) := dk_3 (dk_at dksX0_line_0 23 rfl rfl)
theorem dX0_line_24 : decode cX0_line 24 = .ok (.ireturn, 1) := dk_172 (dk_at dksX0_line_1 0 rfl rfl)
abbrev cX0_circle : ByteArray := method_6_code
def yX0_circle : MethodName := ⟨RX0, "circle", "(LTufaSteps;IIIZ[J)I"⟩
def dkwX0_circle_0 : List UInt8 := [25, 5, 3, 42, 27, 28, 29, 21, 4, 182, 0, 25, 133, 80, 167, 0, 7, 58, 6, 4, 172, 3, 172]
abbrev dktX0_circle_0 : List UInt8 := dkwX0_circle_0 ++ []
theorem dksX0_circle_0 : cX0_circle.data.toList.drop 0 = dktX0_circle_0 := by decide +kernel
theorem dX0_circle_0 : decode cX0_circle 0 = .ok (.aload 5, 2) := dk_25 5 (dk_at dksX0_circle_0 0 rfl rfl)
theorem dX0_circle_2 : decode cX0_circle 2 = .ok (.iconst 0, 1) := dk_3 (dk_at dksX0_circle_0 2 rfl rfl)
theorem dX0_circle_3 : decode cX0_circle 3 = .ok (.aload_n 0, 1) := dk_42 (dk_at dksX0_circle_0 3 rfl rfl)
theorem dX0_circle_4 : decode cX0_circle 4 = .ok (.iload_n 1, 1) := dk_27 (dk_at dksX0_circle_0 4 rfl rfl)
theorem dX0_circle_5 : decode cX0_circle 5 = .ok (.iload_n 2, 1) := dk_28 (dk_at dksX0_circle_0 5 rfl rfl)
theorem dX0_circle_6 : decode cX0_circle 6 = .ok (.iload_n 3, 1) := dk_29 (dk_at dksX0_circle_0 6 rfl rfl)
theorem dX0_circle_7 : decode cX0_circle 7 = .ok (.iload 4, 2) := dk_21 4 (dk_at dksX0_circle_0 7 rfl rfl)
theorem dX0_circle_9 : decode cX0_circle 9 = .ok (.invokevirtual 25, 3) := dk_182 0 25 (dk_at dksX0_circle_0 9 rfl rfl)
theorem dX0_circle_12 : decode cX0_circle 12 = .ok (.i2l, 1) := dk_133 (dk_at dksX0_circle_0 12 rfl rfl)
theorem dX0_circle_13 : decode cX0_circle 13 = .ok (.lastore, 1) := dk_80 (dk_at dksX0_circle_0 13 rfl rfl)
theorem dX0_circle_14 : decode cX0_circle 14 = .ok (.goto 7, 3) := dk_167 0 7 (dk_at dksX0_circle_0 14 rfl rfl)
theorem dX0_circle_17 : decode cX0_circle 17 = .ok (.astore 6, 2) := dk_58 6 (dk_at dksX0_circle_0 17 rfl rfl)
theorem dX0_circle_19 : decode cX0_circle 19 = .ok (.iconst 1, 1) := dk_4 (dk_at dksX0_circle_0 19 rfl rfl)
theorem dX0_circle_20 : decode cX0_circle 20 = .ok (.ireturn, 1) := dk_172 (dk_at dksX0_circle_0 20 rfl rfl)
theorem dX0_circle_21 : decode cX0_circle 21 = .ok (.iconst 0, 1) := dk_3 (dk_at dksX0_circle_0 21 rfl rfl)
theorem dX0_circle_22 : decode cX0_circle 22 = .ok (.ireturn, 1) := dk_172 (dk_at dksX0_circle_0 22 rfl rfl)
abbrev cX0_fill : ByteArray := method_7_code
def yX0_fill : MethodName := ⟨RX0, "fill", "(LTufaSteps;II[J)I"⟩
def dkwX0_fill_0 : List UInt8 := [45, 3, 42, 27, 28, 182, 0, 29, 133, 80, 167, 0, 7, 58, 4, 4, 172, 3, 172]
abbrev dktX0_fill_0 : List UInt8 := dkwX0_fill_0 ++ []
theorem dksX0_fill_0 : cX0_fill.data.toList.drop 0 = dktX0_fill_0 := by decide +kernel
theorem dX0_fill_0 : decode cX0_fill 0 = .ok (.aload_n 3, 1) := dk_45 (dk_at dksX0_fill_0 0 rfl rfl)
theorem dX0_fill_1 : decode cX0_fill 1 = .ok (.iconst 0, 1) := dk_3 (dk_at dksX0_fill_0 1 rfl rfl)
theorem dX0_fill_2 : decode cX0_fill 2 = .ok (.aload_n 0, 1) := dk_42 (dk_at dksX0_fill_0 2 rfl rfl)
theorem dX0_fill_3 : decode cX0_fill 3 = .ok (.iload_n 1, 1) := dk_27 (dk_at dksX0_fill_0 3 rfl rfl)
theorem dX0_fill_4 : decode cX0_fill 4 = .ok (.iload_n 2, 1) := dk_28 (dk_at dksX0_fill_0 4 rfl rfl)
theorem dX0_fill_5 : decode cX0_fill 5 = .ok (.invokevirtual 29, 3) := dk_182 0 29 (dk_at dksX0_fill_0 5 rfl rfl)
theorem dX0_fill_8 : decode cX0_fill 8 = .ok (.i2l, 1) := dk_133 (dk_at dksX0_fill_0 8 rfl rfl)
theorem dX0_fill_9 : decode cX0_fill 9 = .ok (.lastore, 1) := dk_80 (dk_at dksX0_fill_0 9 rfl rfl)
theorem dX0_fill_10 : decode cX0_fill 10 = .ok (.goto 7, 3) := dk_167 0 7 (dk_at dksX0_fill_0 10 rfl rfl)
theorem dX0_fill_13 : decode cX0_fill 13 = .ok (.astore 4, 2) := dk_58 4 (dk_at dksX0_fill_0 13 rfl rfl)
theorem dX0_fill_15 : decode cX0_fill 15 = .ok (.iconst 1, 1) := dk_4 (dk_at dksX0_fill_0 15 rfl rfl)
theorem dX0_fill_16 : decode cX0_fill 16 = .ok (.ireturn, 1) := dk_172 (dk_at dksX0_fill_0 16 rfl rfl)
theorem dX0_fill_17 : decode cX0_fill 17 = .ok (.iconst 0, 1) := dk_3 (dk_at dksX0_fill_0 17 rfl rfl)
theorem dX0_fill_18 : decode cX0_fill 18 = .ok (.ireturn, 1) := dk_172 (dk_at dksX0_fill_0 18 rfl rfl)
abbrev cX0_join : ByteArray := method_8_code
def yX0_join : MethodName := ⟨RX0, "join", "(LTufaSteps;I[J)I"⟩
def dkwX0_join_0 : List UInt8 := [44, 3, 42, 27, 182, 0, 32, 133, 80, 167, 0, 6, 78, 4, 172, 3, 172]
abbrev dktX0_join_0 : List UInt8 := dkwX0_join_0 ++ []
theorem dksX0_join_0 : cX0_join.data.toList.drop 0 = dktX0_join_0 := by decide +kernel
theorem dX0_join_0 : decode cX0_join 0 = .ok (.aload_n 2, 1) := dk_44 (dk_at dksX0_join_0 0 rfl rfl)
theorem dX0_join_1 : decode cX0_join 1 = .ok (.iconst 0, 1) := dk_3 (dk_at dksX0_join_0 1 rfl rfl)
theorem dX0_join_2 : decode cX0_join 2 = .ok (.aload_n 0, 1) := dk_42 (dk_at dksX0_join_0 2 rfl rfl)
theorem dX0_join_3 : decode cX0_join 3 = .ok (.iload_n 1, 1) := dk_27 (dk_at dksX0_join_0 3 rfl rfl)
theorem dX0_join_4 : decode cX0_join 4 = .ok (.invokevirtual 32, 3) := dk_182 0 32 (dk_at dksX0_join_0 4 rfl rfl)
theorem dX0_join_7 : decode cX0_join 7 = .ok (.i2l, 1) := dk_133 (dk_at dksX0_join_0 7 rfl rfl)
theorem dX0_join_8 : decode cX0_join 8 = .ok (.lastore, 1) := dk_80 (dk_at dksX0_join_0 8 rfl rfl)
theorem dX0_join_9 : decode cX0_join 9 = .ok (.goto 6, 3) := dk_167 0 6 (dk_at dksX0_join_0 9 rfl rfl)
theorem dX0_join_12 : decode cX0_join 12 = .ok (.astore_n 3, 1) := dk_78 (dk_at dksX0_join_0 12 rfl rfl)
theorem dX0_join_13 : decode cX0_join 13 = .ok (.iconst 1, 1) := dk_4 (dk_at dksX0_join_0 13 rfl rfl)
theorem dX0_join_14 : decode cX0_join 14 = .ok (.ireturn, 1) := dk_172 (dk_at dksX0_join_0 14 rfl rfl)
theorem dX0_join_15 : decode cX0_join 15 = .ok (.iconst 0, 1) := dk_3 (dk_at dksX0_join_0 15 rfl rfl)
theorem dX0_join_16 : decode cX0_join 16 = .ok (.ireturn, 1) := dk_172 (dk_at dksX0_join_0 16 rfl rfl)
abbrev cX0_at : ByteArray := method_9_code
def yX0_at : MethodName := ⟨RX0, "at", "(LTufaSteps;II[J)I"⟩
def dkwX0_at_1 : List UInt8 := [3, 172]
abbrev dktX0_at_1 : List UInt8 := dkwX0_at_1 ++ []
def dkwX0_at_0 : List UInt8 := [45, 3, 42, 27, 28, 182, 0, 36, 153, 0, 7, 10, 167, 0, 4, 9, 80, 167, 0, 7, 58, 4, 4, 172]
abbrev dktX0_at_0 : List UInt8 := dkwX0_at_0 ++ dktX0_at_1
theorem dksX0_at_0 : cX0_at.data.toList.drop 0 = dktX0_at_0 := by decide +kernel
theorem dksX0_at_1 : cX0_at.data.toList.drop 24 = dktX0_at_1 := dk_seg dksX0_at_0 24 rfl rfl
theorem dX0_at_0 : decode cX0_at 0 = .ok (.aload_n 3, 1) := dk_45 (dk_at dksX0_at_0 0 rfl rfl)
theorem dX0_at_1 : decode cX0_at 1 = .ok (.iconst 0, 1) := dk_3 (dk_at dksX0_at_0 1 rfl rfl)
theorem dX0_at_2 : decode cX0_at 2 = .ok (.aload_n 0, 1) := dk_42 (dk_at dksX0_at_0 2 rfl rfl)
theorem dX0_at_3 : decode cX0_at 3 = .ok (.iload_n 1, 1) := dk_27 (dk_at dksX0_at_0 3 rfl rfl)
theorem dX0_at_4 : decode cX0_at 4 = .ok (.iload_n 2, 1) := dk_28 (dk_at dksX0_at_0 4 rfl rfl)
theorem dX0_at_5 : decode cX0_at 5 = .ok (.invokevirtual 36, 3) := dk_182 0 36 (dk_at dksX0_at_0 5 rfl rfl)
theorem dX0_at_8 : decode cX0_at 8 = .ok (.ifCond .eq 7, 3) := dk_153 0 7 (dk_at dksX0_at_0 8 rfl rfl)
theorem dX0_at_11 : decode cX0_at 11 = .ok (.lconst 1, 1) := dk_10 (dk_at dksX0_at_0 11 rfl rfl)
theorem dX0_at_12 : decode cX0_at 12 = .ok (.goto 4, 3) := dk_167 0 4 (dk_at dksX0_at_0 12 rfl rfl)
theorem dX0_at_15 : decode cX0_at 15 = .ok (.lconst 0, 1) := dk_9 (dk_at dksX0_at_0 15 rfl rfl)
theorem dX0_at_16 : decode cX0_at 16 = .ok (.lastore, 1) := dk_80 (dk_at dksX0_at_0 16 rfl rfl)
theorem dX0_at_17 : decode cX0_at 17 = .ok (.goto 7, 3) := dk_167 0 7 (dk_at dksX0_at_0 17 rfl rfl)
theorem dX0_at_20 : decode cX0_at 20 = .ok (.astore 4, 2) := dk_58 4 (dk_at dksX0_at_0 20 rfl rfl)
theorem dX0_at_22 : decode cX0_at 22 = .ok (.iconst 1, 1) := dk_4 (dk_at dksX0_at_0 22 rfl rfl)
theorem dX0_at_23 : decode cX0_at 23 = .ok (.ireturn, 1) := dk_172 (dk_at dksX0_at_0 23 rfl rfl)
theorem dX0_at_24 : decode cX0_at 24 = .ok (.iconst 0, 1) := dk_3 (dk_at dksX0_at_1 0 rfl rfl)
theorem dX0_at_25 : decode cX0_at 25 = .ok (.ireturn, 1) := dk_172 (dk_at dksX0_at_1 1 rfl rfl)
abbrev cX0_depthAt : ByteArray := method_10_code
def yX0_depthAt : MethodName := ⟨RX0, "depthAt", "(LTufaSteps;IIZ[J)I"⟩
def dkwX0_depthAt_0 : List UInt8 := [25, 4, 3, 42, 27, 28, 29, 182, 0, 40, 133, 80, 167, 0, 7, 58, 5, 4, 172, 3, 172]
abbrev dktX0_depthAt_0 : List UInt8 := dkwX0_depthAt_0 ++ []
theorem dksX0_depthAt_0 : cX0_depthAt.data.toList.drop 0 = dktX0_depthAt_0 := by decide +kernel
theorem dX0_depthAt_0 : decode cX0_depthAt 0 = .ok (.aload 4, 2) := dk_25 4 (dk_at dksX0_depthAt_0 0 rfl rfl)
theorem dX0_depthAt_2 : decode cX0_depthAt 2 = .ok (.iconst 0, 1) := dk_3 (dk_at dksX0_depthAt_0 2 rfl rfl)
theorem dX0_depthAt_3 : decode cX0_depthAt 3 = .ok (.aload_n 0, 1) := dk_42 (dk_at dksX0_depthAt_0 3 rfl rfl)
theorem dX0_depthAt_4 : decode cX0_depthAt 4 = .ok (.iload_n 1, 1) := dk_27 (dk_at dksX0_depthAt_0 4 rfl rfl)
theorem dX0_depthAt_5 : decode cX0_depthAt 5 = .ok (.iload_n 2, 1) := dk_28 (dk_at dksX0_depthAt_0 5 rfl rfl)
theorem dX0_depthAt_6 : decode cX0_depthAt 6 = .ok (.iload_n 3, 1) := dk_29 (dk_at dksX0_depthAt_0 6 rfl rfl)
theorem dX0_depthAt_7 : decode cX0_depthAt 7 = .ok (.invokevirtual 40, 3) := dk_182 0 40 (dk_at dksX0_depthAt_0 7 rfl rfl)
theorem dX0_depthAt_10 : decode cX0_depthAt 10 = .ok (.i2l, 1) := dk_133 (dk_at dksX0_depthAt_0 10 rfl rfl)
theorem dX0_depthAt_11 : decode cX0_depthAt 11 = .ok (.lastore, 1) := dk_80 (dk_at dksX0_depthAt_0 11 rfl rfl)
theorem dX0_depthAt_12 : decode cX0_depthAt 12 = .ok (.goto 7, 3) := dk_167 0 7 (dk_at dksX0_depthAt_0 12 rfl rfl)
theorem dX0_depthAt_15 : decode cX0_depthAt 15 = .ok (.astore 5, 2) := dk_58 5 (dk_at dksX0_depthAt_0 15 rfl rfl)
theorem dX0_depthAt_17 : decode cX0_depthAt 17 = .ok (.iconst 1, 1) := dk_4 (dk_at dksX0_depthAt_0 17 rfl rfl)
theorem dX0_depthAt_18 : decode cX0_depthAt 18 = .ok (.ireturn, 1) := dk_172 (dk_at dksX0_depthAt_0 18 rfl rfl)
theorem dX0_depthAt_19 : decode cX0_depthAt 19 = .ok (.iconst 0, 1) := dk_3 (dk_at dksX0_depthAt_0 19 rfl rfl)
theorem dX0_depthAt_20 : decode cX0_depthAt 20 = .ok (.ireturn, 1) := dk_172 (dk_at dksX0_depthAt_0 20 rfl rfl)
abbrev cX0_runs : ByteArray := method_11_code
def yX0_runs : MethodName := ⟨RX0, "runs", "(LTufaSteps;I[J)I"⟩
def dkwX0_runs_0 : List UInt8 := [44, 3, 42, 27, 182, 0, 44, 133, 80, 167, 0, 6, 78, 4, 172, 3, 172]
abbrev dktX0_runs_0 : List UInt8 := dkwX0_runs_0 ++ []
theorem dksX0_runs_0 : cX0_runs.data.toList.drop 0 = dktX0_runs_0 := by decide +kernel
theorem dX0_runs_0 : decode cX0_runs 0 = .ok (.aload_n 2, 1) := dk_44 (dk_at dksX0_runs_0 0 rfl rfl)
theorem dX0_runs_1 : decode cX0_runs 1 = .ok (.iconst 0, 1) := dk_3 (dk_at dksX0_runs_0 1 rfl rfl)
theorem dX0_runs_2 : decode cX0_runs 2 = .ok (.aload_n 0, 1) := dk_42 (dk_at dksX0_runs_0 2 rfl rfl)
theorem dX0_runs_3 : decode cX0_runs 3 = .ok (.iload_n 1, 1) := dk_27 (dk_at dksX0_runs_0 3 rfl rfl)
theorem dX0_runs_4 : decode cX0_runs 4 = .ok (.invokevirtual 44, 3) := dk_182 0 44 (dk_at dksX0_runs_0 4 rfl rfl)
theorem dX0_runs_7 : decode cX0_runs 7 = .ok (.i2l, 1) := dk_133 (dk_at dksX0_runs_0 7 rfl rfl)
theorem dX0_runs_8 : decode cX0_runs 8 = .ok (.lastore, 1) := dk_80 (dk_at dksX0_runs_0 8 rfl rfl)
theorem dX0_runs_9 : decode cX0_runs 9 = .ok (.goto 6, 3) := dk_167 0 6 (dk_at dksX0_runs_0 9 rfl rfl)
theorem dX0_runs_12 : decode cX0_runs 12 = .ok (.astore_n 3, 1) := dk_78 (dk_at dksX0_runs_0 12 rfl rfl)
theorem dX0_runs_13 : decode cX0_runs 13 = .ok (.iconst 1, 1) := dk_4 (dk_at dksX0_runs_0 13 rfl rfl)
theorem dX0_runs_14 : decode cX0_runs 14 = .ok (.ireturn, 1) := dk_172 (dk_at dksX0_runs_0 14 rfl rfl)
theorem dX0_runs_15 : decode cX0_runs 15 = .ok (.iconst 0, 1) := dk_3 (dk_at dksX0_runs_0 15 rfl rfl)
theorem dX0_runs_16 : decode cX0_runs 16 = .ok (.ireturn, 1) := dk_172 (dk_at dksX0_runs_0 16 rfl rfl)
abbrev cX0_runAt : ByteArray := method_12_code
def yX0_runAt : MethodName := ⟨RX0, "runAt", "(LTufaSteps;II[J)I"⟩
def dkwX0_runAt_0 : List UInt8 := [45, 3, 42, 27, 28, 182, 0, 47, 133, 80, 167, 0, 11, 58, 4, 4, 172, 58, 4, 5, 172, 3, 172]
abbrev dktX0_runAt_0 : List UInt8 := dkwX0_runAt_0 ++ []
theorem dksX0_runAt_0 : cX0_runAt.data.toList.drop 0 = dktX0_runAt_0 := by decide +kernel
theorem dX0_runAt_0 : decode cX0_runAt 0 = .ok (.aload_n 3, 1) := dk_45 (dk_at dksX0_runAt_0 0 rfl rfl)
theorem dX0_runAt_1 : decode cX0_runAt 1 = .ok (.iconst 0, 1) := dk_3 (dk_at dksX0_runAt_0 1 rfl rfl)
theorem dX0_runAt_2 : decode cX0_runAt 2 = .ok (.aload_n 0, 1) := dk_42 (dk_at dksX0_runAt_0 2 rfl rfl)
theorem dX0_runAt_3 : decode cX0_runAt 3 = .ok (.iload_n 1, 1) := dk_27 (dk_at dksX0_runAt_0 3 rfl rfl)
theorem dX0_runAt_4 : decode cX0_runAt 4 = .ok (.iload_n 2, 1) := dk_28 (dk_at dksX0_runAt_0 4 rfl rfl)
theorem dX0_runAt_5 : decode cX0_runAt 5 = .ok (.invokevirtual 47, 3) := dk_182 0 47 (dk_at dksX0_runAt_0 5 rfl rfl)
theorem dX0_runAt_8 : decode cX0_runAt 8 = .ok (.i2l, 1) := dk_133 (dk_at dksX0_runAt_0 8 rfl rfl)
theorem dX0_runAt_9 : decode cX0_runAt 9 = .ok (.lastore, 1) := dk_80 (dk_at dksX0_runAt_0 9 rfl rfl)
theorem dX0_runAt_10 : decode cX0_runAt 10 = .ok (.goto 11, 3) := dk_167 0 11 (dk_at dksX0_runAt_0 10 rfl rfl)
theorem dX0_runAt_13 : decode cX0_runAt 13 = .ok (.astore 4, 2) := dk_58 4 (dk_at dksX0_runAt_0 13 rfl rfl)
theorem dX0_runAt_15 : decode cX0_runAt 15 = .ok (.iconst 1, 1) := dk_4 (dk_at dksX0_runAt_0 15 rfl rfl)
theorem dX0_runAt_16 : decode cX0_runAt 16 = .ok (.ireturn, 1) := dk_172 (dk_at dksX0_runAt_0 16 rfl rfl)
theorem dX0_runAt_17 : decode cX0_runAt 17 = .ok (.astore 4, 2) := dk_58 4 (dk_at dksX0_runAt_0 17 rfl rfl)
theorem dX0_runAt_19 : decode cX0_runAt 19 = .ok (.iconst 2, 1) := dk_5 (dk_at dksX0_runAt_0 19 rfl rfl)
theorem dX0_runAt_20 : decode cX0_runAt 20 = .ok (.ireturn, 1) := dk_172 (dk_at dksX0_runAt_0 20 rfl rfl)
theorem dX0_runAt_21 : decode cX0_runAt 21 = .ok (.iconst 0, 1) := dk_3 (dk_at dksX0_runAt_0 21 rfl rfl)
theorem dX0_runAt_22 : decode cX0_runAt 22 = .ok (.ireturn, 1) := dk_172 (dk_at dksX0_runAt_0 22 rfl rfl)
abbrev cX0_partOf : ByteArray := method_13_code
def yX0_partOf : MethodName := ⟨RX0, "partOf", "(LTufaSteps;II[J)I"⟩
def dkwX0_partOf_0 : List UInt8 := [45, 3, 42, 27, 28, 182, 0, 52, 133, 80, 167, 0, 7, 58, 4, 4, 172, 3, 172]
abbrev dktX0_partOf_0 : List UInt8 := dkwX0_partOf_0 ++ []
theorem dksX0_partOf_0 : cX0_partOf.data.toList.drop 0 = dktX0_partOf_0 := by decide +kernel
theorem dX0_partOf_0 : decode cX0_partOf 0 = .ok (.aload_n 3, 1) := dk_45 (dk_at dksX0_partOf_0 0 rfl rfl)
theorem dX0_partOf_1 : decode cX0_partOf 1 = .ok (.iconst 0, 1) := dk_3 (dk_at dksX0_partOf_0 1 rfl rfl)
theorem dX0_partOf_2 : decode cX0_partOf 2 = .ok (.aload_n 0, 1) := dk_42 (dk_at dksX0_partOf_0 2 rfl rfl)
theorem dX0_partOf_3 : decode cX0_partOf 3 = .ok (.iload_n 1, 1) := dk_27 (dk_at dksX0_partOf_0 3 rfl rfl)
theorem dX0_partOf_4 : decode cX0_partOf 4 = .ok (.iload_n 2, 1) := dk_28 (dk_at dksX0_partOf_0 4 rfl rfl)
theorem dX0_partOf_5 : decode cX0_partOf 5 = .ok (.invokevirtual 52, 3) := dk_182 0 52 (dk_at dksX0_partOf_0 5 rfl rfl)
theorem dX0_partOf_8 : decode cX0_partOf 8 = .ok (.i2l, 1) := dk_133 (dk_at dksX0_partOf_0 8 rfl rfl)
theorem dX0_partOf_9 : decode cX0_partOf 9 = .ok (.lastore, 1) := dk_80 (dk_at dksX0_partOf_0 9 rfl rfl)
theorem dX0_partOf_10 : decode cX0_partOf 10 = .ok (.goto 7, 3) := dk_167 0 7 (dk_at dksX0_partOf_0 10 rfl rfl)
theorem dX0_partOf_13 : decode cX0_partOf 13 = .ok (.astore 4, 2) := dk_58 4 (dk_at dksX0_partOf_0 13 rfl rfl)
theorem dX0_partOf_15 : decode cX0_partOf 15 = .ok (.iconst 1, 1) := dk_4 (dk_at dksX0_partOf_0 15 rfl rfl)
theorem dX0_partOf_16 : decode cX0_partOf 16 = .ok (.ireturn, 1) := dk_172 (dk_at dksX0_partOf_0 16 rfl rfl)
theorem dX0_partOf_17 : decode cX0_partOf 17 = .ok (.iconst 0, 1) := dk_3 (dk_at dksX0_partOf_0 17 rfl rfl)
theorem dX0_partOf_18 : decode cX0_partOf 18 = .ok (.ireturn, 1) := dk_172 (dk_at dksX0_partOf_0 18 rfl rfl)
abbrev cX0_partSize : ByteArray := method_14_code
def yX0_partSize : MethodName := ⟨RX0, "partSize", "(LTufaSteps;II[J)I"⟩
def dkwX0_partSize_0 : List UInt8 := [45, 3, 42, 27, 28, 182, 0, 55, 133, 80, 167, 0, 7, 58, 4, 4, 172, 3, 172]
abbrev dktX0_partSize_0 : List UInt8 := dkwX0_partSize_0 ++ []
theorem dksX0_partSize_0 : cX0_partSize.data.toList.drop 0 = dktX0_partSize_0 := by decide +kernel
theorem dX0_partSize_0 : decode cX0_partSize 0 = .ok (.aload_n 3, 1) := dk_45 (dk_at dksX0_partSize_0 0 rfl rfl)
theorem dX0_partSize_1 : decode cX0_partSize 1 = .ok (.iconst 0, 1) := dk_3 (dk_at dksX0_partSize_0 1 rfl rfl)
theorem dX0_partSize_2 : decode cX0_partSize 2 = .ok (.aload_n 0, 1) := dk_42 (dk_at dksX0_partSize_0 2 rfl rfl)
theorem dX0_partSize_3 : decode cX0_partSize 3 = .ok (.iload_n 1, 1) := dk_27 (dk_at dksX0_partSize_0 3 rfl rfl)
theorem dX0_partSize_4 : decode cX0_partSize 4 = .ok (.iload_n 2, 1) := dk_28 (dk_at dksX0_partSize_0 4 rfl rfl)
theorem dX0_partSize_5 : decode cX0_partSize 5 = .ok (.invokevirtual 55, 3) := dk_182 0 55 (dk_at dksX0_partSize_0 5 rfl rfl)
theorem dX0_partSize_8 : decode cX0_partSize 8 = .ok (.i2l, 1) := dk_133 (dk_at dksX0_partSize_0 8 rfl rfl)
theorem dX0_partSize_9 : decode cX0_partSize 9 = .ok (.lastore, 1) := dk_80 (dk_at dksX0_partSize_0 9 rfl rfl)
theorem dX0_partSize_10 : decode cX0_partSize 10 = .ok (.goto 7, 3) := dk_167 0 7 (dk_at dksX0_partSize_0 10 rfl rfl)
theorem dX0_partSize_13 : decode cX0_partSize 13 = .ok (.astore 4, 2) := dk_58 4 (dk_at dksX0_partSize_0 13 rfl rfl)
theorem dX0_partSize_15 : decode cX0_partSize 15 = .ok (.iconst 1, 1) := dk_4 (dk_at dksX0_partSize_0 15 rfl rfl)
theorem dX0_partSize_16 : decode cX0_partSize 16 = .ok (.ireturn, 1) := dk_172 (dk_at dksX0_partSize_0 16 rfl rfl)
theorem dX0_partSize_17 : decode cX0_partSize 17 = .ok (.iconst 0, 1) := dk_3 (dk_at dksX0_partSize_0 17 rfl rfl)
theorem dX0_partSize_18 : decode cX0_partSize 18 = .ok (.ireturn, 1) := dk_172 (dk_at dksX0_partSize_0 18 rfl rfl)
theorem q58 : (Jvm.Cond.initialized "TufaStepsLaw") ∈ lw_all := lw_g (lw_at lw_m1 0 rfl) rfl
theorem q96 : (Jvm.Cond.classLink "TufaStepsLaw" (8 : Nat) "TufaSteps") ∈ lw_all := lw_g (lw_at lw_m1 38 rfl) rfl
theorem q98 : (Jvm.Cond.methodLink "TufaStepsLaw" (58 : Nat) ({ cls := "TufaSteps", name := "<init>", desc := "()V" } : Jvm.MethodName)) ∈ lw_all := lw_g (lw_at lw_m1 40 rfl) rfl
theorem q159 : (Jvm.Cond.methodLink "TufaStepsLaw" (87 : Nat) ({ cls := "TufaSteps", name := "invert", desc := "()I" } : Jvm.MethodName)) ∈ lw_all := lw_g (lw_at lw_m1 101 rfl) rfl
theorem q545 : (Jvm.Cond.methodLink "TufaStepsLaw" (91 : Nat) ({ cls := "TufaSteps", name := "store", desc := "()I" } : Jvm.MethodName)) ∈ lw_all := lw_g (lw_at lw_m3 7 rfl) rfl
theorem q570 : (Jvm.Cond.methodLink "TufaStepsLaw" (99 : Nat) ({ cls := "TufaSteps", name := "thin", desc := "()I" } : Jvm.MethodName)) ∈ lw_all := lw_g (lw_at lw_m3 32 rfl) rfl
theorem q648 : (Jvm.Cond.methodLink "TufaStepsLaw" (103 : Nat) ({ cls := "TufaSteps", name := "width", desc := "()I" } : Jvm.MethodName)) ∈ lw_all := lw_g (lw_at lw_m3 110 rfl) rfl
theorem q652 : (Jvm.Cond.methodLink "TufaStepsLaw" (107 : Nat) ({ cls := "TufaSteps", name := "height", desc := "()I" } : Jvm.MethodName)) ∈ lw_all := lw_g (lw_at lw_m3 114 rfl) rfl
theorem q656 : (Jvm.Cond.methodLink "TufaStepsLaw" (114 : Nat) ({ cls := "TufaSteps", name := "ink", desc := "()I" } : Jvm.MethodName)) ∈ lw_all := lw_g (lw_at lw_m3 118 rfl) rfl
theorem q657 : (Jvm.Cond.methodLink "TufaStepsLaw" (121 : Nat) ({ cls := "TufaSteps", name := "greatestDepth", desc := "(Z)I" } : Jvm.MethodName)) ∈ lw_all := lw_g (lw_at lw_m3 119 rfl) rfl
theorem q673 : (Jvm.Cond.methodLink "TufaStepsLaw" (126 : Nat) ({ cls := "TufaSteps", name := "depthSum", desc := "(Z)I" } : Jvm.MethodName)) ∈ lw_all := lw_g (lw_at lw_m3 135 rfl) rfl
theorem q677 : (Jvm.Cond.methodLink "TufaStepsLaw" (136 : Nat) ({ cls := "TufaSteps", name := "allRuns", desc := "()I" } : Jvm.MethodName)) ∈ lw_all := lw_g (lw_at lw_m3 139 rfl) rfl
theorem q810 : (Jvm.Cond.methodLink "TufaStepsLaw" (140 : Nat) ({ cls := "TufaSteps", name := "parts", desc := "()I" } : Jvm.MethodName)) ∈ lw_all := lw_g (lw_at lw_m4 32 rfl) rfl
theorem q947 : (Jvm.Cond.methodLink "TufaStepsLaw" (150 : Nat) ({ cls := "TufaSteps", name := "holes", desc := "()I" } : Jvm.MethodName)) ∈ lw_all := lw_g (lw_at lw_m4 169 rfl) rfl
theorem q960 : (Jvm.Cond.methodLink "TufaStepsLaw" (154 : Nat) ({ cls := "TufaSteps", name := "edges", desc := "()I" } : Jvm.MethodName)) ∈ lw_all := lw_g (lw_at lw_m4 182 rfl) rfl
theorem q968 : (Jvm.Cond.methodLink "TufaStepsLaw" (158 : Nat) ({ cls := "TufaSteps", name := "stepsToThin", desc := "()I" } : Jvm.MethodName)) ∈ lw_all := lw_g (lw_at lw_m4 190 rfl) rfl
theorem q972 : (Jvm.Cond.methodLink "TufaStepsLaw" (162 : Nat) ({ cls := "TufaSteps", name := "thinned", desc := "()I" } : Jvm.MethodName)) ∈ lw_all := lw_g (lw_at lw_m4 194 rfl) rfl
theorem q976 : (Jvm.Cond.methodLink "TufaStepsLaw" (166 : Nat) ({ cls := "TufaSteps", name := "inkShare", desc := "()D" } : Jvm.MethodName)) ∈ lw_all := lw_g (lw_at lw_m4 198 rfl) rfl
theorem q980 : (Jvm.Cond.methodLink "TufaStepsLaw" (171 : Nat) ({ cls := "TufaSteps", name := "meanRun", desc := "()F" } : Jvm.MethodName)) ∈ lw_all := lw_g (lw_at lw_m4 202 rfl) rfl
theorem q985 : (Jvm.Cond.methodLink "TufaStepsLaw" (176 : Nat) ({ cls := "TufaSteps", name := "tufaErrors", desc := "()I" } : Jvm.MethodName)) ∈ lw_all := lw_g (lw_at lw_m4 207 rfl) rfl
theorem q1171 : (Jvm.Cond.methodLink "TufaStepsLaw" (180 : Nat) ({ cls := "TufaSteps", name := "checksum", desc := "()J" } : Jvm.MethodName)) ∈ lw_all := lw_g (lw_at lw_m5 153 rfl) rfl
theorem q1179 : (Jvm.Cond.methodLink "TufaStepsLaw" (62 : Nat) ({ cls := "TufaStepsLaw", name := "open", desc := "(LTufaSteps;II[J)I" } : Jvm.MethodName)) ∈ lw_all := lw_g (lw_at lw_m5 161 rfl) rfl
theorem q1180 : (Jvm.Cond.static ({ cls := "TufaStepsLaw", name := "open", desc := "(LTufaSteps;II[J)I" } : Jvm.MethodName)) ∈ lw_all := lw_g (lw_at lw_m5 162 rfl) rfl
theorem q1181 : (Jvm.Cond.codeWith ({ cls := "TufaStepsLaw", name := "open", desc := "(LTufaSteps;II[J)I" } : Jvm.MethodName) method_3_code (5 : Nat) (Option.some Jvm.ClassFile.FieldType.int) [((0 : Nat), (10 : Nat), (13 : Nat), (13 : Nat))]) ∈ lw_all := lw_g (lw_at lw_m5 163 rfl) rfl
theorem q1182 : (Jvm.Cond.classLink "TufaStepsLaw" (13 : Nat) "java/lang/IllegalArgumentException") ∈ lw_all := lw_g (lw_at lw_m5 164 rfl) rfl
theorem q1183 : (Jvm.Cond.methodLink "TufaStepsLaw" (7 : Nat) ({ cls := "TufaSteps", name := "open", desc := "(II)I" } : Jvm.MethodName)) ∈ lw_all := lw_g (lw_at lw_m5 165 rfl) rfl
theorem q1195 : (Jvm.Cond.methodLink "TufaStepsLaw" (72 : Nat) ({ cls := "TufaStepsLaw", name := "set", desc := "(LTufaSteps;IIZ[J)I" } : Jvm.MethodName)) ∈ lw_all := lw_g (lw_at lw_m5 177 rfl) rfl
theorem q1196 : (Jvm.Cond.static ({ cls := "TufaStepsLaw", name := "set", desc := "(LTufaSteps;IIZ[J)I" } : Jvm.MethodName)) ∈ lw_all := lw_g (lw_at lw_m5 178 rfl) rfl
theorem q1197 : (Jvm.Cond.codeWith ({ cls := "TufaStepsLaw", name := "set", desc := "(LTufaSteps;IIZ[J)I" } : Jvm.MethodName) method_4_code (6 : Nat) (Option.some Jvm.ClassFile.FieldType.int) [((0 : Nat), (19 : Nat), (22 : Nat), (19 : Nat))]) ∈ lw_all := lw_g (lw_at lw_m5 179 rfl) rfl
theorem q1198 : (Jvm.Cond.classLink "TufaStepsLaw" (19 : Nat) "java/lang/IndexOutOfBoundsException") ∈ lw_all := lw_g (lw_at lw_m5 180 rfl) rfl
theorem q1214 : (Jvm.Cond.methodLink "TufaStepsLaw" (15 : Nat) ({ cls := "TufaSteps", name := "set", desc := "(IIZ)Z" } : Jvm.MethodName)) ∈ lw_all := lw_g (lw_at lw_m5 196 rfl) rfl
theorem q1224 : (Jvm.Cond.methodLink "TufaStepsLaw" (76 : Nat) ({ cls := "TufaStepsLaw", name := "line", desc := "(LTufaSteps;IIIIZ[J)I" } : Jvm.MethodName)) ∈ lw_all := lw_g (lw_at lw_m5 206 rfl) rfl
theorem q1225 : (Jvm.Cond.static ({ cls := "TufaStepsLaw", name := "line", desc := "(LTufaSteps;IIIIZ[J)I" } : Jvm.MethodName)) ∈ lw_all := lw_g (lw_at lw_m5 207 rfl) rfl
theorem q1226 : (Jvm.Cond.codeWith ({ cls := "TufaStepsLaw", name := "line", desc := "(LTufaSteps;IIIIZ[J)I" } : Jvm.MethodName) method_5_code (8 : Nat) (Option.some Jvm.ClassFile.FieldType.int) [((0 : Nat), (16 : Nat), (19 : Nat), (13 : Nat))]) ∈ lw_all := lw_g (lw_at lw_m5 208 rfl) rfl
theorem q1227 : (Jvm.Cond.methodLink "TufaStepsLaw" (21 : Nat) ({ cls := "TufaSteps", name := "line", desc := "(IIIIZ)I" } : Jvm.MethodName)) ∈ lw_all := lw_g (lw_at lw_m5 209 rfl) rfl
theorem q1253 : (Jvm.Cond.methodLink "TufaStepsLaw" (80 : Nat) ({ cls := "TufaStepsLaw", name := "circle", desc := "(LTufaSteps;IIIZ[J)I" } : Jvm.MethodName)) ∈ lw_all := lw_g (lw_at lw_m5 235 rfl) rfl
theorem q1254 : (Jvm.Cond.static ({ cls := "TufaStepsLaw", name := "circle", desc := "(LTufaSteps;IIIZ[J)I" } : Jvm.MethodName)) ∈ lw_all := lw_g (lw_at lw_m5 236 rfl) rfl
theorem q1255 : (Jvm.Cond.codeWith ({ cls := "TufaStepsLaw", name := "circle", desc := "(LTufaSteps;IIIZ[J)I" } : Jvm.MethodName) method_6_code (7 : Nat) (Option.some Jvm.ClassFile.FieldType.int) [((0 : Nat), (14 : Nat), (17 : Nat), (13 : Nat))]) ∈ lw_all := lw_g (lw_at lw_m5 237 rfl) rfl
theorem q1256 : (Jvm.Cond.methodLink "TufaStepsLaw" (25 : Nat) ({ cls := "TufaSteps", name := "circle", desc := "(IIIZ)I" } : Jvm.MethodName)) ∈ lw_all := lw_g (lw_at lw_m5 238 rfl) rfl
theorem q1264 : (Jvm.Cond.methodLink "TufaStepsLaw" (84 : Nat) ({ cls := "TufaStepsLaw", name := "fill", desc := "(LTufaSteps;II[J)I" } : Jvm.MethodName)) ∈ lw_all := lw_g (lw_at lw_m6 6 rfl) rfl
theorem q1265 : (Jvm.Cond.static ({ cls := "TufaStepsLaw", name := "fill", desc := "(LTufaSteps;II[J)I" } : Jvm.MethodName)) ∈ lw_all := lw_g (lw_at lw_m6 7 rfl) rfl
theorem q1266 : (Jvm.Cond.codeWith ({ cls := "TufaStepsLaw", name := "fill", desc := "(LTufaSteps;II[J)I" } : Jvm.MethodName) method_7_code (5 : Nat) (Option.some Jvm.ClassFile.FieldType.int) [((0 : Nat), (10 : Nat), (13 : Nat), (19 : Nat))]) ∈ lw_all := lw_g (lw_at lw_m6 8 rfl) rfl
theorem q1267 : (Jvm.Cond.methodLink "TufaStepsLaw" (29 : Nat) ({ cls := "TufaSteps", name := "fill", desc := "(II)I" } : Jvm.MethodName)) ∈ lw_all := lw_g (lw_at lw_m6 9 rfl) rfl
theorem q1273 : (Jvm.Cond.methodLink "TufaStepsLaw" (95 : Nat) ({ cls := "TufaStepsLaw", name := "join", desc := "(LTufaSteps;I[J)I" } : Jvm.MethodName)) ∈ lw_all := lw_g (lw_at lw_m6 15 rfl) rfl
theorem q1274 : (Jvm.Cond.static ({ cls := "TufaStepsLaw", name := "join", desc := "(LTufaSteps;I[J)I" } : Jvm.MethodName)) ∈ lw_all := lw_g (lw_at lw_m6 16 rfl) rfl
theorem q1275 : (Jvm.Cond.codeWith ({ cls := "TufaStepsLaw", name := "join", desc := "(LTufaSteps;I[J)I" } : Jvm.MethodName) method_8_code (4 : Nat) (Option.some Jvm.ClassFile.FieldType.int) [((0 : Nat), (9 : Nat), (12 : Nat), (13 : Nat))]) ∈ lw_all := lw_g (lw_at lw_m6 17 rfl) rfl
theorem q1276 : (Jvm.Cond.methodLink "TufaStepsLaw" (32 : Nat) ({ cls := "TufaSteps", name := "join", desc := "(I)I" } : Jvm.MethodName)) ∈ lw_all := lw_g (lw_at lw_m6 18 rfl) rfl
theorem q1313 : (Jvm.Cond.methodLink "TufaStepsLaw" (111 : Nat) ({ cls := "TufaStepsLaw", name := "at", desc := "(LTufaSteps;II[J)I" } : Jvm.MethodName)) ∈ lw_all := lw_g (lw_at lw_m6 55 rfl) rfl
theorem q1314 : (Jvm.Cond.static ({ cls := "TufaStepsLaw", name := "at", desc := "(LTufaSteps;II[J)I" } : Jvm.MethodName)) ∈ lw_all := lw_g (lw_at lw_m6 56 rfl) rfl
theorem q1315 : (Jvm.Cond.codeWith ({ cls := "TufaStepsLaw", name := "at", desc := "(LTufaSteps;II[J)I" } : Jvm.MethodName) method_9_code (5 : Nat) (Option.some Jvm.ClassFile.FieldType.int) [((0 : Nat), (17 : Nat), (20 : Nat), (19 : Nat))]) ∈ lw_all := lw_g (lw_at lw_m6 57 rfl) rfl
theorem q1316 : (Jvm.Cond.methodLink "TufaStepsLaw" (36 : Nat) ({ cls := "TufaSteps", name := "at", desc := "(II)Z" } : Jvm.MethodName)) ∈ lw_all := lw_g (lw_at lw_m6 58 rfl) rfl
theorem q1320 : (Jvm.Cond.methodLink "TufaStepsLaw" (118 : Nat) ({ cls := "TufaStepsLaw", name := "depthAt", desc := "(LTufaSteps;IIZ[J)I" } : Jvm.MethodName)) ∈ lw_all := lw_g (lw_at lw_m6 62 rfl) rfl
theorem q1321 : (Jvm.Cond.static ({ cls := "TufaStepsLaw", name := "depthAt", desc := "(LTufaSteps;IIZ[J)I" } : Jvm.MethodName)) ∈ lw_all := lw_g (lw_at lw_m6 63 rfl) rfl
theorem q1322 : (Jvm.Cond.codeWith ({ cls := "TufaStepsLaw", name := "depthAt", desc := "(LTufaSteps;IIZ[J)I" } : Jvm.MethodName) method_10_code (6 : Nat) (Option.some Jvm.ClassFile.FieldType.int) [((0 : Nat), (12 : Nat), (15 : Nat), (19 : Nat))]) ∈ lw_all := lw_g (lw_at lw_m6 64 rfl) rfl
theorem q1323 : (Jvm.Cond.methodLink "TufaStepsLaw" (40 : Nat) ({ cls := "TufaSteps", name := "depthAt", desc := "(IIZ)I" } : Jvm.MethodName)) ∈ lw_all := lw_g (lw_at lw_m6 65 rfl) rfl
theorem q1327 : (Jvm.Cond.methodLink "TufaStepsLaw" (130 : Nat) ({ cls := "TufaStepsLaw", name := "runs", desc := "(LTufaSteps;I[J)I" } : Jvm.MethodName)) ∈ lw_all := lw_g (lw_at lw_m6 69 rfl) rfl
theorem q1328 : (Jvm.Cond.static ({ cls := "TufaStepsLaw", name := "runs", desc := "(LTufaSteps;I[J)I" } : Jvm.MethodName)) ∈ lw_all := lw_g (lw_at lw_m6 70 rfl) rfl
theorem q1329 : (Jvm.Cond.codeWith ({ cls := "TufaStepsLaw", name := "runs", desc := "(LTufaSteps;I[J)I" } : Jvm.MethodName) method_11_code (4 : Nat) (Option.some Jvm.ClassFile.FieldType.int) [((0 : Nat), (9 : Nat), (12 : Nat), (19 : Nat))]) ∈ lw_all := lw_g (lw_at lw_m6 71 rfl) rfl
theorem q1330 : (Jvm.Cond.methodLink "TufaStepsLaw" (44 : Nat) ({ cls := "TufaSteps", name := "runs", desc := "(I)I" } : Jvm.MethodName)) ∈ lw_all := lw_g (lw_at lw_m6 72 rfl) rfl
theorem q1331 : (Jvm.Cond.methodLink "TufaStepsLaw" (133 : Nat) ({ cls := "TufaStepsLaw", name := "runAt", desc := "(LTufaSteps;II[J)I" } : Jvm.MethodName)) ∈ lw_all := lw_g (lw_at lw_m6 73 rfl) rfl
theorem q1332 : (Jvm.Cond.static ({ cls := "TufaStepsLaw", name := "runAt", desc := "(LTufaSteps;II[J)I" } : Jvm.MethodName)) ∈ lw_all := lw_g (lw_at lw_m6 74 rfl) rfl
theorem q1333 : (Jvm.Cond.codeWith ({ cls := "TufaStepsLaw", name := "runAt", desc := "(LTufaSteps;II[J)I" } : Jvm.MethodName) method_12_code (5 : Nat) (Option.some Jvm.ClassFile.FieldType.int) [((0 : Nat), (10 : Nat), (13 : Nat), (19 : Nat)), ((0 : Nat), (10 : Nat), (17 : Nat), (50 : Nat))]) ∈ lw_all := lw_g (lw_at lw_m6 75 rfl) rfl
theorem q1334 : (Jvm.Cond.classLink "TufaStepsLaw" (50 : Nat) "java/util/NoSuchElementException") ∈ lw_all := lw_g (lw_at lw_m6 76 rfl) rfl
theorem q1335 : (Jvm.Cond.methodLink "TufaStepsLaw" (47 : Nat) ({ cls := "TufaSteps", name := "runAt", desc := "(II)I" } : Jvm.MethodName)) ∈ lw_all := lw_g (lw_at lw_m6 77 rfl) rfl
theorem q1345 : (Jvm.Cond.methodLink "TufaStepsLaw" (144 : Nat) ({ cls := "TufaStepsLaw", name := "partOf", desc := "(LTufaSteps;II[J)I" } : Jvm.MethodName)) ∈ lw_all := lw_g (lw_at lw_m6 87 rfl) rfl
theorem q1346 : (Jvm.Cond.static ({ cls := "TufaStepsLaw", name := "partOf", desc := "(LTufaSteps;II[J)I" } : Jvm.MethodName)) ∈ lw_all := lw_g (lw_at lw_m6 88 rfl) rfl
theorem q1347 : (Jvm.Cond.codeWith ({ cls := "TufaStepsLaw", name := "partOf", desc := "(LTufaSteps;II[J)I" } : Jvm.MethodName) method_13_code (5 : Nat) (Option.some Jvm.ClassFile.FieldType.int) [((0 : Nat), (10 : Nat), (13 : Nat), (19 : Nat))]) ∈ lw_all := lw_g (lw_at lw_m6 89 rfl) rfl
theorem q1348 : (Jvm.Cond.methodLink "TufaStepsLaw" (52 : Nat) ({ cls := "TufaSteps", name := "partOf", desc := "(II)I" } : Jvm.MethodName)) ∈ lw_all := lw_g (lw_at lw_m6 90 rfl) rfl
theorem q1353 : (Jvm.Cond.methodLink "TufaStepsLaw" (147 : Nat) ({ cls := "TufaStepsLaw", name := "partSize", desc := "(LTufaSteps;II[J)I" } : Jvm.MethodName)) ∈ lw_all := lw_g (lw_at lw_m6 95 rfl) rfl
theorem q1354 : (Jvm.Cond.static ({ cls := "TufaStepsLaw", name := "partSize", desc := "(LTufaSteps;II[J)I" } : Jvm.MethodName)) ∈ lw_all := lw_g (lw_at lw_m6 96 rfl) rfl
theorem q1355 : (Jvm.Cond.codeWith ({ cls := "TufaStepsLaw", name := "partSize", desc := "(LTufaSteps;II[J)I" } : Jvm.MethodName) method_14_code (5 : Nat) (Option.some Jvm.ClassFile.FieldType.int) [((0 : Nat), (10 : Nat), (13 : Nat), (19 : Nat))]) ∈ lw_all := lw_g (lw_at lw_m6 97 rfl) rfl
theorem q1356 : (Jvm.Cond.methodLink "TufaStepsLaw" (55 : Nat) ({ cls := "TufaSteps", name := "partSize", desc := "(II)I" } : Jvm.MethodName)) ∈ lw_all := lw_g (lw_at lw_m6 98 rfl) rfl
theorem q1360 : (Jvm.Cond.classLink "TufaStepsLaw" (59 : Nat) "TufaStepsModel") ∈ lw_all := lw_g (lw_at lw_m6 102 rfl) rfl
theorem q1362 : (Jvm.Cond.methodLink "TufaStepsLaw" (61 : Nat) ({ cls := "TufaStepsModel", name := "<init>", desc := "()V" } : Jvm.MethodName)) ∈ lw_all := lw_g (lw_at lw_m6 104 rfl) rfl
theorem q1399 : (Jvm.Cond.methodLink "TufaStepsLaw" (68 : Nat) ({ cls := "TufaStepsModel", name := "thrown", desc := "()I" } : Jvm.MethodName)) ∈ lw_all := lw_g (lw_at lw_m6 141 rfl) rfl
theorem q1403 : (Jvm.Cond.methodLink "TufaStepsLaw" (67 : Nat) ({ cls := "TufaStepsModel", name := "open", desc := "(II)I" } : Jvm.MethodName)) ∈ lw_all := lw_g (lw_at lw_m6 145 rfl) rfl
theorem q1414 : (Jvm.Cond.methodLink "TufaStepsLaw" (75 : Nat) ({ cls := "TufaStepsModel", name := "set", desc := "(IIZ)Z" } : Jvm.MethodName)) ∈ lw_all := lw_g (lw_at lw_m6 156 rfl) rfl
theorem q1430 : (Jvm.Cond.methodLink "TufaStepsLaw" (79 : Nat) ({ cls := "TufaStepsModel", name := "line", desc := "(IIIIZ)I" } : Jvm.MethodName)) ∈ lw_all := lw_g (lw_at lw_m6 172 rfl) rfl
theorem q1443 : (Jvm.Cond.methodLink "TufaStepsLaw" (83 : Nat) ({ cls := "TufaStepsModel", name := "circle", desc := "(IIIZ)I" } : Jvm.MethodName)) ∈ lw_all := lw_g (lw_at lw_m6 185 rfl) rfl
theorem q1455 : (Jvm.Cond.methodLink "TufaStepsLaw" (86 : Nat) ({ cls := "TufaStepsModel", name := "fill", desc := "(II)I" } : Jvm.MethodName)) ∈ lw_all := lw_g (lw_at lw_m6 197 rfl) rfl
theorem q1481 : (Jvm.Cond.methodLink "TufaStepsLaw" (90 : Nat) ({ cls := "TufaStepsModel", name := "invert", desc := "()I" } : Jvm.MethodName)) ∈ lw_all := lw_g (lw_at lw_m6 223 rfl) rfl
theorem q1489 : (Jvm.Cond.methodLink "TufaStepsLaw" (94 : Nat) ({ cls := "TufaStepsModel", name := "store", desc := "()I" } : Jvm.MethodName)) ∈ lw_all := lw_g (lw_at lw_m6 231 rfl) rfl
theorem q1493 : (Jvm.Cond.methodLink "TufaStepsLaw" (98 : Nat) ({ cls := "TufaStepsModel", name := "join", desc := "(I)I" } : Jvm.MethodName)) ∈ lw_all := lw_g (lw_at lw_m6 235 rfl) rfl
theorem q1497 : (Jvm.Cond.methodLink "TufaStepsLaw" (102 : Nat) ({ cls := "TufaStepsModel", name := "thin", desc := "()I" } : Jvm.MethodName)) ∈ lw_all := lw_g (lw_at lw_m6 239 rfl) rfl
theorem q1529 : (Jvm.Cond.methodLink "TufaStepsLaw" (106 : Nat) ({ cls := "TufaStepsModel", name := "width", desc := "()I" } : Jvm.MethodName)) ∈ lw_all := lw_g (lw_at lw_m7 31 rfl) rfl
theorem q1533 : (Jvm.Cond.methodLink "TufaStepsLaw" (110 : Nat) ({ cls := "TufaStepsModel", name := "height", desc := "()I" } : Jvm.MethodName)) ∈ lw_all := lw_g (lw_at lw_m7 35 rfl) rfl
theorem q1537 : (Jvm.Cond.methodLink "TufaStepsLaw" (113 : Nat) ({ cls := "TufaStepsModel", name := "at", desc := "(II)Z" } : Jvm.MethodName)) ∈ lw_all := lw_g (lw_at lw_m7 39 rfl) rfl
theorem q1541 : (Jvm.Cond.methodLink "TufaStepsLaw" (117 : Nat) ({ cls := "TufaStepsModel", name := "ink", desc := "()I" } : Jvm.MethodName)) ∈ lw_all := lw_g (lw_at lw_m7 43 rfl) rfl
theorem q1545 : (Jvm.Cond.methodLink "TufaStepsLaw" (120 : Nat) ({ cls := "TufaStepsModel", name := "depthAt", desc := "(IIZ)I" } : Jvm.MethodName)) ∈ lw_all := lw_g (lw_at lw_m7 47 rfl) rfl
theorem q1557 : (Jvm.Cond.methodLink "TufaStepsLaw" (125 : Nat) ({ cls := "TufaStepsModel", name := "greatestDepth", desc := "(Z)I" } : Jvm.MethodName)) ∈ lw_all := lw_g (lw_at lw_m7 59 rfl) rfl
theorem q1562 : (Jvm.Cond.methodLink "TufaStepsLaw" (129 : Nat) ({ cls := "TufaStepsModel", name := "depthSum", desc := "(Z)I" } : Jvm.MethodName)) ∈ lw_all := lw_g (lw_at lw_m7 64 rfl) rfl
theorem q1566 : (Jvm.Cond.methodLink "TufaStepsLaw" (132 : Nat) ({ cls := "TufaStepsModel", name := "runs", desc := "(I)I" } : Jvm.MethodName)) ∈ lw_all := lw_g (lw_at lw_m7 68 rfl) rfl
theorem q1582 : (Jvm.Cond.methodLink "TufaStepsLaw" (135 : Nat) ({ cls := "TufaStepsModel", name := "runAt", desc := "(II)I" } : Jvm.MethodName)) ∈ lw_all := lw_g (lw_at lw_m7 84 rfl) rfl
theorem q1590 : (Jvm.Cond.methodLink "TufaStepsLaw" (139 : Nat) ({ cls := "TufaStepsModel", name := "allRuns", desc := "()I" } : Jvm.MethodName)) ∈ lw_all := lw_g (lw_at lw_m7 92 rfl) rfl
theorem q1598 : (Jvm.Cond.methodLink "TufaStepsLaw" (143 : Nat) ({ cls := "TufaStepsModel", name := "parts", desc := "()I" } : Jvm.MethodName)) ∈ lw_all := lw_g (lw_at lw_m7 100 rfl) rfl
theorem q1606 : (Jvm.Cond.methodLink "TufaStepsLaw" (146 : Nat) ({ cls := "TufaStepsModel", name := "partOf", desc := "(II)I" } : Jvm.MethodName)) ∈ lw_all := lw_g (lw_at lw_m7 108 rfl) rfl
theorem q1614 : (Jvm.Cond.methodLink "TufaStepsLaw" (149 : Nat) ({ cls := "TufaStepsModel", name := "partSize", desc := "(II)I" } : Jvm.MethodName)) ∈ lw_all := lw_g (lw_at lw_m7 116 rfl) rfl
theorem q1622 : (Jvm.Cond.methodLink "TufaStepsLaw" (153 : Nat) ({ cls := "TufaStepsModel", name := "holes", desc := "()I" } : Jvm.MethodName)) ∈ lw_all := lw_g (lw_at lw_m7 124 rfl) rfl
theorem q1634 : (Jvm.Cond.methodLink "TufaStepsLaw" (157 : Nat) ({ cls := "TufaStepsModel", name := "edges", desc := "()I" } : Jvm.MethodName)) ∈ lw_all := lw_g (lw_at lw_m7 136 rfl) rfl
theorem q1638 : (Jvm.Cond.methodLink "TufaStepsLaw" (161 : Nat) ({ cls := "TufaStepsModel", name := "stepsToThin", desc := "()I" } : Jvm.MethodName)) ∈ lw_all := lw_g (lw_at lw_m7 140 rfl) rfl
theorem q1650 : (Jvm.Cond.methodLink "TufaStepsLaw" (165 : Nat) ({ cls := "TufaStepsModel", name := "thinned", desc := "()I" } : Jvm.MethodName)) ∈ lw_all := lw_g (lw_at lw_m7 152 rfl) rfl
theorem q1654 : (Jvm.Cond.methodLink "TufaStepsLaw" (170 : Nat) ({ cls := "TufaStepsModel", name := "inkShare", desc := "()D" } : Jvm.MethodName)) ∈ lw_all := lw_g (lw_at lw_m7 156 rfl) rfl
theorem q1658 : (Jvm.Cond.methodLink "TufaStepsLaw" (175 : Nat) ({ cls := "TufaStepsModel", name := "meanRun", desc := "()F" } : Jvm.MethodName)) ∈ lw_all := lw_g (lw_at lw_m7 160 rfl) rfl
theorem q1662 : (Jvm.Cond.methodLink "TufaStepsLaw" (179 : Nat) ({ cls := "TufaStepsModel", name := "tufaErrors", desc := "()I" } : Jvm.MethodName)) ∈ lw_all := lw_g (lw_at lw_m7 164 rfl) rfl
theorem q1671 : (Jvm.Cond.methodLink "TufaStepsLaw" (184 : Nat) ({ cls := "TufaStepsModel", name := "checksum", desc := "()J" } : Jvm.MethodName)) ∈ lw_all := lw_g (lw_at lw_m7 173 rfl) rfl
