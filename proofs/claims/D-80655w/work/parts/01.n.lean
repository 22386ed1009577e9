/-! DECODE ROWS BY BYTES: one lemma an opcode; a method's code is cut into short pieces once, and a row reads its own piece alone. -/
set_option maxRecDepth 100000
/-- the code has just these bytes from pc on -/
def DkAt (code : ByteArray) (pc : Nat) (bs : List UInt8) : Prop := ∀ (j : Nat) (b : UInt8), bs[j]? = some b → code.data.toList[pc + j]? = some b
/-- the piece W has the bytes bs from its place j on -/
def dkIn (W : List UInt8) (j : Nat) (bs : List UInt8) : Bool := decide ((W.drop j).take bs.length = bs)
theorem dk_seg {l W T : List UInt8} {o o2 : Nat} (h : l.drop o = W ++ T) (n : Nat) (hn : W.length = n) (ho : o + n = o2) : l.drop o2 = T := by
  subst ho
  rw [← List.drop_drop, h, List.drop_left' hn]
theorem dk_at {code : ByteArray} {W T bs : List UInt8} {o pc : Nat} (h : code.data.toList.drop o = W ++ T) (j : Nat) (hp : o + j = pc) (hw : dkIn W j bs = true) : DkAt code pc bs := by
  subst hp
  intro i b e
  have h1 := of_decide_eq_true hw
  have h2 : i < bs.length := (List.getElem?_eq_some_iff.mp e).1
  have h3 : W[j + i]? = some b := by
    rw [← h1, List.getElem?_take, if_pos h2, List.getElem?_drop] at e
    exact e
  have h4 : j + i < W.length := (List.getElem?_eq_some_iff.mp h3).1
  have h5 : (code.data.toList.drop o)[j + i]? = some b := by
    rw [h, List.getElem?_append_left h4]
    exact h3
  rw [List.getElem?_drop, ← Nat.add_assoc] at h5
  exact h5
theorem dk_u1 {A : ByteArray} {p : Nat} {b : UInt8} (h : A.data.toList[p]? = some b) : (Reader.u1 : Reader DecodeError Nat) A p = .ok (b.toNat, p + 1) := by
  obtain ⟨h1, h2⟩ := List.getElem?_eq_some_iff.mp h
  have h3 : p < A.size := by simpa using h1
  have h4 : A[p]'h3 = b := h2
  have e : (Reader.u1 : Reader DecodeError Nat) A p = (if h : p < A.size then .ok (A[p].toNat, p + 1) else .error (HasTruncated.truncated p)) := by
    show (do if h : p < A.size then do set (p + 1); Pure.pure A[p].toNat else MonadExcept.throw (HasTruncated.truncated p) : Reader DecodeError Nat) A p = _
    by_cases hi : p < A.size
    · rw [dif_pos hi, dif_pos hi]; rfl
    · rw [dif_neg hi, dif_neg hi]; rfl
  rw [e, dif_pos h3, h4]
theorem dk_bind {α β : Type} {r : Reader DecodeError α} {f : α → Reader DecodeError β} {A : ByteArray} {p s : Nat} {a : α} (h : r A p = .ok (a, s)) : (r >>= f) A p = f a A s := by
  show (do let (a, s) ← r A p; f a A s : Except DecodeError (β × Nat)) = _
  rw [h]
  rfl
theorem dk_map {α β : Type} {r : Reader DecodeError α} {g : α → β} {A : ByteArray} {p s : Nat} {a : α} (h : r A p = .ok (a, s)) : (g <$> r) A p = .ok (g a, s) := by
  show (do let (a, s) ← r A p; .ok (g a, s) : Except DecodeError (β × Nat)) = _
  rw [h]
  rfl
theorem dk_u2 {A : ByteArray} {p : Nat} {a b : UInt8} (h : A.data.toList[p]? = some a) (h2 : A.data.toList[p + 1]? = some b) : (Reader.u2 : Reader DecodeError Nat) A p = .ok (a.toNat * 256 + b.toNat, p + 2) := by
  show (Reader.u1 >>= fun hi => Reader.u1 >>= fun lo => Pure.pure (hi * 256 + lo) : Reader DecodeError Nat) A p = _
  rw [dk_bind (dk_u1 h), dk_bind (dk_u1 h2)]
  rfl
theorem dk_of {code : ByteArray} {pc n : Nat} {i : Instr} (h : Decoder.instr pc code pc = .ok (i, pc + n)) : decode code pc = .ok (i, n) := by
  have e : decode code pc = (match Decoder.instr pc code pc with | .error x => .error x | .ok (j, s) => .ok (j, s - pc)) := by
    show (do let (j, s) ← Decoder.instr pc code pc; Pure.pure (j, s - pc) : Except DecodeError (Instr × Nat)) = _
    cases Decoder.instr pc code pc <;> rfl
  rw [e, h]
  show Except.ok (i, pc + n - pc) = _
  rw [Nat.add_sub_cancel_left]
theorem dk_1 {code : ByteArray} {pc : Nat} (h : DkAt code pc [1]) : decode code pc = .ok (.aconst_null, 1) := dk_of ((dk_bind (dk_u1 (h 0 _ rfl))).trans rfl)
theorem dk_2 {code : ByteArray} {pc : Nat} (h : DkAt code pc [2]) : decode code pc = .ok (.iconst (-1), 1) := dk_of ((dk_bind (dk_u1 (h 0 _ rfl))).trans rfl)
theorem dk_3 {code : ByteArray} {pc : Nat} (h : DkAt code pc [3]) : decode code pc = .ok (.iconst 0, 1) := dk_of ((dk_bind (dk_u1 (h 0 _ rfl))).trans rfl)
theorem dk_4 {code : ByteArray} {pc : Nat} (h : DkAt code pc [4]) : decode code pc = .ok (.iconst 1, 1) := dk_of ((dk_bind (dk_u1 (h 0 _ rfl))).trans rfl)
theorem dk_5 {code : ByteArray} {pc : Nat} (h : DkAt code pc [5]) : decode code pc = .ok (.iconst 2, 1) := dk_of ((dk_bind (dk_u1 (h 0 _ rfl))).trans rfl)
theorem dk_6 {code : ByteArray} {pc : Nat} (h : DkAt code pc [6]) : decode code pc = .ok (.iconst 3, 1) := dk_of ((dk_bind (dk_u1 (h 0 _ rfl))).trans rfl)
theorem dk_7 {code : ByteArray} {pc : Nat} (h : DkAt code pc [7]) : decode code pc = .ok (.iconst 4, 1) := dk_of ((dk_bind (dk_u1 (h 0 _ rfl))).trans rfl)
theorem dk_8 {code : ByteArray} {pc : Nat} (h : DkAt code pc [8]) : decode code pc = .ok (.iconst 5, 1) := dk_of ((dk_bind (dk_u1 (h 0 _ rfl))).trans rfl)
theorem dk_9 {code : ByteArray} {pc : Nat} (h : DkAt code pc [9]) : decode code pc = .ok (.lconst 0, 1) := dk_of ((dk_bind (dk_u1 (h 0 _ rfl))).trans rfl)
theorem dk_10 {code : ByteArray} {pc : Nat} (h : DkAt code pc [10]) : decode code pc = .ok (.lconst 1, 1) := dk_of ((dk_bind (dk_u1 (h 0 _ rfl))).trans rfl)
theorem dk_14 {code : ByteArray} {pc : Nat} (h : DkAt code pc [14]) : decode code pc = .ok (.dconst 0, 1) := dk_of ((dk_bind (dk_u1 (h 0 _ rfl))).trans rfl)
theorem dk_15 {code : ByteArray} {pc : Nat} (h : DkAt code pc [15]) : decode code pc = .ok (.dconst 1, 1) := dk_of ((dk_bind (dk_u1 (h 0 _ rfl))).trans rfl)
theorem dk_16 {code : ByteArray} {pc : Nat} (a : UInt8) (h : DkAt code pc [16, a]) : decode code pc = .ok (.bipush (Reader.signed 8 a.toNat), 2) := dk_of ((dk_bind (dk_u1 (h 0 _ rfl))).trans ((dk_bind (dk_map (dk_u1 (h 1 _ rfl)))).trans rfl))
theorem dk_17 {code : ByteArray} {pc : Nat} (a b : UInt8) (h : DkAt code pc [17, a, b]) : decode code pc = .ok (.sipush (Reader.signed 16 (a.toNat * 256 + b.toNat)), 3) := dk_of ((dk_bind (dk_u1 (h 0 _ rfl))).trans ((dk_bind (dk_map (dk_u2 (h 1 _ rfl) (h 2 _ rfl)))).trans rfl))
theorem dk_18 {code : ByteArray} {pc : Nat} (a : UInt8) (h : DkAt code pc [18, a]) : decode code pc = .ok (.ldc a.toNat, 2) := dk_of ((dk_bind (dk_u1 (h 0 _ rfl))).trans ((dk_bind (dk_u1 (h 1 _ rfl))).trans rfl))
theorem dk_19 {code : ByteArray} {pc : Nat} (a b : UInt8) (h : DkAt code pc [19, a, b]) : decode code pc = .ok (.ldc_w (a.toNat * 256 + b.toNat), 3) := dk_of ((dk_bind (dk_u1 (h 0 _ rfl))).trans ((dk_bind (dk_u2 (h 1 _ rfl) (h 2 _ rfl))).trans rfl))
theorem dk_20 {code : ByteArray} {pc : Nat} (a b : UInt8) (h : DkAt code pc [20, a, b]) : decode code pc = .ok (.ldc2_w (a.toNat * 256 + b.toNat), 3) := dk_of ((dk_bind (dk_u1 (h 0 _ rfl))).trans ((dk_bind (dk_u2 (h 1 _ rfl) (h 2 _ rfl))).trans rfl))
theorem dk_21 {code : ByteArray} {pc : Nat} (a : UInt8) (h : DkAt code pc [21, a]) : decode code pc = .ok (.iload a.toNat, 2) := dk_of ((dk_bind (dk_u1 (h 0 _ rfl))).trans ((dk_bind (dk_u1 (h 1 _ rfl))).trans rfl))
theorem dk_22 {code : ByteArray} {pc : Nat} (a : UInt8) (h : DkAt code pc [22, a]) : decode code pc = .ok (.lload a.toNat, 2) := dk_of ((dk_bind (dk_u1 (h 0 _ rfl))).trans ((dk_bind (dk_u1 (h 1 _ rfl))).trans rfl))
theorem dk_24 {code : ByteArray} {pc : Nat} (a : UInt8) (h : DkAt code pc [24, a]) : decode code pc = .ok (.dload a.toNat, 2) := dk_of ((dk_bind (dk_u1 (h 0 _ rfl))).trans ((dk_bind (dk_u1 (h 1 _ rfl))).trans rfl))
theorem dk_25 {code : ByteArray} {pc : Nat} (a : UInt8) (h : DkAt code pc [25, a]) : decode code pc = .ok (.aload a.toNat, 2) := dk_of ((dk_bind (dk_u1 (h 0 _ rfl))).trans ((dk_bind (dk_u1 (h 1 _ rfl))).trans rfl))
theorem dk_26 {code : ByteArray} {pc : Nat} (h : DkAt code pc [26]) : decode code pc = .ok (.iload_n 0, 1) := dk_of ((dk_bind (dk_u1 (h 0 _ rfl))).trans rfl)
theorem dk_27 {code : ByteArray} {pc : Nat} (h : DkAt code pc [27]) : decode code pc = .ok (.iload_n 1, 1) := dk_of ((dk_bind (dk_u1 (h 0 _ rfl))).trans rfl)
theorem dk_28 {code : ByteArray} {pc : Nat} (h : DkAt code pc [28]) : decode code pc = .ok (.iload_n 2, 1) := dk_of ((dk_bind (dk_u1 (h 0 _ rfl))).trans rfl)
theorem dk_29 {code : ByteArray} {pc : Nat} (h : DkAt code pc [29]) : decode code pc = .ok (.iload_n 3, 1) := dk_of ((dk_bind (dk_u1 (h 0 _ rfl))).trans rfl)
theorem dk_30 {code : ByteArray} {pc : Nat} (h : DkAt code pc [30]) : decode code pc = .ok (.lload_n 0, 1) := dk_of ((dk_bind (dk_u1 (h 0 _ rfl))).trans rfl)
theorem dk_32 {code : ByteArray} {pc : Nat} (h : DkAt code pc [32]) : decode code pc = .ok (.lload_n 2, 1) := dk_of ((dk_bind (dk_u1 (h 0 _ rfl))).trans rfl)
theorem dk_33 {code : ByteArray} {pc : Nat} (h : DkAt code pc [33]) : decode code pc = .ok (.lload_n 3, 1) := dk_of ((dk_bind (dk_u1 (h 0 _ rfl))).trans rfl)
theorem dk_34 {code : ByteArray} {pc : Nat} (h : DkAt code pc [34]) : decode code pc = .ok (.fload_n 0, 1) := dk_of ((dk_bind (dk_u1 (h 0 _ rfl))).trans rfl)
theorem dk_38 {code : ByteArray} {pc : Nat} (h : DkAt code pc [38]) : decode code pc = .ok (.dload_n 0, 1) := dk_of ((dk_bind (dk_u1 (h 0 _ rfl))).trans rfl)
theorem dk_39 {code : ByteArray} {pc : Nat} (h : DkAt code pc [39]) : decode code pc = .ok (.dload_n 1, 1) := dk_of ((dk_bind (dk_u1 (h 0 _ rfl))).trans rfl)
theorem dk_41 {code : ByteArray} {pc : Nat} (h : DkAt code pc [41]) : decode code pc = .ok (.dload_n 3, 1) := dk_of ((dk_bind (dk_u1 (h 0 _ rfl))).trans rfl)
theorem dk_42 {code : ByteArray} {pc : Nat} (h : DkAt code pc [42]) : decode code pc = .ok (.aload_n 0, 1) := dk_of ((dk_bind (dk_u1 (h 0 _ rfl))).trans rfl)
theorem dk_43 {code : ByteArray} {pc : Nat} (h : DkAt code pc [43]) : decode code pc = .ok (.aload_n 1, 1) := dk_of ((dk_bind (dk_u1 (h 0 _ rfl))).trans rfl)
theorem dk_44 {code : ByteArray} {pc : Nat} (h : DkAt code pc [44]) : decode code pc = .ok (.aload_n 2, 1) := dk_of ((dk_bind (dk_u1 (h 0 _ rfl))).trans rfl)
theorem dk_45 {code : ByteArray} {pc : Nat} (h : DkAt code pc [45]) : decode code pc = .ok (.aload_n 3, 1) := dk_of ((dk_bind (dk_u1 (h 0 _ rfl))).trans rfl)
theorem dk_46 {code : ByteArray} {pc : Nat} (h : DkAt code pc [46]) : decode code pc = .ok (.iaload, 1) := dk_of ((dk_bind (dk_u1 (h 0 _ rfl))).trans rfl)
theorem dk_47 {code : ByteArray} {pc : Nat} (h : DkAt code pc [47]) : decode code pc = .ok (.laload, 1) := dk_of ((dk_bind (dk_u1 (h 0 _ rfl))).trans rfl)
theorem dk_50 {code : ByteArray} {pc : Nat} (h : DkAt code pc [50]) : decode code pc = .ok (.aaload, 1) := dk_of ((dk_bind (dk_u1 (h 0 _ rfl))).trans rfl)
theorem dk_51 {code : ByteArray} {pc : Nat} (h : DkAt code pc [51]) : decode code pc = .ok (.baload, 1) := dk_of ((dk_bind (dk_u1 (h 0 _ rfl))).trans rfl)
theorem dk_54 {code : ByteArray} {pc : Nat} (a : UInt8) (h : DkAt code pc [54, a]) : decode code pc = .ok (.istore a.toNat, 2) := dk_of ((dk_bind (dk_u1 (h 0 _ rfl))).trans ((dk_bind (dk_u1 (h 1 _ rfl))).trans rfl))
theorem dk_55 {code : ByteArray} {pc : Nat} (a : UInt8) (h : DkAt code pc [55, a]) : decode code pc = .ok (.lstore a.toNat, 2) := dk_of ((dk_bind (dk_u1 (h 0 _ rfl))).trans ((dk_bind (dk_u1 (h 1 _ rfl))).trans rfl))
theorem dk_57 {code : ByteArray} {pc : Nat} (a : UInt8) (h : DkAt code pc [57, a]) : decode code pc = .ok (.dstore a.toNat, 2) := dk_of ((dk_bind (dk_u1 (h 0 _ rfl))).trans ((dk_bind (dk_u1 (h 1 _ rfl))).trans rfl))
theorem dk_58 {code : ByteArray} {pc : Nat} (a : UInt8) (h : DkAt code pc [58, a]) : decode code pc = .ok (.astore a.toNat, 2) := dk_of ((dk_bind (dk_u1 (h 0 _ rfl))).trans ((dk_bind (dk_u1 (h 1 _ rfl))).trans rfl))
theorem dk_60 {code : ByteArray} {pc : Nat} (h : DkAt code pc [60]) : decode code pc = .ok (.istore_n 1, 1) := dk_of ((dk_bind (dk_u1 (h 0 _ rfl))).trans rfl)
theorem dk_61 {code : ByteArray} {pc : Nat} (h : DkAt code pc [61]) : decode code pc = .ok (.istore_n 2, 1) := dk_of ((dk_bind (dk_u1 (h 0 _ rfl))).trans rfl)
theorem dk_62 {code : ByteArray} {pc : Nat} (h : DkAt code pc [62]) : decode code pc = .ok (.istore_n 3, 1) := dk_of ((dk_bind (dk_u1 (h 0 _ rfl))).trans rfl)
theorem dk_65 {code : ByteArray} {pc : Nat} (h : DkAt code pc [65]) : decode code pc = .ok (.lstore_n 2, 1) := dk_of ((dk_bind (dk_u1 (h 0 _ rfl))).trans rfl)
theorem dk_72 {code : ByteArray} {pc : Nat} (h : DkAt code pc [72]) : decode code pc = .ok (.dstore_n 1, 1) := dk_of ((dk_bind (dk_u1 (h 0 _ rfl))).trans rfl)
theorem dk_74 {code : ByteArray} {pc : Nat} (h : DkAt code pc [74]) : decode code pc = .ok (.dstore_n 3, 1) := dk_of ((dk_bind (dk_u1 (h 0 _ rfl))).trans rfl)
theorem dk_76 {code : ByteArray} {pc : Nat} (h : DkAt code pc [76]) : decode code pc = .ok (.astore_n 1, 1) := dk_of ((dk_bind (dk_u1 (h 0 _ rfl))).trans rfl)
theorem dk_77 {code : ByteArray} {pc : Nat} (h : DkAt code pc [77]) : decode code pc = .ok (.astore_n 2, 1) := dk_of ((dk_bind (dk_u1 (h 0 _ rfl))).trans rfl)
theorem dk_78 {code : ByteArray} {pc : Nat} (h : DkAt code pc [78]) : decode code pc = .ok (.astore_n 3, 1) := dk_of ((dk_bind (dk_u1 (h 0 _ rfl))).trans rfl)
theorem dk_79 {code : ByteArray} {pc : Nat} (h : DkAt code pc [79]) : decode code pc = .ok (.iastore, 1) := dk_of ((dk_bind (dk_u1 (h 0 _ rfl))).trans rfl)
theorem dk_80 {code : ByteArray} {pc : Nat} (h : DkAt code pc [80]) : decode code pc = .ok (.lastore, 1) := dk_of ((dk_bind (dk_u1 (h 0 _ rfl))).trans rfl)
theorem dk_83 {code : ByteArray} {pc : Nat} (h : DkAt code pc [83]) : decode code pc = .ok (.aastore, 1) := dk_of ((dk_bind (dk_u1 (h 0 _ rfl))).trans rfl)
theorem dk_84 {code : ByteArray} {pc : Nat} (h : DkAt code pc [84]) : decode code pc = .ok (.bastore, 1) := dk_of ((dk_bind (dk_u1 (h 0 _ rfl))).trans rfl)
theorem dk_87 {code : ByteArray} {pc : Nat} (h : DkAt code pc [87]) : decode code pc = .ok (.pop, 1) := dk_of ((dk_bind (dk_u1 (h 0 _ rfl))).trans rfl)
theorem dk_89 {code : ByteArray} {pc : Nat} (h : DkAt code pc [89]) : decode code pc = .ok (.dup, 1) := dk_of ((dk_bind (dk_u1 (h 0 _ rfl))).trans rfl)
theorem dk_92 {code : ByteArray} {pc : Nat} (h : DkAt code pc [92]) : decode code pc = .ok (.dup2, 1) := dk_of ((dk_bind (dk_u1 (h 0 _ rfl))).trans rfl)
theorem dk_96 {code : ByteArray} {pc : Nat} (h : DkAt code pc [96]) : decode code pc = .ok (.iadd, 1) := dk_of ((dk_bind (dk_u1 (h 0 _ rfl))).trans rfl)
theorem dk_97 {code : ByteArray} {pc : Nat} (h : DkAt code pc [97]) : decode code pc = .ok (.ladd, 1) := dk_of ((dk_bind (dk_u1 (h 0 _ rfl))).trans rfl)
theorem dk_98 {code : ByteArray} {pc : Nat} (h : DkAt code pc [98]) : decode code pc = .ok (.fadd, 1) := dk_of ((dk_bind (dk_u1 (h 0 _ rfl))).trans rfl)
theorem dk_99 {code : ByteArray} {pc : Nat} (h : DkAt code pc [99]) : decode code pc = .ok (.dadd, 1) := dk_of ((dk_bind (dk_u1 (h 0 _ rfl))).trans rfl)
theorem dk_100 {code : ByteArray} {pc : Nat} (h : DkAt code pc [100]) : decode code pc = .ok (.isub, 1) := dk_of ((dk_bind (dk_u1 (h 0 _ rfl))).trans rfl)
theorem dk_101 {code : ByteArray} {pc : Nat} (h : DkAt code pc [101]) : decode code pc = .ok (.lsub, 1) := dk_of ((dk_bind (dk_u1 (h 0 _ rfl))).trans rfl)
theorem dk_104 {code : ByteArray} {pc : Nat} (h : DkAt code pc [104]) : decode code pc = .ok (.imul, 1) := dk_of ((dk_bind (dk_u1 (h 0 _ rfl))).trans rfl)
theorem dk_105 {code : ByteArray} {pc : Nat} (h : DkAt code pc [105]) : decode code pc = .ok (.lmul, 1) := dk_of ((dk_bind (dk_u1 (h 0 _ rfl))).trans rfl)
theorem dk_107 {code : ByteArray} {pc : Nat} (h : DkAt code pc [107]) : decode code pc = .ok (.dmul, 1) := dk_of ((dk_bind (dk_u1 (h 0 _ rfl))).trans rfl)
theorem dk_108 {code : ByteArray} {pc : Nat} (h : DkAt code pc [108]) : decode code pc = .ok (.idiv, 1) := dk_of ((dk_bind (dk_u1 (h 0 _ rfl))).trans rfl)
theorem dk_111 {code : ByteArray} {pc : Nat} (h : DkAt code pc [111]) : decode code pc = .ok (.ddiv, 1) := dk_of ((dk_bind (dk_u1 (h 0 _ rfl))).trans rfl)
theorem dk_112 {code : ByteArray} {pc : Nat} (h : DkAt code pc [112]) : decode code pc = .ok (.irem, 1) := dk_of ((dk_bind (dk_u1 (h 0 _ rfl))).trans rfl)
theorem dk_119 {code : ByteArray} {pc : Nat} (h : DkAt code pc [119]) : decode code pc = .ok (.dneg, 1) := dk_of ((dk_bind (dk_u1 (h 0 _ rfl))).trans rfl)
theorem dk_120 {code : ByteArray} {pc : Nat} (h : DkAt code pc [120]) : decode code pc = .ok (.ishl, 1) := dk_of ((dk_bind (dk_u1 (h 0 _ rfl))).trans rfl)
theorem dk_121 {code : ByteArray} {pc : Nat} (h : DkAt code pc [121]) : decode code pc = .ok (.lshl, 1) := dk_of ((dk_bind (dk_u1 (h 0 _ rfl))).trans rfl)
theorem dk_122 {code : ByteArray} {pc : Nat} (h : DkAt code pc [122]) : decode code pc = .ok (.ishr, 1) := dk_of ((dk_bind (dk_u1 (h 0 _ rfl))).trans rfl)
theorem dk_123 {code : ByteArray} {pc : Nat} (h : DkAt code pc [123]) : decode code pc = .ok (.lshr, 1) := dk_of ((dk_bind (dk_u1 (h 0 _ rfl))).trans rfl)
theorem dk_126 {code : ByteArray} {pc : Nat} (h : DkAt code pc [126]) : decode code pc = .ok (.iand, 1) := dk_of ((dk_bind (dk_u1 (h 0 _ rfl))).trans rfl)
theorem dk_127 {code : ByteArray} {pc : Nat} (h : DkAt code pc [127]) : decode code pc = .ok (.land, 1) := dk_of ((dk_bind (dk_u1 (h 0 _ rfl))).trans rfl)
theorem dk_128 {code : ByteArray} {pc : Nat} (h : DkAt code pc [128]) : decode code pc = .ok (.ior, 1) := dk_of ((dk_bind (dk_u1 (h 0 _ rfl))).trans rfl)
theorem dk_129 {code : ByteArray} {pc : Nat} (h : DkAt code pc [129]) : decode code pc = .ok (.lor, 1) := dk_of ((dk_bind (dk_u1 (h 0 _ rfl))).trans rfl)
theorem dk_132 {code : ByteArray} {pc : Nat} (a b : UInt8) (h : DkAt code pc [132, a, b]) : decode code pc = .ok (.iinc a.toNat (Reader.signed 8 b.toNat), 3) := dk_of ((dk_bind (dk_u1 (h 0 _ rfl))).trans ((dk_bind (dk_u1 (h 1 _ rfl))).trans ((dk_bind (dk_map (dk_u1 (h 2 _ rfl)))).trans rfl)))
theorem dk_133 {code : ByteArray} {pc : Nat} (h : DkAt code pc [133]) : decode code pc = .ok (.i2l, 1) := dk_of ((dk_bind (dk_u1 (h 0 _ rfl))).trans rfl)
theorem dk_135 {code : ByteArray} {pc : Nat} (h : DkAt code pc [135]) : decode code pc = .ok (.i2d, 1) := dk_of ((dk_bind (dk_u1 (h 0 _ rfl))).trans rfl)
theorem dk_136 {code : ByteArray} {pc : Nat} (h : DkAt code pc [136]) : decode code pc = .ok (.l2i, 1) := dk_of ((dk_bind (dk_u1 (h 0 _ rfl))).trans rfl)
theorem dk_137 {code : ByteArray} {pc : Nat} (h : DkAt code pc [137]) : decode code pc = .ok (.l2f, 1) := dk_of ((dk_bind (dk_u1 (h 0 _ rfl))).trans rfl)
theorem dk_138 {code : ByteArray} {pc : Nat} (h : DkAt code pc [138]) : decode code pc = .ok (.l2d, 1) := dk_of ((dk_bind (dk_u1 (h 0 _ rfl))).trans rfl)
theorem dk_141 {code : ByteArray} {pc : Nat} (h : DkAt code pc [141]) : decode code pc = .ok (.f2d, 1) := dk_of ((dk_bind (dk_u1 (h 0 _ rfl))).trans rfl)
theorem dk_143 {code : ByteArray} {pc : Nat} (h : DkAt code pc [143]) : decode code pc = .ok (.d2l, 1) := dk_of ((dk_bind (dk_u1 (h 0 _ rfl))).trans rfl)
theorem dk_144 {code : ByteArray} {pc : Nat} (h : DkAt code pc [144]) : decode code pc = .ok (.d2f, 1) := dk_of ((dk_bind (dk_u1 (h 0 _ rfl))).trans rfl)
theorem dk_145 {code : ByteArray} {pc : Nat} (h : DkAt code pc [145]) : decode code pc = .ok (.i2b, 1) := dk_of ((dk_bind (dk_u1 (h 0 _ rfl))).trans rfl)
theorem dk_146 {code : ByteArray} {pc : Nat} (h : DkAt code pc [146]) : decode code pc = .ok (.i2c, 1) := dk_of ((dk_bind (dk_u1 (h 0 _ rfl))).trans rfl)
theorem dk_147 {code : ByteArray} {pc : Nat} (h : DkAt code pc [147]) : decode code pc = .ok (.i2s, 1) := dk_of ((dk_bind (dk_u1 (h 0 _ rfl))).trans rfl)
theorem dk_148 {code : ByteArray} {pc : Nat} (h : DkAt code pc [148]) : decode code pc = .ok (.lcmp, 1) := dk_of ((dk_bind (dk_u1 (h 0 _ rfl))).trans rfl)
theorem dk_149 {code : ByteArray} {pc : Nat} (h : DkAt code pc [149]) : decode code pc = .ok (.fcmp .l, 1) := dk_of ((dk_bind (dk_u1 (h 0 _ rfl))).trans rfl)
theorem dk_151 {code : ByteArray} {pc : Nat} (h : DkAt code pc [151]) : decode code pc = .ok (.dcmp .l, 1) := dk_of ((dk_bind (dk_u1 (h 0 _ rfl))).trans rfl)
theorem dk_152 {code : ByteArray} {pc : Nat} (h : DkAt code pc [152]) : decode code pc = .ok (.dcmp .g, 1) := dk_of ((dk_bind (dk_u1 (h 0 _ rfl))).trans rfl)
theorem dk_153 {code : ByteArray} {pc : Nat} (a b : UInt8) (h : DkAt code pc [153, a, b]) : decode code pc = .ok (.ifCond .eq (Reader.signed 16 (a.toNat * 256 + b.toNat)), 3) := dk_of ((dk_bind (dk_u1 (h 0 _ rfl))).trans ((dk_bind (dk_map (dk_u2 (h 1 _ rfl) (h 2 _ rfl)))).trans rfl))
theorem dk_154 {code : ByteArray} {pc : Nat} (a b : UInt8) (h : DkAt code pc [154, a, b]) : decode code pc = .ok (.ifCond .ne (Reader.signed 16 (a.toNat * 256 + b.toNat)), 3) := dk_of ((dk_bind (dk_u1 (h 0 _ rfl))).trans ((dk_bind (dk_map (dk_u2 (h 1 _ rfl) (h 2 _ rfl)))).trans rfl))
theorem dk_155 {code : ByteArray} {pc : Nat} (a b : UInt8) (h : DkAt code pc [155, a, b]) : decode code pc = .ok (.ifCond .lt (Reader.signed 16 (a.toNat * 256 + b.toNat)), 3) := dk_of ((dk_bind (dk_u1 (h 0 _ rfl))).trans ((dk_bind (dk_map (dk_u2 (h 1 _ rfl) (h 2 _ rfl)))).trans rfl))
theorem dk_156 {code : ByteArray} {pc : Nat} (a b : UInt8) (h : DkAt code pc [156, a, b]) : decode code pc = .ok (.ifCond .ge (Reader.signed 16 (a.toNat * 256 + b.toNat)), 3) := dk_of ((dk_bind (dk_u1 (h 0 _ rfl))).trans ((dk_bind (dk_map (dk_u2 (h 1 _ rfl) (h 2 _ rfl)))).trans rfl))
theorem dk_157 {code : ByteArray} {pc : Nat} (a b : UInt8) (h : DkAt code pc [157, a, b]) : decode code pc = .ok (.ifCond .gt (Reader.signed 16 (a.toNat * 256 + b.toNat)), 3) := dk_of ((dk_bind (dk_u1 (h 0 _ rfl))).trans ((dk_bind (dk_map (dk_u2 (h 1 _ rfl) (h 2 _ rfl)))).trans rfl))
theorem dk_158 {code : ByteArray} {pc : Nat} (a b : UInt8) (h : DkAt code pc [158, a, b]) : decode code pc = .ok (.ifCond .le (Reader.signed 16 (a.toNat * 256 + b.toNat)), 3) := dk_of ((dk_bind (dk_u1 (h 0 _ rfl))).trans ((dk_bind (dk_map (dk_u2 (h 1 _ rfl) (h 2 _ rfl)))).trans rfl))
theorem dk_159 {code : ByteArray} {pc : Nat} (a b : UInt8) (h : DkAt code pc [159, a, b]) : decode code pc = .ok (.if_icmp .eq (Reader.signed 16 (a.toNat * 256 + b.toNat)), 3) := dk_of ((dk_bind (dk_u1 (h 0 _ rfl))).trans ((dk_bind (dk_map (dk_u2 (h 1 _ rfl) (h 2 _ rfl)))).trans rfl))
theorem dk_160 {code : ByteArray} {pc : Nat} (a b : UInt8) (h : DkAt code pc [160, a, b]) : decode code pc = .ok (.if_icmp .ne (Reader.signed 16 (a.toNat * 256 + b.toNat)), 3) := dk_of ((dk_bind (dk_u1 (h 0 _ rfl))).trans ((dk_bind (dk_map (dk_u2 (h 1 _ rfl) (h 2 _ rfl)))).trans rfl))
theorem dk_161 {code : ByteArray} {pc : Nat} (a b : UInt8) (h : DkAt code pc [161, a, b]) : decode code pc = .ok (.if_icmp .lt (Reader.signed 16 (a.toNat * 256 + b.toNat)), 3) := dk_of ((dk_bind (dk_u1 (h 0 _ rfl))).trans ((dk_bind (dk_map (dk_u2 (h 1 _ rfl) (h 2 _ rfl)))).trans rfl))
theorem dk_162 {code : ByteArray} {pc : Nat} (a b : UInt8) (h : DkAt code pc [162, a, b]) : decode code pc = .ok (.if_icmp .ge (Reader.signed 16 (a.toNat * 256 + b.toNat)), 3) := dk_of ((dk_bind (dk_u1 (h 0 _ rfl))).trans ((dk_bind (dk_map (dk_u2 (h 1 _ rfl) (h 2 _ rfl)))).trans rfl))
theorem dk_163 {code : ByteArray} {pc : Nat} (a b : UInt8) (h : DkAt code pc [163, a, b]) : decode code pc = .ok (.if_icmp .gt (Reader.signed 16 (a.toNat * 256 + b.toNat)), 3) := dk_of ((dk_bind (dk_u1 (h 0 _ rfl))).trans ((dk_bind (dk_map (dk_u2 (h 1 _ rfl) (h 2 _ rfl)))).trans rfl))
theorem dk_164 {code : ByteArray} {pc : Nat} (a b : UInt8) (h : DkAt code pc [164, a, b]) : decode code pc = .ok (.if_icmp .le (Reader.signed 16 (a.toNat * 256 + b.toNat)), 3) := dk_of ((dk_bind (dk_u1 (h 0 _ rfl))).trans ((dk_bind (dk_map (dk_u2 (h 1 _ rfl) (h 2 _ rfl)))).trans rfl))
theorem dk_165 {code : ByteArray} {pc : Nat} (a b : UInt8) (h : DkAt code pc [165, a, b]) : decode code pc = .ok (.if_acmp .eq (Reader.signed 16 (a.toNat * 256 + b.toNat)), 3) := dk_of ((dk_bind (dk_u1 (h 0 _ rfl))).trans ((dk_bind (dk_map (dk_u2 (h 1 _ rfl) (h 2 _ rfl)))).trans rfl))
theorem dk_166 {code : ByteArray} {pc : Nat} (a b : UInt8) (h : DkAt code pc [166, a, b]) : decode code pc = .ok (.if_acmp .ne (Reader.signed 16 (a.toNat * 256 + b.toNat)), 3) := dk_of ((dk_bind (dk_u1 (h 0 _ rfl))).trans ((dk_bind (dk_map (dk_u2 (h 1 _ rfl) (h 2 _ rfl)))).trans rfl))
theorem dk_167 {code : ByteArray} {pc : Nat} (a b : UInt8) (h : DkAt code pc [167, a, b]) : decode code pc = .ok (.goto (Reader.signed 16 (a.toNat * 256 + b.toNat)), 3) := dk_of ((dk_bind (dk_u1 (h 0 _ rfl))).trans ((dk_bind (dk_map (dk_u2 (h 1 _ rfl) (h 2 _ rfl)))).trans rfl))
theorem dk_172 {code : ByteArray} {pc : Nat} (h : DkAt code pc [172]) : decode code pc = .ok (.ireturn, 1) := dk_of ((dk_bind (dk_u1 (h 0 _ rfl))).trans rfl)
theorem dk_173 {code : ByteArray} {pc : Nat} (h : DkAt code pc [173]) : decode code pc = .ok (.lreturn, 1) := dk_of ((dk_bind (dk_u1 (h 0 _ rfl))).trans rfl)
theorem dk_174 {code : ByteArray} {pc : Nat} (h : DkAt code pc [174]) : decode code pc = .ok (.freturn, 1) := dk_of ((dk_bind (dk_u1 (h 0 _ rfl))).trans rfl)
theorem dk_175 {code : ByteArray} {pc : Nat} (h : DkAt code pc [175]) : decode code pc = .ok (.dreturn, 1) := dk_of ((dk_bind (dk_u1 (h 0 _ rfl))).trans rfl)
theorem dk_176 {code : ByteArray} {pc : Nat} (h : DkAt code pc [176]) : decode code pc = .ok (.areturn, 1) := dk_of ((dk_bind (dk_u1 (h 0 _ rfl))).trans rfl)
theorem dk_177 {code : ByteArray} {pc : Nat} (h : DkAt code pc [177]) : decode code pc = .ok (.return_, 1) := dk_of ((dk_bind (dk_u1 (h 0 _ rfl))).trans rfl)
theorem dk_178 {code : ByteArray} {pc : Nat} (a b : UInt8) (h : DkAt code pc [178, a, b]) : decode code pc = .ok (.getstatic (a.toNat * 256 + b.toNat), 3) := dk_of ((dk_bind (dk_u1 (h 0 _ rfl))).trans ((dk_bind (dk_u2 (h 1 _ rfl) (h 2 _ rfl))).trans rfl))
theorem dk_180 {code : ByteArray} {pc : Nat} (a b : UInt8) (h : DkAt code pc [180, a, b]) : decode code pc = .ok (.getfield (a.toNat * 256 + b.toNat), 3) := dk_of ((dk_bind (dk_u1 (h 0 _ rfl))).trans ((dk_bind (dk_u2 (h 1 _ rfl) (h 2 _ rfl))).trans rfl))
theorem dk_181 {code : ByteArray} {pc : Nat} (a b : UInt8) (h : DkAt code pc [181, a, b]) : decode code pc = .ok (.putfield (a.toNat * 256 + b.toNat), 3) := dk_of ((dk_bind (dk_u1 (h 0 _ rfl))).trans ((dk_bind (dk_u2 (h 1 _ rfl) (h 2 _ rfl))).trans rfl))
theorem dk_182 {code : ByteArray} {pc : Nat} (a b : UInt8) (h : DkAt code pc [182, a, b]) : decode code pc = .ok (.invokevirtual (a.toNat * 256 + b.toNat), 3) := dk_of ((dk_bind (dk_u1 (h 0 _ rfl))).trans ((dk_bind (dk_u2 (h 1 _ rfl) (h 2 _ rfl))).trans rfl))
theorem dk_183 {code : ByteArray} {pc : Nat} (a b : UInt8) (h : DkAt code pc [183, a, b]) : decode code pc = .ok (.invokespecial (a.toNat * 256 + b.toNat), 3) := dk_of ((dk_bind (dk_u1 (h 0 _ rfl))).trans ((dk_bind (dk_u2 (h 1 _ rfl) (h 2 _ rfl))).trans rfl))
theorem dk_184 {code : ByteArray} {pc : Nat} (a b : UInt8) (h : DkAt code pc [184, a, b]) : decode code pc = .ok (.invokestatic (a.toNat * 256 + b.toNat), 3) := dk_of ((dk_bind (dk_u1 (h 0 _ rfl))).trans ((dk_bind (dk_u2 (h 1 _ rfl) (h 2 _ rfl))).trans rfl))
theorem dk_187 {code : ByteArray} {pc : Nat} (a b : UInt8) (h : DkAt code pc [187, a, b]) : decode code pc = .ok (.new (a.toNat * 256 + b.toNat), 3) := dk_of ((dk_bind (dk_u1 (h 0 _ rfl))).trans ((dk_bind (dk_u2 (h 1 _ rfl) (h 2 _ rfl))).trans rfl))
theorem dk_188_4 {code : ByteArray} {pc : Nat} (h : DkAt code pc [188, 4]) : decode code pc = .ok (.newarray .boolean, 2) := dk_of ((dk_bind (dk_u1 (h 0 _ rfl))).trans ((dk_bind (dk_u1 (h 1 _ rfl))).trans rfl))
theorem dk_188_5 {code : ByteArray} {pc : Nat} (h : DkAt code pc [188, 5]) : decode code pc = .ok (.newarray .char, 2) := dk_of ((dk_bind (dk_u1 (h 0 _ rfl))).trans ((dk_bind (dk_u1 (h 1 _ rfl))).trans rfl))
theorem dk_188_6 {code : ByteArray} {pc : Nat} (h : DkAt code pc [188, 6]) : decode code pc = .ok (.newarray .float, 2) := dk_of ((dk_bind (dk_u1 (h 0 _ rfl))).trans ((dk_bind (dk_u1 (h 1 _ rfl))).trans rfl))
theorem dk_188_7 {code : ByteArray} {pc : Nat} (h : DkAt code pc [188, 7]) : decode code pc = .ok (.newarray .double, 2) := dk_of ((dk_bind (dk_u1 (h 0 _ rfl))).trans ((dk_bind (dk_u1 (h 1 _ rfl))).trans rfl))
theorem dk_188_8 {code : ByteArray} {pc : Nat} (h : DkAt code pc [188, 8]) : decode code pc = .ok (.newarray .byte, 2) := dk_of ((dk_bind (dk_u1 (h 0 _ rfl))).trans ((dk_bind (dk_u1 (h 1 _ rfl))).trans rfl))
theorem dk_188_9 {code : ByteArray} {pc : Nat} (h : DkAt code pc [188, 9]) : decode code pc = .ok (.newarray .short, 2) := dk_of ((dk_bind (dk_u1 (h 0 _ rfl))).trans ((dk_bind (dk_u1 (h 1 _ rfl))).trans rfl))
theorem dk_188_10 {code : ByteArray} {pc : Nat} (h : DkAt code pc [188, 10]) : decode code pc = .ok (.newarray .int, 2) := dk_of ((dk_bind (dk_u1 (h 0 _ rfl))).trans ((dk_bind (dk_u1 (h 1 _ rfl))).trans rfl))
theorem dk_188_11 {code : ByteArray} {pc : Nat} (h : DkAt code pc [188, 11]) : decode code pc = .ok (.newarray .long, 2) := dk_of ((dk_bind (dk_u1 (h 0 _ rfl))).trans ((dk_bind (dk_u1 (h 1 _ rfl))).trans rfl))
theorem dk_189 {code : ByteArray} {pc : Nat} (a b : UInt8) (h : DkAt code pc [189, a, b]) : decode code pc = .ok (.anewarray (a.toNat * 256 + b.toNat), 3) := dk_of ((dk_bind (dk_u1 (h 0 _ rfl))).trans ((dk_bind (dk_u2 (h 1 _ rfl) (h 2 _ rfl))).trans rfl))
theorem dk_190 {code : ByteArray} {pc : Nat} (h : DkAt code pc [190]) : decode code pc = .ok (.arraylength, 1) := dk_of ((dk_bind (dk_u1 (h 0 _ rfl))).trans rfl)
theorem dk_191 {code : ByteArray} {pc : Nat} (h : DkAt code pc [191]) : decode code pc = .ok (.athrow, 1) := dk_of ((dk_bind (dk_u1 (h 0 _ rfl))).trans rfl)
theorem dk_192 {code : ByteArray} {pc : Nat} (a b : UInt8) (h : DkAt code pc [192, a, b]) : decode code pc = .ok (.checkcast (a.toNat * 256 + b.toNat), 3) := dk_of ((dk_bind (dk_u1 (h 0 _ rfl))).trans ((dk_bind (dk_u2 (h 1 _ rfl) (h 2 _ rfl))).trans rfl))
theorem dk_193 {code : ByteArray} {pc : Nat} (a b : UInt8) (h : DkAt code pc [193, a, b]) : decode code pc = .ok (.instanceof (a.toNat * 256 + b.toNat), 3) := dk_of ((dk_bind (dk_u1 (h 0 _ rfl))).trans ((dk_bind (dk_u2 (h 1 _ rfl) (h 2 _ rfl))).trans rfl))
theorem dk_198 {code : ByteArray} {pc : Nat} (a b : UInt8) (h : DkAt code pc [198, a, b]) : decode code pc = .ok (.ifnull (Reader.signed 16 (a.toNat * 256 + b.toNat)), 3) := dk_of ((dk_bind (dk_u1 (h 0 _ rfl))).trans ((dk_bind (dk_map (dk_u2 (h 1 _ rfl) (h 2 _ rfl)))).trans rfl))
theorem dk_199 {code : ByteArray} {pc : Nat} (a b : UInt8) (h : DkAt code pc [199, a, b]) : decode code pc = .ok (.ifnonnull (Reader.signed 16 (a.toNat * 256 + b.toNat)), 3) := dk_of ((dk_bind (dk_u1 (h 0 _ rfl))).trans ((dk_bind (dk_map (dk_u2 (h 1 _ rfl) (h 2 _ rfl)))).trans rfl))

/-! ReflectMirror$Tally -/
set_option maxRecDepth 100000
def RX1 : String := "ReflectMirror$Tally"
def TX1 : u_T := fun k => match k with
  | _ => ("ReflectMirror$Tally", "many", "I", false)
def tyX1 : Nat → FieldType := fun k => match k with
  | _ => .int
abbrev wsX10 : List Cond := u_ws RX1 TX1 1
theorem nmX1 : ∀ a, a < 1 → ∀ b, b < 1 → a ≠ b → (TX1 a).2.1 ≠ (TX1 b).2.1 := by decide +kernel
theorem tyX1_ok : ∀ k, k < 1 → parseFieldDescriptor (TX1 k).2.2.1 = some (tyX1 k) := by decide +kernel
abbrev cX1_init : ByteArray := prog_25_method_1_code
def yX1_init : MethodName := ⟨RX1, "<init>", "()V"⟩
theorem dX1_init_0 : decode cX1_init 0 = .ok (.aload_n 0, 1) := by decide +kernel
theorem dX1_init_1 : decode cX1_init 1 = .ok (.invokespecial 1, 3) := by decide +kernel
theorem dX1_init_4 : decode cX1_init 4 = .ok (.return_, 1) := by decide +kernel
theorem q91 : (Jvm.Cond.initialized "ReflectMirror$Tally") ∈ lw_all := lw_g (lw_at lw_m1 2 rfl) rfl
theorem q156 : (Jvm.Cond.instantiable "ReflectMirror$Tally" (1 : Nat)) ∈ lw_all := lw_g (lw_at lw_m1 67 rfl) rfl
theorem q158 : (Jvm.Cond.instanceMethod ({ cls := "ReflectMirror$Tally", name := "<init>", desc := "()V" } : Jvm.MethodName)) ∈ lw_all := lw_g (lw_at lw_m1 69 rfl) rfl
theorem q159 : (Jvm.Cond.code ({ cls := "ReflectMirror$Tally", name := "<init>", desc := "()V" } : Jvm.MethodName) prog_25_method_1_code (1 : Nat) (Option.none : Option Jvm.ClassFile.FieldType)) ∈ lw_all := lw_g (lw_at lw_m1 70 rfl) rfl
theorem q160 : (Jvm.Cond.methodLink "ReflectMirror$Tally" (1 : Nat) ({ cls := "java/lang/Object", name := "<init>", desc := "()V" } : Jvm.MethodName)) ∈ lw_all := lw_g (lw_at lw_m1 71 rfl) rfl
theorem q161 : (Jvm.Cond.fieldLink "ReflectMirror$Tally" (7 : Nat) "ReflectMirror$Tally" "many" "I") ∈ lw_all := lw_g (lw_at lw_m1 72 rfl) rfl
theorem q162 : (Jvm.Cond.lays "ReflectMirror$Tally" "ReflectMirror$Tally" "many" "I") ∈ lw_all := lw_g (lw_at lw_m1 73 rfl) rfl
theorem q163 : (Jvm.Cond.soleField "ReflectMirror$Tally" "many") ∈ lw_all := lw_g (lw_at lw_m1 74 rfl) rfl
theorem q164 : (Jvm.Cond.superclass "ReflectMirror$Tally" "java/lang/Object") ∈ lw_all := lw_g (lw_at lw_m1 75 rfl) rfl
theorem q1707 : (Jvm.Cond.instanceMethod ({ cls := "ReflectMirror$Tally", name := "next", desc := "()I" } : Jvm.MethodName)) ∈ lw_all := lw_g (lw_at lw_m7 178 rfl) rfl
theorem q1708 : (Jvm.Cond.selects "ReflectMirror$Tally" ({ cls := "ReflectMirror$Tally", name := "next", desc := "()I" } : Jvm.MethodName) ({ cls := "ReflectMirror$Tally", name := "next", desc := "()I" } : Jvm.MethodName)) ∈ lw_all := lw_g (lw_at lw_m7 179 rfl) rfl
theorem q1709 : (Jvm.Cond.codeSync ({ cls := "ReflectMirror$Tally", name := "next", desc := "()I" } : Jvm.MethodName) prog_25_method_4_code (1 : Nat) (Option.some Jvm.ClassFile.FieldType.int)) ∈ lw_all := lw_g (lw_at lw_m7 180 rfl) rfl
theorem q1710 : (Jvm.Cond.methodLink "ReflectMirror$Tally" (13 : Nat) ({ cls := "ReflectMirror$Tally", name := "more", desc := "()V" } : Jvm.MethodName)) ∈ lw_all := lw_g (lw_at lw_m7 181 rfl) rfl
theorem q1711 : (Jvm.Cond.instanceMethod ({ cls := "ReflectMirror$Tally", name := "more", desc := "()V" } : Jvm.MethodName)) ∈ lw_all := lw_g (lw_at lw_m7 182 rfl) rfl
theorem q1712 : (Jvm.Cond.selects "ReflectMirror$Tally" ({ cls := "ReflectMirror$Tally", name := "more", desc := "()V" } : Jvm.MethodName) ({ cls := "ReflectMirror$Tally", name := "more", desc := "()V" } : Jvm.MethodName)) ∈ lw_all := lw_g (lw_at lw_m7 183 rfl) rfl
theorem q1713 : (Jvm.Cond.codeSync ({ cls := "ReflectMirror$Tally", name := "more", desc := "()V" } : Jvm.MethodName) prog_25_method_2_code (1 : Nat) (Option.none : Option Jvm.ClassFile.FieldType)) ∈ lw_all := lw_g (lw_at lw_m7 184 rfl) rfl
theorem q1714 : (Jvm.Cond.methodLink "ReflectMirror$Tally" (16 : Nat) ({ cls := "ReflectMirror$Tally", name := "told", desc := "()I" } : Jvm.MethodName)) ∈ lw_all := lw_g (lw_at lw_m7 185 rfl) rfl
theorem q1715 : (Jvm.Cond.instanceMethod ({ cls := "ReflectMirror$Tally", name := "told", desc := "()I" } : Jvm.MethodName)) ∈ lw_all := lw_g (lw_at lw_m7 186 rfl) rfl
theorem q1716 : (Jvm.Cond.selects "ReflectMirror$Tally" ({ cls := "ReflectMirror$Tally", name := "told", desc := "()I" } : Jvm.MethodName) ({ cls := "ReflectMirror$Tally", name := "told", desc := "()I" } : Jvm.MethodName)) ∈ lw_all := lw_g (lw_at lw_m7 187 rfl) rfl
theorem q1717 : (Jvm.Cond.codeSync ({ cls := "ReflectMirror$Tally", name := "told", desc := "()I" } : Jvm.MethodName) prog_25_method_3_code (1 : Nat) (Option.some Jvm.ClassFile.FieldType.int)) ∈ lw_all := lw_g (lw_at lw_m7 188 rfl) rfl
theorem q2591 : (Jvm.Cond.castable "ReflectMirror$Tally" "java/lang/Object") ∈ lw_tbl := lw_at lw_m11 102 rfl
theorem in_X1 : ∀ w ∈ wsX10, w ∈ lw_all := lw_in wsX10 [162] (by decide +kernel) (by decide +kernel)

/-! ReflectMirror$Type -/
set_option maxRecDepth 100000
def RX2 : String := "ReflectMirror$Type"
abbrev cX2_init : ByteArray := prog_27_method_1_code
def yX2_init : MethodName := ⟨RX2, "<init>", "(II)V"⟩
def dkwX2_init_1 : List UInt8 := [188, 4, 181, 0, 18, 42, 27, 181, 0, 22, 42, 28, 181, 0, 26, 177]
abbrev dktX2_init_1 : List UInt8 := dkwX2_init_1 ++ []
def dkwX2_init_0 : List UInt8 := [42, 183, 0, 3, 42, 6, 189, 0, 9, 181, 0, 11, 42, 16, 60, 189, 0, 9, 181, 0, 15, 42, 16, 60]
abbrev dktX2_init_0 : List UInt8 := dkwX2_init_0 ++ dktX2_init_1
theorem dksX2_init_0 : cX2_init.data.toList.drop 0 = dktX2_init_0 := by decide +kernel
theorem dksX2_init_1 : cX2_init.data.toList.drop 24 = dktX2_init_1 := dk_seg dksX2_init_0 24 rfl rfl
theorem dX2_init_0 : decode cX2_init 0 = .ok (.aload_n 0, 1) := dk_42 (dk_at dksX2_init_0 0 rfl rfl)
theorem dX2_init_1 : decode cX2_init 1 = .ok (.invokespecial 3, 3) := dk_183 0 3 (dk_at dksX2_init_0 1 rfl rfl)
theorem dX2_init_4 : decode cX2_init 4 = .ok (.aload_n 0, 1) := dk_42 (dk_at dksX2_init_0 4 rfl rfl)
theorem dX2_init_5 : decode cX2_init 5 = .ok (.iconst 3, 1) := dk_6 (dk_at dksX2_init_0 5 rfl rfl)
theorem dX2_init_6 : decode cX2_init 6 = .ok (.anewarray 9, 3) := dk_189 0 9 (dk_at dksX2_init_0 6 rfl rfl)
theorem dX2_init_9 : decode cX2_init 9 = .ok (.putfield 11, 3) := dk_181 0 11 (dk_at dksX2_init_0 9 rfl rfl)
theorem dX2_init_12 : decode cX2_init 12 = .ok (.aload_n 0, 1) := dk_42 (dk_at dksX2_init_0 12 rfl rfl)
theorem dX2_init_13 : decode cX2_init 13 = .ok (.bipush 60, 2) := dk_16 60 (dk_at dksX2_init_0 13 rfl rfl)
theorem dX2_init_15 : decode cX2_init 15 = .ok (.anewarray 9, 3) := dk_189 0 9 (dk_at dksX2_init_0 15 rfl rfl)
theorem dX2_init_18 : decode cX2_init 18 = .ok (.putfield 15, 3) := dk_181 0 15 (dk_at dksX2_init_0 18 rfl rfl)
theorem dX2_init_21 : decode cX2_init 21 = .ok (.aload_n 0, 1) := dk_42 (dk_at dksX2_init_0 21 rfl rfl)
theorem dX2_init_22 : decode cX2_init 22 = .ok (.bipush 60, 2) := dk_16 60 (dk_at dksX2_init_0 22 rfl rfl)
theorem dX2_init_24 : decode cX2_init 24 = .ok (.newarray .boolean, 2) := dk_188_4 (dk_at dksX2_init_1 0 rfl rfl)
theorem dX2_init_26 : decode cX2_init 26 = .ok (.putfield 18, 3) := dk_181 0 18 (dk_at dksX2_init_1 2 rfl rfl)
theorem dX2_init_29 : decode cX2_init 29 = .ok (.aload_n 0, 1) := dk_42 (dk_at dksX2_init_1 5 rfl rfl)
theorem dX2_init_30 : decode cX2_init 30 = .ok (.iload_n 1, 1) := dk_27 (dk_at dksX2_init_1 6 rfl rfl)
theorem dX2_init_31 : decode cX2_init 31 = .ok (.putfield 22, 3) := dk_181 0 22 (dk_at dksX2_init_1 7 rfl rfl)
theorem dX2_init_34 : decode cX2_init 34 = .ok (.aload_n 0, 1) := dk_42 (dk_at dksX2_init_1 10 rfl rfl)
theorem dX2_init_35 : decode cX2_init 35 = .ok (.iload_n 2, 1) := dk_28 (dk_at dksX2_init_1 11 rfl rfl)
theorem dX2_init_36 : decode cX2_init 36 = .ok (.putfield 26, 3) := dk_181 0 26 (dk_at dksX2_init_1 12 rfl rfl)
theorem dX2_init_39 : decode cX2_init 39 = .ok (.return_, 1) := dk_177 (dk_at dksX2_init_1 15 rfl rfl)
abbrev cX2_climb : ByteArray := prog_27_method_12_code
def yX2_climb : MethodName := ⟨RX2, "climb", "(LReflectMirror$Type;)V"⟩
def dkwX2_climb_0 : List UInt8 := [42, 182, 0, 36, 42, 42, 182, 0, 32, 177]
abbrev dktX2_climb_0 : List UInt8 := dkwX2_climb_0 ++ []
theorem dksX2_climb_0 : cX2_climb.data.toList.drop 0 = dktX2_climb_0 := by decide +kernel
theorem dX2_climb_0 : decode cX2_climb 0 = .ok (.aload_n 0, 1) := dk_42 (dk_at dksX2_climb_0 0 rfl rfl)
theorem dX2_climb_1 : decode cX2_climb 1 = .ok (.invokevirtual 36, 3) := dk_182 0 36 (dk_at dksX2_climb_0 1 rfl rfl)
theorem dX2_climb_4 : decode cX2_climb 4 = .ok (.aload_n 0, 1) := dk_42 (dk_at dksX2_climb_0 4 rfl rfl)
theorem dX2_climb_5 : decode cX2_climb 5 = .ok (.aload_n 0, 1) := dk_42 (dk_at dksX2_climb_0 5 rfl rfl)
theorem dX2_climb_6 : decode cX2_climb 6 = .ok (.invokevirtual 32, 3) := dk_182 0 32 (dk_at dksX2_climb_0 6 rfl rfl)
theorem dX2_climb_9 : decode cX2_climb 9 = .ok (.return_, 1) := dk_177 (dk_at dksX2_climb_0 9 rfl rfl)
abbrev cX2_clear : ByteArray := prog_27_method_9_code
def yX2_clear : MethodName := ⟨RX2, "clear", "()V"⟩
def dkwX2_clear_1 : List UInt8 := [167, 255, 240, 177]
abbrev dktX2_clear_1 : List UInt8 := dkwX2_clear_1 ++ []
def dkwX2_clear_0 : List UInt8 := [42, 3, 181, 0, 29, 3, 60, 27, 16, 60, 162, 0, 16, 42, 180, 0, 18, 27, 3, 84, 132, 1, 1]
abbrev dktX2_clear_0 : List UInt8 := dkwX2_clear_0 ++ dktX2_clear_1
theorem dksX2_clear_0 : cX2_clear.data.toList.drop 0 = dktX2_clear_0 := by decide +kernel
theorem dksX2_clear_1 : cX2_clear.data.toList.drop 23 = dktX2_clear_1 := dk_seg dksX2_clear_0 23 rfl rfl
theorem dX2_clear_0 : decode cX2_clear 0 = .ok (.aload_n 0, 1) := dk_42 (dk_at dksX2_clear_0 0 rfl rfl)
theorem dX2_clear_1 : decode cX2_clear 1 = .ok (.iconst 0, 1) := dk_3 (dk_at dksX2_clear_0 1 rfl rfl)
theorem dX2_clear_2 : decode cX2_clear 2 = .ok (.putfield 29, 3) := dk_181 0 29 (dk_at dksX2_clear_0 2 rfl rfl)
theorem dX2_clear_5 : decode cX2_clear 5 = .ok (.iconst 0, 1) := dk_3 (dk_at dksX2_clear_0 5 rfl rfl)
theorem dX2_clear_6 : decode cX2_clear 6 = .ok (.istore_n 1, 1) := dk_60 (dk_at dksX2_clear_0 6 rfl rfl)
theorem dX2_clear_7 : decode cX2_clear 7 = .ok (.iload_n 1, 1) := dk_27 (dk_at dksX2_clear_0 7 rfl rfl)
theorem dX2_clear_8 : decode cX2_clear 8 = .ok (.bipush 60, 2) := dk_16 60 (dk_at dksX2_clear_0 8 rfl rfl)
theorem dX2_clear_10 : decode cX2_clear 10 = .ok (.if_icmp .ge 16, 3) := dk_162 0 16 (dk_at dksX2_clear_0 10 rfl rfl)
theorem dX2_clear_13 : decode cX2_clear 13 = .ok (.aload_n 0, 1) := dk_42 (dk_at dksX2_clear_0 13 rfl rfl)
theorem dX2_clear_14 : decode cX2_clear 14 = .ok (.getfield 18, 3) := dk_180 0 18 (dk_at dksX2_clear_0 14 rfl rfl)
theorem dX2_clear_17 : decode cX2_clear 17 = .ok (.iload_n 1, 1) := dk_27 (dk_at dksX2_clear_0 17 rfl rfl)
theorem dX2_clear_18 : decode cX2_clear 18 = .ok (.iconst 0, 1) := dk_3 (dk_at dksX2_clear_0 18 rfl rfl)
theorem dX2_clear_19 : decode cX2_clear 19 = .ok (.bastore, 1) := dk_84 (dk_at dksX2_clear_0 19 rfl rfl)
theorem dX2_clear_20 : decode cX2_clear 20 = .ok (.iinc 1 1, 3) := dk_132 1 1 (dk_at dksX2_clear_0 20 rfl rfl)
theorem dX2_clear_23 : decode cX2_clear 23 = .ok (.goto (-16), 3) := dk_167 255 240 (dk_at dksX2_clear_1 0 rfl rfl)
theorem dX2_clear_26 : decode cX2_clear 26 = .ok (.return_, 1) := dk_177 (dk_at dksX2_clear_1 3 rfl rfl)
abbrev cX2_add : ByteArray := prog_27_method_10_code
def yX2_add : MethodName := ⟨RX2, "add", "(LReflectMirror$Type;)V"⟩
def dkwX2_add_1 : List UInt8 := [180, 0, 15, 42, 180, 0, 29, 43, 83, 42, 89, 180, 0, 29, 4, 96, 181, 0, 29, 177]
abbrev dktX2_add_1 : List UInt8 := dkwX2_add_1 ++ []
def dkwX2_add_0 : List UInt8 := [42, 180, 0, 18, 43, 180, 0, 22, 51, 154, 0, 33, 42, 180, 0, 18, 43, 180, 0, 22, 4, 84, 42]
abbrev dktX2_add_0 : List UInt8 := dkwX2_add_0 ++ dktX2_add_1
theorem dksX2_add_0 : cX2_add.data.toList.drop 0 = dktX2_add_0 := by decide +kernel
theorem dksX2_add_1 : cX2_add.data.toList.drop 23 = dktX2_add_1 := dk_seg dksX2_add_0 23 rfl rfl
theorem dX2_add_0 : decode cX2_add 0 = .ok (.aload_n 0, 1) := dk_42 (dk_at dksX2_add_0 0 rfl rfl)
theorem dX2_add_1 : decode cX2_add 1 = .ok (.getfield 18, 3) := dk_180 0 18 (dk_at dksX2_add_0 1 rfl rfl)
theorem dX2_add_4 : decode cX2_add 4 = .ok (.aload_n 1, 1) := dk_43 (dk_at dksX2_add_0 4 rfl rfl)
theorem dX2_add_5 : decode cX2_add 5 = .ok (.getfield 22, 3) := dk_180 0 22 (dk_at dksX2_add_0 5 rfl rfl)
theorem dX2_add_8 : decode cX2_add 8 = .ok (.baload, 1) := dk_51 (dk_at dksX2_add_0 8 rfl rfl)
theorem dX2_add_9 : decode cX2_add 9 = .ok (.ifCond .ne 33, 3) := dk_154 0 33 (dk_at dksX2_add_0 9 rfl rfl)
theorem dX2_add_12 : decode cX2_add 12 = .ok (.aload_n 0, 1) := dk_42 (dk_at dksX2_add_0 12 rfl rfl)
theorem dX2_add_13 : decode cX2_add 13 = .ok (.getfield 18, 3) := dk_180 0 18 (dk_at dksX2_add_0 13 rfl rfl)
theorem dX2_add_16 : decode cX2_add 16 = .ok (.aload_n 1, 1) := dk_43 (dk_at dksX2_add_0 16 rfl rfl)
theorem dX2_add_17 : decode cX2_add 17 = .ok (.getfield 22, 3) := dk_180 0 22 (dk_at dksX2_add_0 17 rfl rfl)
theorem dX2_add_20 : decode cX2_add 20 = .ok (.iconst 1, 1) := dk_4 (dk_at dksX2_add_0 20 rfl rfl)
theorem dX2_add_21 : decode cX2_add 21 = .ok (.bastore, 1) := dk_84 (dk_at dksX2_add_0 21 rfl rfl)
theorem dX2_add_22 : decode cX2_add 22 = .ok (.aload_n 0, 1) := dk_42 (dk_at dksX2_add_0 22 rfl rfl)
theorem dX2_add_23 : decode cX2_add 23 = .ok (.getfield 15, 3) := dk_180 0 15 (dk_at dksX2_add_1 0 rfl rfl)
theorem dX2_add_26 : decode cX2_add 26 = .ok (.aload_n 0, 1) := dk_42 (dk_at dksX2_add_1 3 rfl rfl)
theorem dX2_add_27 : decode cX2_add 27 = .ok (.getfield 29, 3) := dk_180 0 29 (dk_at dksX2_add_1 4 rfl rfl)
theorem dX2_add_30 : decode cX2_add 30 = .ok (.aload_n 1, 1) := dk_43 (dk_at dksX2_add_1 7 rfl rfl)
theorem dX2_add_31 : decode cX2_add 31 = .ok (.aastore, 1) := dk_83 (dk_at dksX2_add_1 8 rfl rfl)
theorem dX2_add_32 : decode cX2_add 32 = .ok (.aload_n 0, 1) := dk_42 (dk_at dksX2_add_1 9 rfl rfl)
theorem dX2_add_33 : decode cX2_add 33 = .ok (.dup, 1) := dk_89 (dk_at dksX2_add_1 10 rfl rfl)
theorem dX2_add_34 : decode cX2_add 34 = .ok (.getfield 29, 3) := dk_180 0 29 (dk_at dksX2_add_1 11 rfl rfl)
theorem dX2_add_37 : decode cX2_add 37 = .ok (.iconst 1, 1) := dk_4 (dk_at dksX2_add_1 14 rfl rfl)
theorem dX2_add_38 : decode cX2_add 38 = .ok (.iadd, 1) := dk_96 (dk_at dksX2_add_1 15 rfl rfl)
theorem dX2_add_39 : decode cX2_add 39 = .ok (.putfield 29, 3) := dk_181 0 29 (dk_at dksX2_add_1 16 rfl rfl)
theorem dX2_add_42 : decode cX2_add 42 = .ok (.return_, 1) := dk_177 (dk_at dksX2_add_1 19 rfl rfl)
abbrev cX2_addAll : ByteArray := prog_27_method_11_code
def yX2_addAll : MethodName := ⟨RX2, "addAll", "(LReflectMirror$Type;LReflectMirror$Type;)V"⟩
def dkwX2_addAll_1 : List UInt8 := [180, 0, 15, 29, 50, 182, 0, 32, 132, 3, 1, 167, 255, 225, 177]
abbrev dktX2_addAll_1 : List UInt8 := dkwX2_addAll_1 ++ []
def dkwX2_addAll_0 : List UInt8 := [3, 62, 29, 43, 180, 0, 29, 162, 0, 29, 43, 180, 0, 15, 29, 50, 44, 165, 0, 13, 42, 43]
abbrev dktX2_addAll_0 : List UInt8 := dkwX2_addAll_0 ++ dktX2_addAll_1
theorem dksX2_addAll_0 : cX2_addAll.data.toList.drop 0 = dktX2_addAll_0 := by decide +kernel
theorem dksX2_addAll_1 : cX2_addAll.data.toList.drop 22 = dktX2_addAll_1 := dk_seg dksX2_addAll_0 22 rfl rfl
theorem dX2_addAll_0 : decode cX2_addAll 0 = .ok (.iconst 0, 1) := dk_3 (dk_at dksX2_addAll_0 0 rfl rfl)
theorem dX2_addAll_1 : decode cX2_addAll 1 = .ok (.istore_n 3, 1) := dk_62 (dk_at dksX2_addAll_0 1 rfl rfl)
theorem dX2_addAll_2 : decode cX2_addAll 2 = .ok (.iload_n 3, 1) := dk_29 (dk_at dksX2_addAll_0 2 rfl rfl)
theorem dX2_addAll_3 : decode cX2_addAll 3 = .ok (.aload_n 1, 1) := dk_43 (dk_at dksX2_addAll_0 3 rfl rfl)
theorem dX2_addAll_4 : decode cX2_addAll 4 = .ok (.getfield 29, 3) := dk_180 0 29 (dk_at dksX2_addAll_0 4 rfl rfl)
theorem dX2_addAll_7 : decode cX2_addAll 7 = .ok (.if_icmp .ge 29, 3) := dk_162 0 29 (dk_at dksX2_addAll_0 7 rfl rfl)
theorem dX2_addAll_10 : decode cX2_addAll 10 = .ok (.aload_n 1, 1) := dk_43 (dk_at dksX2_addAll_0 10 rfl rfl)
theorem dX2_addAll_11 : decode cX2_addAll 11 = .ok (.getfield 15, 3) := dk_180 0 15 (dk_at dksX2_addAll_0 11 rfl rfl)
theorem dX2_addAll_14 : decode cX2_addAll 14 = .ok (.iload_n 3, 1) := dk_29 (dk_at dksX2_addAll_0 14 rfl rfl)
theorem dX2_addAll_15 : decode cX2_addAll 15 = .ok (.aaload, 1) := dk_50 (dk_at dksX2_addAll_0 15 rfl rfl)
theorem dX2_addAll_16 : decode cX2_addAll 16 = .ok (.aload_n 2, 1) := dk_44 (dk_at dksX2_addAll_0 16 rfl rfl)
theorem dX2_addAll_17 : decode cX2_addAll 17 = .ok (.if_acmp .eq 13, 3) := dk_165 0 13 (dk_at dksX2_addAll_0 17 rfl rfl)
theorem dX2_addAll_20 : decode cX2_addAll 20 = .ok (.aload_n 0, 1) := dk_42 (dk_at dksX2_addAll_0 20 rfl rfl)
theorem dX2_addAll_21 : decode cX2_addAll 21 = .ok (.aload_n 1, 1) := dk_43 (dk_at dksX2_addAll_0 21 rfl rfl)
theorem dX2_addAll_22 : decode cX2_addAll 22 = .ok (.getfield 15, 3) := dk_180 0 15 (dk_at dksX2_addAll_1 0 rfl rfl)
theorem dX2_addAll_25 : decode cX2_addAll 25 = .ok (.iload_n 3, 1) := dk_29 (dk_at dksX2_addAll_1 3 rfl rfl)
theorem dX2_addAll_26 : decode cX2_addAll 26 = .ok (.aaload, 1) := dk_50 (dk_at dksX2_addAll_1 4 rfl rfl)
theorem dX2_addAll_27 : decode cX2_addAll 27 = .ok (.invokevirtual 32, 3) := dk_182 0 32 (dk_at dksX2_addAll_1 5 rfl rfl)
theorem dX2_addAll_30 : decode cX2_addAll 30 = .ok (.iinc 3 1, 3) := dk_132 3 1 (dk_at dksX2_addAll_1 8 rfl rfl)
theorem dX2_addAll_33 : decode cX2_addAll 33 = .ok (.goto (-31), 3) := dk_167 255 225 (dk_at dksX2_addAll_1 11 rfl rfl)
theorem dX2_addAll_36 : decode cX2_addAll 36 = .ok (.return_, 1) := dk_177 (dk_at dksX2_addAll_1 14 rfl rfl)
abbrev cX2_isClass : ByteArray := prog_27_method_7_code
def yX2_isClass : MethodName := ⟨RX2, "isClass", "()Z"⟩
theorem dX2_isClass_0 : decode cX2_isClass 0 = .ok (.iconst 0, 1) := by decide +kernel
theorem dX2_isClass_1 : decode cX2_isClass 1 = .ok (.ireturn, 1) := by decide +kernel
abbrev cX2_number : ByteArray := prog_27_method_2_code
def yX2_number : MethodName := ⟨RX2, "number", "()I"⟩
theorem dX2_number_0 : decode cX2_number 0 = .ok (.aload_n 0, 1) := by decide +kernel
theorem dX2_number_1 : decode cX2_number 1 = .ok (.getfield 22, 3) := by decide +kernel
theorem dX2_number_4 : decode cX2_number 4 = .ok (.ireturn, 1) := by decide +kernel
abbrev cX2_declares : ByteArray := prog_27_method_8_code
def yX2_declares : MethodName := ⟨RX2, "declares", "()Z"⟩
theorem dX2_declares_0 : decode cX2_declares 0 = .ok (.iconst 0, 1) := by decide +kernel
theorem dX2_declares_1 : decode cX2_declares 1 = .ok (.ireturn, 1) := by decide +kernel
abbrev cX2_parent : ByteArray := prog_27_method_4_code
def yX2_parent : MethodName := ⟨RX2, "parent", "()LReflectMirror$Type;"⟩
theorem dX2_parent_0 : decode cX2_parent 0 = .ok (.aconst_null, 1) := by decide +kernel
theorem dX2_parent_1 : decode cX2_parent 1 = .ok (.areturn, 1) := by decide +kernel
abbrev cX2_of : ByteArray := prog_27_method_5_code
def yX2_of : MethodName := ⟨RX2, "of", "()LReflectMirror$Type;"⟩
theorem dX2_of_0 : decode cX2_of 0 = .ok (.aconst_null, 1) := by decide +kernel
theorem dX2_of_1 : decode cX2_of 1 = .ok (.areturn, 1) := by decide +kernel
abbrev cX2_isReference : ByteArray := prog_27_method_6_code
def yX2_isReference : MethodName := ⟨RX2, "isReference", "()Z"⟩
theorem dX2_isReference_0 : decode cX2_isReference 0 = .ok (.iconst 1, 1) := by decide +kernel
theorem dX2_isReference_1 : decode cX2_isReference 1 = .ok (.ireturn, 1) := by decide +kernel
abbrev cX2_is : ByteArray := prog_27_method_13_code
def yX2_is : MethodName := ⟨RX2, "is", "(LReflectMirror$Type;)Z"⟩
def dkwX2_is_0 : List UInt8 := [42, 180, 0, 18, 43, 180, 0, 22, 51, 172]
abbrev dktX2_is_0 : List UInt8 := dkwX2_is_0 ++ []
theorem dksX2_is_0 : cX2_is.data.toList.drop 0 = dktX2_is_0 := by decide +kernel
theorem dX2_is_0 : decode cX2_is 0 = .ok (.aload_n 0, 1) := dk_42 (dk_at dksX2_is_0 0 rfl rfl)
theorem dX2_is_1 : decode cX2_is 1 = .ok (.getfield 18, 3) := dk_180 0 18 (dk_at dksX2_is_0 1 rfl rfl)
theorem dX2_is_4 : decode cX2_is 4 = .ok (.aload_n 1, 1) := dk_43 (dk_at dksX2_is_0 4 rfl rfl)
theorem dX2_is_5 : decode cX2_is 5 = .ok (.getfield 22, 3) := dk_180 0 22 (dk_at dksX2_is_0 5 rfl rfl)
theorem dX2_is_8 : decode cX2_is 8 = .ok (.baload, 1) := dk_51 (dk_at dksX2_is_0 8 rfl rfl)
theorem dX2_is_9 : decode cX2_is 9 = .ok (.ireturn, 1) := dk_172 (dk_at dksX2_is_0 9 rfl rfl)
abbrev cX2_row : ByteArray := prog_27_method_14_code
def yX2_row : MethodName := ⟨RX2, "row", "(I)Ljava/lang/Object;"⟩
theorem dX2_row_0 : decode cX2_row 0 = .ok (.iload_n 1, 1) := by decide +kernel
theorem dX2_row_1 : decode cX2_row 1 = .ok (.anewarray 39, 3) := by decide +kernel
theorem dX2_row_4 : decode cX2_row 4 = .ok (.areturn, 1) := by decide +kernel
theorem q92 : (Jvm.Cond.initialized "ReflectMirror$Type") ∈ lw_all := lw_g (lw_at lw_m1 3 rfl) rfl
theorem q171 : (Jvm.Cond.instanceMethod ({ cls := "ReflectMirror$Type", name := "<init>", desc := "(II)V" } : Jvm.MethodName)) ∈ lw_all := lw_g (lw_at lw_m1 82 rfl) rfl
theorem q172 : (Jvm.Cond.code ({ cls := "ReflectMirror$Type", name := "<init>", desc := "(II)V" } : Jvm.MethodName) prog_27_method_1_code (3 : Nat) (Option.none : Option Jvm.ClassFile.FieldType)) ∈ lw_all := lw_g (lw_at lw_m1 83 rfl) rfl
theorem q173 : (Jvm.Cond.methodLink "ReflectMirror$Type" (3 : Nat) ({ cls := "java/lang/Object", name := "<init>", desc := "()V" } : Jvm.MethodName)) ∈ lw_all := lw_g (lw_at lw_m1 84 rfl) rfl
theorem q174 : (Jvm.Cond.classLink "ReflectMirror$Type" (9 : Nat) "ReflectMirror$Type") ∈ lw_all := lw_g (lw_at lw_m1 85 rfl) rfl
theorem q175 : (Jvm.Cond.fieldLink "ReflectMirror$Type" (22 : Nat) "ReflectMirror$Type" "number" "I") ∈ lw_all := lw_g (lw_at lw_m1 86 rfl) rfl
theorem q177 : (Jvm.Cond.fieldLink "ReflectMirror$Type" (26 : Nat) "ReflectMirror$Type" "pack" "I") ∈ lw_all := lw_g (lw_at lw_m1 88 rfl) rfl
theorem q180 : (Jvm.Cond.fieldLink "ReflectMirror$Type" (11 : Nat) "ReflectMirror$Type" "faces" "[LReflectMirror$Type;") ∈ lw_all := lw_g (lw_at lw_m1 91 rfl) rfl
theorem q193 : (Jvm.Cond.fieldLink "ReflectMirror$Type" (15 : Nat) "ReflectMirror$Type" "above" "[LReflectMirror$Type;") ∈ lw_all := lw_g (lw_at lw_m1 104 rfl) rfl
theorem q196 : (Jvm.Cond.fieldLink "ReflectMirror$Type" (29 : Nat) "ReflectMirror$Type" "aboveMany" "I") ∈ lw_all := lw_g (lw_at lw_m1 107 rfl) rfl
theorem q197 : (Jvm.Cond.fieldLink "ReflectMirror$Type" (18 : Nat) "ReflectMirror$Type" "has" "[Z") ∈ lw_all := lw_g (lw_at lw_m1 108 rfl) rfl
theorem q200 : (Jvm.Cond.soleField "ReflectMirror$Type" "number") ∈ lw_all := lw_g (lw_at lw_m1 111 rfl) rfl
theorem q202 : (Jvm.Cond.soleField "ReflectMirror$Type" "pack") ∈ lw_all := lw_g (lw_at lw_m1 113 rfl) rfl
theorem q204 : (Jvm.Cond.soleField "ReflectMirror$Type" "faces") ∈ lw_all := lw_g (lw_at lw_m1 115 rfl) rfl
theorem q206 : (Jvm.Cond.soleField "ReflectMirror$Type" "faceMany") ∈ lw_all := lw_g (lw_at lw_m1 117 rfl) rfl
theorem q208 : (Jvm.Cond.soleField "ReflectMirror$Type" "above") ∈ lw_all := lw_g (lw_at lw_m1 119 rfl) rfl
theorem q210 : (Jvm.Cond.soleField "ReflectMirror$Type" "aboveMany") ∈ lw_all := lw_g (lw_at lw_m1 121 rfl) rfl
theorem q212 : (Jvm.Cond.soleField "ReflectMirror$Type" "has") ∈ lw_all := lw_g (lw_at lw_m1 123 rfl) rfl
theorem q214 : (Jvm.Cond.soleField "ReflectMirror$Type" "rows") ∈ lw_all := lw_g (lw_at lw_m1 125 rfl) rfl
theorem q267 : (Jvm.Cond.instanceMethod ({ cls := "ReflectMirror$Type", name := "climb", desc := "(LReflectMirror$Type;)V" } : Jvm.MethodName)) ∈ lw_all := lw_g (lw_at lw_m1 178 rfl) rfl
theorem q268 : (Jvm.Cond.sameMethod "ReflectMirror$Type" "ReflectMirror$Type" "climb" "(LReflectMirror$Type;)V") ∈ lw_all := lw_g (lw_at lw_m1 179 rfl) rfl
theorem q274 : (Jvm.Cond.code ({ cls := "ReflectMirror$Type", name := "climb", desc := "(LReflectMirror$Type;)V" } : Jvm.MethodName) prog_27_method_12_code (2 : Nat) (Option.none : Option Jvm.ClassFile.FieldType)) ∈ lw_all := lw_g (lw_at lw_m1 185 rfl) rfl
theorem q275 : (Jvm.Cond.methodLink "ReflectMirror$Type" (36 : Nat) ({ cls := "ReflectMirror$Type", name := "clear", desc := "()V" } : Jvm.MethodName)) ∈ lw_all := lw_g (lw_at lw_m1 186 rfl) rfl
theorem q276 : (Jvm.Cond.instanceMethod ({ cls := "ReflectMirror$Type", name := "clear", desc := "()V" } : Jvm.MethodName)) ∈ lw_all := lw_g (lw_at lw_m1 187 rfl) rfl
theorem q277 : (Jvm.Cond.sameMethod "ReflectMirror$Type" "ReflectMirror$Type" "clear" "()V") ∈ lw_all := lw_g (lw_at lw_m1 188 rfl) rfl
theorem q282 : (Jvm.Cond.code ({ cls := "ReflectMirror$Type", name := "clear", desc := "()V" } : Jvm.MethodName) prog_27_method_9_code (2 : Nat) (Option.none : Option Jvm.ClassFile.FieldType)) ∈ lw_all := lw_g (lw_at lw_m1 193 rfl) rfl
theorem q283 : (Jvm.Cond.methodLink "ReflectMirror$Type" (32 : Nat) ({ cls := "ReflectMirror$Type", name := "add", desc := "(LReflectMirror$Type;)V" } : Jvm.MethodName)) ∈ lw_all := lw_g (lw_at lw_m1 194 rfl) rfl
theorem q284 : (Jvm.Cond.instanceMethod ({ cls := "ReflectMirror$Type", name := "add", desc := "(LReflectMirror$Type;)V" } : Jvm.MethodName)) ∈ lw_all := lw_g (lw_at lw_m1 195 rfl) rfl
theorem q285 : (Jvm.Cond.sameMethod "ReflectMirror$Type" "ReflectMirror$Type" "add" "(LReflectMirror$Type;)V") ∈ lw_all := lw_g (lw_at lw_m1 196 rfl) rfl
theorem q290 : (Jvm.Cond.code ({ cls := "ReflectMirror$Type", name := "add", desc := "(LReflectMirror$Type;)V" } : Jvm.MethodName) prog_27_method_10_code (2 : Nat) (Option.none : Option Jvm.ClassFile.FieldType)) ∈ lw_all := lw_g (lw_at lw_m1 201 rfl) rfl
theorem q293 : (Jvm.Cond.declares ({ cls := "ReflectMirror$Type", name := "addAll", desc := "(LReflectMirror$Type;LReflectMirror$Type;)V" } : Jvm.MethodName)) ∈ lw_tbl := lw_at lw_m1 204 rfl
theorem q296 : (Jvm.Cond.instanceMethod ({ cls := "ReflectMirror$Type", name := "addAll", desc := "(LReflectMirror$Type;LReflectMirror$Type;)V" } : Jvm.MethodName)) ∈ lw_all := lw_g (lw_at lw_m1 207 rfl) rfl
theorem q297 : (Jvm.Cond.code ({ cls := "ReflectMirror$Type", name := "addAll", desc := "(LReflectMirror$Type;LReflectMirror$Type;)V" } : Jvm.MethodName) prog_27_method_11_code (4 : Nat) (Option.none : Option Jvm.ClassFile.FieldType)) ∈ lw_all := lw_g (lw_at lw_m1 208 rfl) rfl
theorem q300 : (Jvm.Cond.declares ({ cls := "ReflectMirror$Type", name := "add", desc := "(LReflectMirror$Type;)V" } : Jvm.MethodName)) ∈ lw_tbl := lw_at lw_m1 211 rfl
theorem q308 : (Jvm.Cond.declares ({ cls := "ReflectMirror$Type", name := "clear", desc := "()V" } : Jvm.MethodName)) ∈ lw_tbl := lw_at lw_m1 219 rfl
theorem q382 : (Jvm.Cond.instanceMethod ({ cls := "ReflectMirror$Type", name := "isClass", desc := "()Z" } : Jvm.MethodName)) ∈ lw_all := lw_g (lw_at lw_m2 53 rfl) rfl
theorem q383 : (Jvm.Cond.sameMethod "ReflectMirror$Type" "ReflectMirror$Type" "isClass" "()Z") ∈ lw_all := lw_g (lw_at lw_m2 54 rfl) rfl
theorem q390 : (Jvm.Cond.code ({ cls := "ReflectMirror$Type", name := "isClass", desc := "()Z" } : Jvm.MethodName) prog_27_method_7_code (1 : Nat) (Option.some Jvm.ClassFile.FieldType.boolean)) ∈ lw_all := lw_g (lw_at lw_m2 61 rfl) rfl
theorem q397 : (Jvm.Cond.instanceMethod ({ cls := "ReflectMirror$Type", name := "number", desc := "()I" } : Jvm.MethodName)) ∈ lw_all := lw_g (lw_at lw_m2 68 rfl) rfl
theorem q398 : (Jvm.Cond.sameMethod "ReflectMirror$Type" "ReflectMirror$Type" "number" "()I") ∈ lw_all := lw_g (lw_at lw_m2 69 rfl) rfl
theorem q403 : (Jvm.Cond.code ({ cls := "ReflectMirror$Type", name := "number", desc := "()I" } : Jvm.MethodName) prog_27_method_2_code (1 : Nat) (Option.some Jvm.ClassFile.FieldType.int)) ∈ lw_all := lw_g (lw_at lw_m2 74 rfl) rfl
theorem q448 : (Jvm.Cond.instanceMethod ({ cls := "ReflectMirror$Type", name := "declares", desc := "()Z" } : Jvm.MethodName)) ∈ lw_all := lw_g (lw_at lw_m2 119 rfl) rfl
theorem q449 : (Jvm.Cond.sameMethod "ReflectMirror$Type" "ReflectMirror$Type" "declares" "()Z") ∈ lw_all := lw_g (lw_at lw_m2 120 rfl) rfl
theorem q458 : (Jvm.Cond.code ({ cls := "ReflectMirror$Type", name := "declares", desc := "()Z" } : Jvm.MethodName) prog_27_method_8_code (1 : Nat) (Option.some Jvm.ClassFile.FieldType.boolean)) ∈ lw_all := lw_g (lw_at lw_m2 129 rfl) rfl
theorem q460 : (Jvm.Cond.declares ({ cls := "ReflectMirror$Type", name := "what", desc := "()I" } : Jvm.MethodName)) ∈ lw_tbl := lw_at lw_m2 131 rfl
theorem q461 : (Jvm.Cond.sameMethod "ReflectMirror$Type" "ReflectMirror$Type" "what" "()I") ∈ lw_all := lw_g (lw_at lw_m2 132 rfl) rfl
theorem q474 : (Jvm.Cond.superclass "ReflectMirror$Type" "java/lang/Object") ∈ lw_all := lw_g (lw_at lw_m2 145 rfl) rfl
theorem q490 : (Jvm.Cond.publicMethod ({ cls := "ReflectMirror$Type", name := "number", desc := "()I" } : Jvm.MethodName)) ∈ lw_tbl := lw_at lw_m2 161 rfl
theorem q521 : (Jvm.Cond.instanceMethod ({ cls := "ReflectMirror$Type", name := "parent", desc := "()LReflectMirror$Type;" } : Jvm.MethodName)) ∈ lw_all := lw_g (lw_at lw_m2 192 rfl) rfl
theorem q522 : (Jvm.Cond.sameMethod "ReflectMirror$Type" "ReflectMirror$Type" "parent" "()LReflectMirror$Type;") ∈ lw_all := lw_g (lw_at lw_m2 193 rfl) rfl
theorem q531 : (Jvm.Cond.code ({ cls := "ReflectMirror$Type", name := "parent", desc := "()LReflectMirror$Type;" } : Jvm.MethodName) prog_27_method_4_code (1 : Nat) (Option.some (Jvm.ClassFile.FieldType.object "ReflectMirror$Type"))) ∈ lw_all := lw_g (lw_at lw_m2 202 rfl) rfl
theorem q533 : (Jvm.Cond.instanceMethod ({ cls := "ReflectMirror$Type", name := "of", desc := "()LReflectMirror$Type;" } : Jvm.MethodName)) ∈ lw_all := lw_g (lw_at lw_m2 204 rfl) rfl
theorem q534 : (Jvm.Cond.sameMethod "ReflectMirror$Type" "ReflectMirror$Type" "of" "()LReflectMirror$Type;") ∈ lw_all := lw_g (lw_at lw_m2 205 rfl) rfl
theorem q541 : (Jvm.Cond.code ({ cls := "ReflectMirror$Type", name := "of", desc := "()LReflectMirror$Type;" } : Jvm.MethodName) prog_27_method_5_code (1 : Nat) (Option.some (Jvm.ClassFile.FieldType.object "ReflectMirror$Type"))) ∈ lw_all := lw_g (lw_at lw_m2 212 rfl) rfl
theorem q543 : (Jvm.Cond.instanceMethod ({ cls := "ReflectMirror$Type", name := "isReference", desc := "()Z" } : Jvm.MethodName)) ∈ lw_all := lw_g (lw_at lw_m2 214 rfl) rfl
theorem q544 : (Jvm.Cond.sameMethod "ReflectMirror$Type" "ReflectMirror$Type" "isReference" "()Z") ∈ lw_all := lw_g (lw_at lw_m2 215 rfl) rfl
theorem q551 : (Jvm.Cond.code ({ cls := "ReflectMirror$Type", name := "isReference", desc := "()Z" } : Jvm.MethodName) prog_27_method_6_code (1 : Nat) (Option.some Jvm.ClassFile.FieldType.boolean)) ∈ lw_all := lw_g (lw_at lw_m2 222 rfl) rfl
theorem q558 : (Jvm.Cond.instanceMethod ({ cls := "ReflectMirror$Type", name := "is", desc := "(LReflectMirror$Type;)Z" } : Jvm.MethodName)) ∈ lw_all := lw_g (lw_at lw_m2 229 rfl) rfl
theorem q559 : (Jvm.Cond.sameMethod "ReflectMirror$Type" "ReflectMirror$Type" "is" "(LReflectMirror$Type;)Z") ∈ lw_all := lw_g (lw_at lw_m2 230 rfl) rfl
theorem q567 : (Jvm.Cond.code ({ cls := "ReflectMirror$Type", name := "is", desc := "(LReflectMirror$Type;)Z" } : Jvm.MethodName) prog_27_method_13_code (2 : Nat) (Option.some Jvm.ClassFile.FieldType.boolean)) ∈ lw_all := lw_g (lw_at lw_m2 238 rfl) rfl
theorem q571 : (Jvm.Cond.declares ({ cls := "ReflectMirror$Type", name := "number", desc := "()I" } : Jvm.MethodName)) ∈ lw_tbl := lw_at lw_m3 2 rfl
theorem q716 : (Jvm.Cond.instanceMethod ({ cls := "ReflectMirror$Type", name := "row", desc := "(I)Ljava/lang/Object;" } : Jvm.MethodName)) ∈ lw_all := lw_g (lw_at lw_m3 147 rfl) rfl
theorem q717 : (Jvm.Cond.sameMethod "ReflectMirror$Type" "ReflectMirror$Type" "row" "(I)Ljava/lang/Object;") ∈ lw_all := lw_g (lw_at lw_m3 148 rfl) rfl
theorem q736 : (Jvm.Cond.code ({ cls := "ReflectMirror$Type", name := "row", desc := "(I)Ljava/lang/Object;" } : Jvm.MethodName) prog_27_method_14_code (2 : Nat) (Option.some (Jvm.ClassFile.FieldType.object "java/lang/Object"))) ∈ lw_all := lw_g (lw_at lw_m3 167 rfl) rfl
theorem q737 : (Jvm.Cond.classLink "ReflectMirror$Type" (39 : Nat) "ReflectMirror$Thing") ∈ lw_all := lw_g (lw_at lw_m3 168 rfl) rfl

/-! ReflectMirror$Primitive -/
set_option maxRecDepth 100000
def RX3 : String := "ReflectMirror$Primitive"
def TX3 : u_T := fun k => match k with
  | 0 => ("ReflectMirror$Type", "number", "I", true)
  | 1 => ("ReflectMirror$Type", "pack", "I", true)
  | 2 => ("ReflectMirror$Type", "faces", "[LReflectMirror$Type;", true)
  | 3 => ("ReflectMirror$Type", "faceMany", "I", false)
  | 4 => ("ReflectMirror$Type", "above", "[LReflectMirror$Type;", true)
  | 5 => ("ReflectMirror$Type", "aboveMany", "I", false)
  | 6 => ("ReflectMirror$Type", "has", "[Z", true)
  | _ => ("ReflectMirror$Type", "rows", "LReflectMirror$Type;", false)
def tyX3 : Nat → FieldType := fun k => match k with
  | 0 => .int
  | 1 => .int
  | 2 => .array (.object "ReflectMirror$Type")
  | 3 => .int
  | 4 => .array (.object "ReflectMirror$Type")
  | 5 => .int
  | 6 => .array .boolean
  | _ => .object "ReflectMirror$Type"
abbrev wsX30 : List Cond := u_ws RX3 TX3 8
theorem nmX3 : ∀ a, a < 8 → ∀ b, b < 8 → a ≠ b → (TX3 a).2.1 ≠ (TX3 b).2.1 := by decide +kernel
theorem tyX3_ok : ∀ k, k < 8 → parseFieldDescriptor (TX3 k).2.2.1 = some (tyX3 k) := by decide +kernel
abbrev cX3_init : ByteArray := prog_20_method_1_code
def yX3_init : MethodName := ⟨RX3, "<init>", "(I)V"⟩
def dkwX3_init_0 : List UInt8 := [42, 27, 3, 183, 0, 1, 177]
abbrev dktX3_init_0 : List UInt8 := dkwX3_init_0 ++ []
theorem dksX3_init_0 : cX3_init.data.toList.drop 0 = dktX3_init_0 := by decide +kernel
theorem dX3_init_0 : decode cX3_init 0 = .ok (.aload_n 0, 1) := dk_42 (dk_at dksX3_init_0 0 rfl rfl)
theorem dX3_init_1 : decode cX3_init 1 = .ok (.iload_n 1, 1) := dk_27 (dk_at dksX3_init_0 1 rfl rfl)
theorem dX3_init_2 : decode cX3_init 2 = .ok (.iconst 0, 1) := dk_3 (dk_at dksX3_init_0 2 rfl rfl)
theorem dX3_init_3 : decode cX3_init 3 = .ok (.invokespecial 1, 3) := dk_183 0 1 (dk_at dksX3_init_0 3 rfl rfl)
theorem dX3_init_6 : decode cX3_init 6 = .ok (.return_, 1) := dk_177 (dk_at dksX3_init_0 6 rfl rfl)
abbrev cX3_what : ByteArray := prog_20_method_2_code
def yX3_what : MethodName := ⟨RX3, "what", "()I"⟩
theorem dX3_what_0 : decode cX3_what 0 = .ok (.iconst 0, 1) := by decide +kernel
theorem dX3_what_1 : decode cX3_what 1 = .ok (.ireturn, 1) := by decide +kernel
abbrev cX3_isReference : ByteArray := prog_20_method_3_code
def yX3_isReference : MethodName := ⟨RX3, "isReference", "()Z"⟩
theorem dX3_isReference_0 : decode cX3_isReference 0 = .ok (.iconst 0, 1) := by decide +kernel
theorem dX3_isReference_1 : decode cX3_isReference 1 = .ok (.ireturn, 1) := by decide +kernel
abbrev cX3_is : ByteArray := prog_20_method_4_code
def yX3_is : MethodName := ⟨RX3, "is", "(LReflectMirror$Type;)Z"⟩
def dkwX3_is_2 : List UInt8 := [28, 42, 182, 0, 19, 164, 0, 7, 4, 167, 0, 4, 3, 172]
abbrev dktX3_is_2 : List UInt8 := dkwX3_is_2 ++ []
def dkwX3_is_1 : List UInt8 := [158, 0, 36, 28, 5, 164, 0, 31, 42, 182, 0, 19, 4, 160, 0, 11, 28, 6, 164, 0, 18, 167, 0, 11]
abbrev dktX3_is_1 : List UInt8 := dkwX3_is_1 ++ dktX3_is_2
def dkwX3_is_0 : List UInt8 := [43, 182, 0, 7, 61, 42, 43, 183, 0, 11, 154, 0, 46, 43, 182, 0, 15, 154, 0, 43, 42, 182, 0, 19]
abbrev dktX3_is_0 : List UInt8 := dkwX3_is_0 ++ dktX3_is_1
theorem dksX3_is_0 : cX3_is.data.toList.drop 0 = dktX3_is_0 := by decide +kernel
theorem dksX3_is_1 : cX3_is.data.toList.drop 24 = dktX3_is_1 := dk_seg dksX3_is_0 24 rfl rfl
theorem dksX3_is_2 : cX3_is.data.toList.drop 48 = dktX3_is_2 := dk_seg dksX3_is_1 24 rfl rfl
theorem dX3_is_0 : decode cX3_is 0 = .ok (.aload_n 1, 1) := dk_43 (dk_at dksX3_is_0 0 rfl rfl)
theorem dX3_is_1 : decode cX3_is 1 = .ok (.invokevirtual 7, 3) := dk_182 0 7 (dk_at dksX3_is_0 1 rfl rfl)
theorem dX3_is_4 : decode cX3_is 4 = .ok (.istore_n 2, 1) := dk_61 (dk_at dksX3_is_0 4 rfl rfl)
theorem dX3_is_5 : decode cX3_is 5 = .ok (.aload_n 0, 1) := dk_42 (dk_at dksX3_is_0 5 rfl rfl)
theorem dX3_is_6 : decode cX3_is 6 = .ok (.aload_n 1, 1) := dk_43 (dk_at dksX3_is_0 6 rfl rfl)
theorem dX3_is_7 : decode cX3_is 7 = .ok (.invokespecial 11, 3) := dk_183 0 11 (dk_at dksX3_is_0 7 rfl rfl)
theorem dX3_is_10 : decode cX3_is 10 = .ok (.ifCond .ne 46, 3) := dk_154 0 46 (dk_at dksX3_is_0 10 rfl rfl)
theorem dX3_is_13 : decode cX3_is 13 = .ok (.aload_n 1, 1) := dk_43 (dk_at dksX3_is_0 13 rfl rfl)
theorem dX3_is_14 : decode cX3_is 14 = .ok (.invokevirtual 15, 3) := dk_182 0 15 (dk_at dksX3_is_0 14 rfl rfl)
theorem dX3_is_17 : decode cX3_is 17 = .ok (.ifCond .ne 43, 3) := dk_154 0 43 (dk_at dksX3_is_0 17 rfl rfl)
theorem dX3_is_20 : decode cX3_is 20 = .ok (.aload_n 0, 1) := dk_42 (dk_at dksX3_is_0 20 rfl rfl)
theorem dX3_is_21 : decode cX3_is 21 = .ok (.invokevirtual 19, 3) := dk_182 0 19 (dk_at dksX3_is_0 21 rfl rfl)
theorem dX3_is_24 : decode cX3_is 24 = .ok (.ifCond .le 36, 3) := dk_158 0 36 (dk_at dksX3_is_1 0 rfl rfl)
theorem dX3_is_27 : decode cX3_is 27 = .ok (.iload_n 2, 1) := dk_28 (dk_at dksX3_is_1 3 rfl rfl)
theorem dX3_is_28 : decode cX3_is 28 = .ok (.iconst 2, 1) := dk_5 (dk_at dksX3_is_1 4 rfl rfl)
theorem dX3_is_29 : decode cX3_is 29 = .ok (.if_icmp .le 31, 3) := dk_164 0 31 (dk_at dksX3_is_1 5 rfl rfl)
theorem dX3_is_32 : decode cX3_is 32 = .ok (.aload_n 0, 1) := dk_42 (dk_at dksX3_is_1 8 rfl rfl)
theorem dX3_is_33 : decode cX3_is 33 = .ok (.invokevirtual 19, 3) := dk_182 0 19 (dk_at dksX3_is_1 9 rfl rfl)
theorem dX3_is_36 : decode cX3_is 36 = .ok (.iconst 1, 1) := dk_4 (dk_at dksX3_is_1 12 rfl rfl)
theorem dX3_is_37 : decode cX3_is 37 = .ok (.if_icmp .ne 11, 3) := dk_160 0 11 (dk_at dksX3_is_1 13 rfl rfl)
theorem dX3_is_40 : decode cX3_is 40 = .ok (.iload_n 2, 1) := dk_28 (dk_at dksX3_is_1 16 rfl rfl)
theorem dX3_is_41 : decode cX3_is 41 = .ok (.iconst 3, 1) := dk_6 (dk_at dksX3_is_1 17 rfl rfl)
theorem dX3_is_42 : decode cX3_is 42 = .ok (.if_icmp .le 18, 3) := dk_164 0 18 (dk_at dksX3_is_1 18 rfl rfl)
theorem dX3_is_45 : decode cX3_is 45 = .ok (.goto 11, 3) := dk_167 0 11 (dk_at dksX3_is_1 21 rfl rfl)
theorem dX3_is_48 : decode cX3_is 48 = .ok (.iload_n 2, 1) := dk_28 (dk_at dksX3_is_2 0 rfl rfl)
theorem dX3_is_49 : decode cX3_is 49 = .ok (.aload_n 0, 1) := dk_42 (dk_at dksX3_is_2 1 rfl rfl)
theorem dX3_is_50 : decode cX3_is 50 = .ok (.invokevirtual 19, 3) := dk_182 0 19 (dk_at dksX3_is_2 2 rfl rfl)
theorem dX3_is_53 : decode cX3_is 53 = .ok (.if_icmp .le 7, 3) := dk_164 0 7 (dk_at dksX3_is_2 5 rfl rfl)
theorem dX3_is_56 : decode cX3_is 56 = .ok (.iconst 1, 1) := dk_4 (dk_at dksX3_is_2 8 rfl rfl)
theorem dX3_is_57 : decode cX3_is 57 = .ok (.goto 4, 3) := dk_167 0 4 (dk_at dksX3_is_2 9 rfl rfl)
theorem dX3_is_60 : decode cX3_is 60 = .ok (.iconst 0, 1) := dk_3 (dk_at dksX3_is_2 12 rfl rfl)
theorem dX3_is_61 : decode cX3_is 61 = .ok (.ireturn, 1) := dk_172 (dk_at dksX3_is_2 13 rfl rfl)
abbrev cX3_row : ByteArray := prog_20_method_5_code
def yX3_row : MethodName := ⟨RX3, "row", "(I)Ljava/lang/Object;"⟩
def dkwX3_row_3 : List UInt8 := [27, 188, 6, 176, 27, 188, 7, 176]
abbrev dktX3_row_3 : List UInt8 := dkwX3_row_3 ++ []
def dkwX3_row_2 : List UInt8 := [27, 188, 4, 176, 27, 188, 5, 176, 27, 188, 8, 176, 27, 188, 9, 176, 27, 188, 10, 176, 27, 188, 11, 176]
abbrev dktX3_row_2 : List UInt8 := dkwX3_row_2 ++ dktX3_row_3
def dkwX3_row_1 : List UInt8 := [170, 0, 0, 0, 0, 0, 0, 72, 0, 0, 0, 0, 0, 0, 0, 6, 0, 0, 0, 44, 0, 0, 0, 48, 0, 0, 0, 52, 0, 0, 0, 56, 0, 0, 0, 60, 0, 0, 0, 64, 0, 0, 0, 68]
abbrev dktX3_row_1 : List UInt8 := dkwX3_row_1 ++ dktX3_row_2
def dkwX3_row_0 : List UInt8 := [42, 182, 0, 19]
abbrev dktX3_row_0 : List UInt8 := dkwX3_row_0 ++ dktX3_row_1
theorem dksX3_row_0 : cX3_row.data.toList.drop 0 = dktX3_row_0 := by decide +kernel
theorem dksX3_row_1 : cX3_row.data.toList.drop 4 = dktX3_row_1 := dk_seg dksX3_row_0 4 rfl rfl
theorem dksX3_row_2 : cX3_row.data.toList.drop 48 = dktX3_row_2 := dk_seg dksX3_row_1 44 rfl rfl
theorem dksX3_row_3 : cX3_row.data.toList.drop 72 = dktX3_row_3 := dk_seg dksX3_row_2 24 rfl rfl
theorem dX3_row_0 : decode cX3_row 0 = .ok (.aload_n 0, 1) := dk_42 (dk_at dksX3_row_0 0 rfl rfl)
theorem dX3_row_1 : decode cX3_row 1 = .ok (.invokevirtual 19, 3) := dk_182 0 19 (dk_at dksX3_row_0 1 rfl rfl)
theorem dX3_row_4 : decode cX3_row 4 = .ok (.tableswitch 72 0 6 #[44, 48, 52, 56, 60, 64, 68], 44) := by decide +kernel
theorem dX3_row_48 : decode cX3_row 48 = .ok (.iload_n 1, 1) := dk_27 (dk_at dksX3_row_2 0 rfl rfl)
theorem dX3_row_49 : decode cX3_row 49 = .ok (.newarray .boolean, 2) := dk_188_4 (dk_at dksX3_row_2 1 rfl rfl)
theorem dX3_row_51 : decode cX3_row 51 = .ok (.areturn, 1) := dk_176 (dk_at dksX3_row_2 3 rfl rfl)
theorem dX3_row_52 : decode cX3_row 52 = .ok (.iload_n 1, 1) := dk_27 (dk_at dksX3_row_2 4 rfl rfl)
theorem dX3_row_53 : decode cX3_row 53 = .ok (.newarray .char, 2) := dk_188_5 (dk_at dksX3_row_2 5 rfl rfl)
theorem dX3_row_55 : decode cX3_row 55 = .ok (.areturn, 1) := dk_176 (dk_at dksX3_row_2 7 rfl rfl)
theorem dX3_row_56 : decode cX3_row 56 = .ok (.iload_n 1, 1) := dk_27 (dk_at dksX3_row_2 8 rfl rfl)
theorem dX3_row_57 : decode cX3_row 57 = .ok (.newarray .byte, 2) := dk_188_8 (dk_at dksX3_row_2 9 rfl rfl)
theorem dX3_row_59 : decode cX3_row 59 = .ok (.areturn, 1) := dk_176 (dk_at dksX3_row_2 11 rfl rfl)
theorem dX3_row_60 : decode cX3_row 60 = .ok (.iload_n 1, 1) := dk_27 (dk_at dksX3_row_2 12 rfl rfl)
theorem dX3_row_61 : decode cX3_row 61 = .ok (.newarray .short, 2) := dk_188_9 (dk_at dksX3_row_2 13 rfl rfl)
theorem dX3_row_63 : decode cX3_row 63 = .ok (.areturn, 1) := dk_176 (dk_at dksX3_row_2 15 rfl rfl)
theorem dX3_row_64 : decode cX3_row 64 = .ok (.iload_n 1, 1) := dk_27 (dk_at dksX3_row_2 16 rfl rfl)
theorem dX3_row_65 : decode cX3_row 65 = .ok (.newarray .int, 2) := dk_188_10 (dk_at dksX3_row_2 17 rfl rfl)
theorem dX3_row_67 : decode cX3_row 67 = .ok (.areturn, 1) := dk_176 (dk_at dksX3_row_2 19 rfl rfl)
theorem dX3_row_68 : decode cX3_row 68 = .ok (.iload_n 1, 1) := dk_27 (dk_at dksX3_row_2 20 rfl rfl)
theorem dX3_row_69 : decode cX3_row 69 = .ok (.newarray .long, 2) := dk_188_11 (dk_at dksX3_row_2 21 rfl rfl)
theorem dX3_row_71 : decode cX3_row 71 = .ok (.areturn, 1) := dk_176 (dk_at dksX3_row_2 23 rfl rfl)
theorem dX3_row_72 : decode cX3_row 72 = .ok (.iload_n 1, 1) := dk_27 (dk_at dksX3_row_3 0 rfl rfl)
theorem dX3_row_73 : decode cX3_row 73 = .ok (.newarray .float, 2) := dk_188_6 (dk_at dksX3_row_3 1 rfl rfl)
theorem dX3_row_75 : decode cX3_row 75 = .ok (.areturn, 1) := dk_176 (dk_at dksX3_row_3 3 rfl rfl)
theorem dX3_row_76 : decode cX3_row 76 = .ok (.iload_n 1, 1) := dk_27 (dk_at dksX3_row_3 4 rfl rfl)
theorem dX3_row_77 : decode cX3_row 77 = .ok (.newarray .double, 2) := dk_188_7 (dk_at dksX3_row_3 5 rfl rfl)
theorem dX3_row_79 : decode cX3_row 79 = .ok (.areturn, 1) := dk_176 (dk_at dksX3_row_3 7 rfl rfl)
theorem q93 : (Jvm.Cond.initialized "ReflectMirror$Primitive") ∈ lw_all := lw_g (lw_at lw_m1 4 rfl) rfl
theorem q166 : (Jvm.Cond.instantiable "ReflectMirror$Primitive" (8 : Nat)) ∈ lw_all := lw_g (lw_at lw_m1 77 rfl) rfl
theorem q168 : (Jvm.Cond.instanceMethod ({ cls := "ReflectMirror$Primitive", name := "<init>", desc := "(I)V" } : Jvm.MethodName)) ∈ lw_all := lw_g (lw_at lw_m1 79 rfl) rfl
theorem q169 : (Jvm.Cond.code ({ cls := "ReflectMirror$Primitive", name := "<init>", desc := "(I)V" } : Jvm.MethodName) prog_20_method_1_code (2 : Nat) (Option.none : Option Jvm.ClassFile.FieldType)) ∈ lw_all := lw_g (lw_at lw_m1 80 rfl) rfl
theorem q170 : (Jvm.Cond.methodLink "ReflectMirror$Primitive" (1 : Nat) ({ cls := "ReflectMirror$Type", name := "<init>", desc := "(II)V" } : Jvm.MethodName)) ∈ lw_all := lw_g (lw_at lw_m1 81 rfl) rfl
theorem q199 : (Jvm.Cond.laysFinal "ReflectMirror$Primitive" "ReflectMirror$Type" "number" "I") ∈ lw_all := lw_g (lw_at lw_m1 110 rfl) rfl
theorem q201 : (Jvm.Cond.laysFinal "ReflectMirror$Primitive" "ReflectMirror$Type" "pack" "I") ∈ lw_all := lw_g (lw_at lw_m1 112 rfl) rfl
theorem q203 : (Jvm.Cond.laysFinal "ReflectMirror$Primitive" "ReflectMirror$Type" "faces" "[LReflectMirror$Type;") ∈ lw_all := lw_g (lw_at lw_m1 114 rfl) rfl
theorem q205 : (Jvm.Cond.lays "ReflectMirror$Primitive" "ReflectMirror$Type" "faceMany" "I") ∈ lw_all := lw_g (lw_at lw_m1 116 rfl) rfl
theorem q207 : (Jvm.Cond.laysFinal "ReflectMirror$Primitive" "ReflectMirror$Type" "above" "[LReflectMirror$Type;") ∈ lw_all := lw_g (lw_at lw_m1 118 rfl) rfl
theorem q209 : (Jvm.Cond.lays "ReflectMirror$Primitive" "ReflectMirror$Type" "aboveMany" "I") ∈ lw_all := lw_g (lw_at lw_m1 120 rfl) rfl
theorem q211 : (Jvm.Cond.laysFinal "ReflectMirror$Primitive" "ReflectMirror$Type" "has" "[Z") ∈ lw_all := lw_g (lw_at lw_m1 122 rfl) rfl
theorem q213 : (Jvm.Cond.lays "ReflectMirror$Primitive" "ReflectMirror$Type" "rows" "LReflectMirror$Type;") ∈ lw_all := lw_g (lw_at lw_m1 124 rfl) rfl
theorem q215 : (Jvm.Cond.superclass "ReflectMirror$Primitive" "ReflectMirror$Type") ∈ lw_all := lw_g (lw_at lw_m1 126 rfl) rfl
theorem q280 : (Jvm.Cond.selects "ReflectMirror$Primitive" ({ cls := "ReflectMirror$Type", name := "clear", desc := "()V" } : Jvm.MethodName) ({ cls := "ReflectMirror$Type", name := "clear", desc := "()V" } : Jvm.MethodName)) ∈ lw_all := lw_g (lw_at lw_m1 191 rfl) rfl
theorem q288 : (Jvm.Cond.selects "ReflectMirror$Primitive" ({ cls := "ReflectMirror$Type", name := "add", desc := "(LReflectMirror$Type;)V" } : Jvm.MethodName) ({ cls := "ReflectMirror$Type", name := "add", desc := "(LReflectMirror$Type;)V" } : Jvm.MethodName)) ∈ lw_all := lw_g (lw_at lw_m1 199 rfl) rfl
theorem q316 : (Jvm.Cond.selects "ReflectMirror$Primitive" ({ cls := "ReflectMirror$Type", name := "climb", desc := "(LReflectMirror$Type;)V" } : Jvm.MethodName) ({ cls := "ReflectMirror$Type", name := "climb", desc := "(LReflectMirror$Type;)V" } : Jvm.MethodName)) ∈ lw_all := lw_g (lw_at lw_m1 227 rfl) rfl
theorem q388 : (Jvm.Cond.selects "ReflectMirror$Primitive" ({ cls := "ReflectMirror$Type", name := "isClass", desc := "()Z" } : Jvm.MethodName) ({ cls := "ReflectMirror$Type", name := "isClass", desc := "()Z" } : Jvm.MethodName)) ∈ lw_all := lw_g (lw_at lw_m2 59 rfl) rfl
theorem q401 : (Jvm.Cond.selects "ReflectMirror$Primitive" ({ cls := "ReflectMirror$Type", name := "number", desc := "()I" } : Jvm.MethodName) ({ cls := "ReflectMirror$Type", name := "number", desc := "()I" } : Jvm.MethodName)) ∈ lw_all := lw_g (lw_at lw_m2 72 rfl) rfl
theorem q456 : (Jvm.Cond.selects "ReflectMirror$Primitive" ({ cls := "ReflectMirror$Type", name := "declares", desc := "()Z" } : Jvm.MethodName) ({ cls := "ReflectMirror$Type", name := "declares", desc := "()Z" } : Jvm.MethodName)) ∈ lw_all := lw_g (lw_at lw_m2 127 rfl) rfl
theorem q468 : (Jvm.Cond.selects "ReflectMirror$Primitive" ({ cls := "ReflectMirror$Type", name := "what", desc := "()I" } : Jvm.MethodName) ({ cls := "ReflectMirror$Primitive", name := "what", desc := "()I" } : Jvm.MethodName)) ∈ lw_all := lw_g (lw_at lw_m2 139 rfl) rfl
theorem q469 : (Jvm.Cond.instanceMethod ({ cls := "ReflectMirror$Primitive", name := "what", desc := "()I" } : Jvm.MethodName)) ∈ lw_all := lw_g (lw_at lw_m2 140 rfl) rfl
theorem q470 : (Jvm.Cond.code ({ cls := "ReflectMirror$Primitive", name := "what", desc := "()I" } : Jvm.MethodName) prog_20_method_2_code (1 : Nat) (Option.some Jvm.ClassFile.FieldType.int)) ∈ lw_all := lw_g (lw_at lw_m2 141 rfl) rfl
theorem q478 : (Jvm.Cond.unhidden "ReflectMirror$Primitive" "isBehind" "(LReflectMirror$Numbered;)Z") ∈ lw_tbl := lw_at lw_m2 149 rfl
theorem q509 : (Jvm.Cond.castable "ReflectMirror$Primitive" "ReflectMirror$Numbered") ∈ lw_tbl := lw_at lw_m2 180 rfl
theorem q510 : (Jvm.Cond.selects "ReflectMirror$Primitive" ({ cls := "ReflectMirror$Numbered", name := "number", desc := "()I" } : Jvm.MethodName) ({ cls := "ReflectMirror$Type", name := "number", desc := "()I" } : Jvm.MethodName)) ∈ lw_all := lw_g (lw_at lw_m2 181 rfl) rfl
theorem q511 : (Jvm.Cond.unhidden "ReflectMirror$Primitive" "number" "()I") ∈ lw_tbl := lw_at lw_m2 182 rfl
theorem q527 : (Jvm.Cond.selects "ReflectMirror$Primitive" ({ cls := "ReflectMirror$Type", name := "parent", desc := "()LReflectMirror$Type;" } : Jvm.MethodName) ({ cls := "ReflectMirror$Type", name := "parent", desc := "()LReflectMirror$Type;" } : Jvm.MethodName)) ∈ lw_all := lw_g (lw_at lw_m2 198 rfl) rfl
theorem q537 : (Jvm.Cond.selects "ReflectMirror$Primitive" ({ cls := "ReflectMirror$Type", name := "of", desc := "()LReflectMirror$Type;" } : Jvm.MethodName) ({ cls := "ReflectMirror$Type", name := "of", desc := "()LReflectMirror$Type;" } : Jvm.MethodName)) ∈ lw_all := lw_g (lw_at lw_m2 208 rfl) rfl
theorem q547 : (Jvm.Cond.selects "ReflectMirror$Primitive" ({ cls := "ReflectMirror$Type", name := "isReference", desc := "()Z" } : Jvm.MethodName) ({ cls := "ReflectMirror$Primitive", name := "isReference", desc := "()Z" } : Jvm.MethodName)) ∈ lw_all := lw_g (lw_at lw_m2 218 rfl) rfl
theorem q548 : (Jvm.Cond.instanceMethod ({ cls := "ReflectMirror$Primitive", name := "isReference", desc := "()Z" } : Jvm.MethodName)) ∈ lw_all := lw_g (lw_at lw_m2 219 rfl) rfl
theorem q549 : (Jvm.Cond.code ({ cls := "ReflectMirror$Primitive", name := "isReference", desc := "()Z" } : Jvm.MethodName) prog_20_method_3_code (1 : Nat) (Option.some Jvm.ClassFile.FieldType.boolean)) ∈ lw_all := lw_g (lw_at lw_m2 220 rfl) rfl
theorem q562 : (Jvm.Cond.selects "ReflectMirror$Primitive" ({ cls := "ReflectMirror$Type", name := "is", desc := "(LReflectMirror$Type;)Z" } : Jvm.MethodName) ({ cls := "ReflectMirror$Primitive", name := "is", desc := "(LReflectMirror$Type;)Z" } : Jvm.MethodName)) ∈ lw_all := lw_g (lw_at lw_m2 233 rfl) rfl
theorem q563 : (Jvm.Cond.instanceMethod ({ cls := "ReflectMirror$Primitive", name := "is", desc := "(LReflectMirror$Type;)Z" } : Jvm.MethodName)) ∈ lw_all := lw_g (lw_at lw_m2 234 rfl) rfl
theorem q564 : (Jvm.Cond.code ({ cls := "ReflectMirror$Primitive", name := "is", desc := "(LReflectMirror$Type;)Z" } : Jvm.MethodName) prog_20_method_4_code (3 : Nat) (Option.some Jvm.ClassFile.FieldType.boolean)) ∈ lw_all := lw_g (lw_at lw_m2 235 rfl) rfl
theorem q565 : (Jvm.Cond.methodLink "ReflectMirror$Primitive" (7 : Nat) ({ cls := "ReflectMirror$Type", name := "number", desc := "()I" } : Jvm.MethodName)) ∈ lw_all := lw_g (lw_at lw_m2 236 rfl) rfl
theorem q566 : (Jvm.Cond.methodLink "ReflectMirror$Primitive" (11 : Nat) ({ cls := "ReflectMirror$Type", name := "is", desc := "(LReflectMirror$Type;)Z" } : Jvm.MethodName)) ∈ lw_all := lw_g (lw_at lw_m2 237 rfl) rfl
theorem q568 : (Jvm.Cond.methodLink "ReflectMirror$Primitive" (15 : Nat) ({ cls := "ReflectMirror$Type", name := "isReference", desc := "()Z" } : Jvm.MethodName)) ∈ lw_all := lw_g (lw_at lw_m2 239 rfl) rfl
theorem q569 : (Jvm.Cond.methodLink "ReflectMirror$Primitive" (19 : Nat) ({ cls := "ReflectMirror$Primitive", name := "number", desc := "()I" } : Jvm.MethodName)) ∈ lw_all := lw_g (lw_at lw_m3 0 rfl) rfl
theorem q570 : (Jvm.Cond.sameMethod "ReflectMirror$Primitive" "ReflectMirror$Type" "number" "()I") ∈ lw_all := lw_g (lw_at lw_m3 1 rfl) rfl
theorem q572 : (Jvm.Cond.selects "ReflectMirror$Primitive" ({ cls := "ReflectMirror$Primitive", name := "number", desc := "()I" } : Jvm.MethodName) ({ cls := "ReflectMirror$Type", name := "number", desc := "()I" } : Jvm.MethodName)) ∈ lw_all := lw_g (lw_at lw_m3 3 rfl) rfl
theorem q728 : (Jvm.Cond.selects "ReflectMirror$Primitive" ({ cls := "ReflectMirror$Type", name := "row", desc := "(I)Ljava/lang/Object;" } : Jvm.MethodName) ({ cls := "ReflectMirror$Primitive", name := "row", desc := "(I)Ljava/lang/Object;" } : Jvm.MethodName)) ∈ lw_all := lw_g (lw_at lw_m3 159 rfl) rfl
theorem q729 : (Jvm.Cond.instanceMethod ({ cls := "ReflectMirror$Primitive", name := "row", desc := "(I)Ljava/lang/Object;" } : Jvm.MethodName)) ∈ lw_all := lw_g (lw_at lw_m3 160 rfl) rfl
theorem q730 : (Jvm.Cond.code ({ cls := "ReflectMirror$Primitive", name := "row", desc := "(I)Ljava/lang/Object;" } : Jvm.MethodName) prog_20_method_5_code (2 : Nat) (Option.some (Jvm.ClassFile.FieldType.object "java/lang/Object"))) ∈ lw_all := lw_g (lw_at lw_m3 161 rfl) rfl
theorem q2592 : (Jvm.Cond.castable "ReflectMirror$Primitive" "java/lang/Object") ∈ lw_tbl := lw_at lw_m11 103 rfl
theorem q2630 : (Jvm.Cond.castable "ReflectMirror$Primitive" "ReflectMirror$Type") ∈ lw_tbl := lw_at lw_m11 141 rfl
theorem in_X3 : ∀ w ∈ wsX30, w ∈ lw_all := lw_in wsX30 [199, 201, 203, 205, 207, 209, 211, 213] (by decide +kernel) (by decide +kernel)

/-! ReflectMirror$Face -/
set_option maxRecDepth 100000
def RX4 : String := "ReflectMirror$Face"
def TX4 : u_T := fun k => match k with
  | 0 => ("ReflectMirror$Type", "number", "I", true)
  | 1 => ("ReflectMirror$Type", "pack", "I", true)
  | 2 => ("ReflectMirror$Type", "faces", "[LReflectMirror$Type;", true)
  | 3 => ("ReflectMirror$Type", "faceMany", "I", false)
  | 4 => ("ReflectMirror$Type", "above", "[LReflectMirror$Type;", true)
  | 5 => ("ReflectMirror$Type", "aboveMany", "I", false)
  | 6 => ("ReflectMirror$Type", "has", "[Z", true)
  | _ => ("ReflectMirror$Type", "rows", "LReflectMirror$Type;", false)
def tyX4 : Nat → FieldType := fun k => match k with
  | 0 => .int
  | 1 => .int
  | 2 => .array (.object "ReflectMirror$Type")
  | 3 => .int
  | 4 => .array (.object "ReflectMirror$Type")
  | 5 => .int
  | 6 => .array .boolean
  | _ => .object "ReflectMirror$Type"
abbrev wsX40 : List Cond := u_ws RX4 TX4 8
theorem nmX4 : ∀ a, a < 8 → ∀ b, b < 8 → a ≠ b → (TX4 a).2.1 ≠ (TX4 b).2.1 := by decide +kernel
theorem tyX4_ok : ∀ k, k < 8 → parseFieldDescriptor (TX4 k).2.2.1 = some (tyX4 k) := by decide +kernel
abbrev cX4_init : ByteArray := prog_7_method_1_code
def yX4_init : MethodName := ⟨RX4, "<init>", "(II)V"⟩
def dkwX4_init_0 : List UInt8 := [42, 27, 28, 183, 0, 1, 177]
abbrev dktX4_init_0 : List UInt8 := dkwX4_init_0 ++ []
theorem dksX4_init_0 : cX4_init.data.toList.drop 0 = dktX4_init_0 := by decide +kernel
theorem dX4_init_0 : decode cX4_init 0 = .ok (.aload_n 0, 1) := dk_42 (dk_at dksX4_init_0 0 rfl rfl)
theorem dX4_init_1 : decode cX4_init 1 = .ok (.iload_n 1, 1) := dk_27 (dk_at dksX4_init_0 1 rfl rfl)
theorem dX4_init_2 : decode cX4_init 2 = .ok (.iload_n 2, 1) := dk_28 (dk_at dksX4_init_0 2 rfl rfl)
theorem dX4_init_3 : decode cX4_init 3 = .ok (.invokespecial 1, 3) := dk_183 0 1 (dk_at dksX4_init_0 3 rfl rfl)
theorem dX4_init_6 : decode cX4_init 6 = .ok (.return_, 1) := dk_177 (dk_at dksX4_init_0 6 rfl rfl)
abbrev cX4_climb : ByteArray := prog_7_method_4_code
def yX4_climb : MethodName := ⟨RX4, "climb", "(LReflectMirror$Type;)V"⟩
def dkwX4_climb_1 : List UInt8 := [182, 0, 21, 132, 2, 1, 167, 255, 234, 42, 43, 182, 0, 25, 177]
abbrev dktX4_climb_1 : List UInt8 := dkwX4_climb_1 ++ []
def dkwX4_climb_0 : List UInt8 := [42, 43, 183, 0, 7, 3, 61, 28, 42, 180, 0, 11, 162, 0, 20, 42, 42, 180, 0, 17, 28, 50, 43]
abbrev dktX4_climb_0 : List UInt8 := dkwX4_climb_0 ++ dktX4_climb_1
theorem dksX4_climb_0 : cX4_climb.data.toList.drop 0 = dktX4_climb_0 := by decide +kernel
theorem dksX4_climb_1 : cX4_climb.data.toList.drop 23 = dktX4_climb_1 := dk_seg dksX4_climb_0 23 rfl rfl
theorem dX4_climb_0 : decode cX4_climb 0 = .ok (.aload_n 0, 1) := dk_42 (dk_at dksX4_climb_0 0 rfl rfl)
theorem dX4_climb_1 : decode cX4_climb 1 = .ok (.aload_n 1, 1) := dk_43 (dk_at dksX4_climb_0 1 rfl rfl)
theorem dX4_climb_2 : decode cX4_climb 2 = .ok (.invokespecial 7, 3) := dk_183 0 7 (dk_at dksX4_climb_0 2 rfl rfl)
theorem dX4_climb_5 : decode cX4_climb 5 = .ok (.iconst 0, 1) := dk_3 (dk_at dksX4_climb_0 5 rfl rfl)
theorem dX4_climb_6 : decode cX4_climb 6 = .ok (.istore_n 2, 1) := dk_61 (dk_at dksX4_climb_0 6 rfl rfl)
theorem dX4_climb_7 : decode cX4_climb 7 = .ok (.iload_n 2, 1) := dk_28 (dk_at dksX4_climb_0 7 rfl rfl)
theorem dX4_climb_8 : decode cX4_climb 8 = .ok (.aload_n 0, 1) := dk_42 (dk_at dksX4_climb_0 8 rfl rfl)
theorem dX4_climb_9 : decode cX4_climb 9 = .ok (.getfield 11, 3) := dk_180 0 11 (dk_at dksX4_climb_0 9 rfl rfl)
theorem dX4_climb_12 : decode cX4_climb 12 = .ok (.if_icmp .ge 20, 3) := dk_162 0 20 (dk_at dksX4_climb_0 12 rfl rfl)
theorem dX4_climb_15 : decode cX4_climb 15 = .ok (.aload_n 0, 1) := dk_42 (dk_at dksX4_climb_0 15 rfl rfl)
theorem dX4_climb_16 : decode cX4_climb 16 = .ok (.aload_n 0, 1) := dk_42 (dk_at dksX4_climb_0 16 rfl rfl)
theorem dX4_climb_17 : decode cX4_climb 17 = .ok (.getfield 17, 3) := dk_180 0 17 (dk_at dksX4_climb_0 17 rfl rfl)
theorem dX4_climb_20 : decode cX4_climb 20 = .ok (.iload_n 2, 1) := dk_28 (dk_at dksX4_climb_0 20 rfl rfl)
theorem dX4_climb_21 : decode cX4_climb 21 = .ok (.aaload, 1) := dk_50 (dk_at dksX4_climb_0 21 rfl rfl)
theorem dX4_climb_22 : decode cX4_climb 22 = .ok (.aload_n 1, 1) := dk_43 (dk_at dksX4_climb_0 22 rfl rfl)
theorem dX4_climb_23 : decode cX4_climb 23 = .ok (.invokevirtual 21, 3) := dk_182 0 21 (dk_at dksX4_climb_1 0 rfl rfl)
theorem dX4_climb_26 : decode cX4_climb 26 = .ok (.iinc 2 1, 3) := dk_132 2 1 (dk_at dksX4_climb_1 3 rfl rfl)
theorem dX4_climb_29 : decode cX4_climb 29 = .ok (.goto (-22), 3) := dk_167 255 234 (dk_at dksX4_climb_1 6 rfl rfl)
theorem dX4_climb_32 : decode cX4_climb 32 = .ok (.aload_n 0, 1) := dk_42 (dk_at dksX4_climb_1 9 rfl rfl)
theorem dX4_climb_33 : decode cX4_climb 33 = .ok (.aload_n 1, 1) := dk_43 (dk_at dksX4_climb_1 10 rfl rfl)
theorem dX4_climb_34 : decode cX4_climb 34 = .ok (.invokevirtual 25, 3) := dk_182 0 25 (dk_at dksX4_climb_1 11 rfl rfl)
theorem dX4_climb_37 : decode cX4_climb 37 = .ok (.return_, 1) := dk_177 (dk_at dksX4_climb_1 14 rfl rfl)
abbrev cX4_declares : ByteArray := prog_7_method_3_code
def yX4_declares : MethodName := ⟨RX4, "declares", "()Z"⟩
theorem dX4_declares_0 : decode cX4_declares 0 = .ok (.iconst 1, 1) := by decide +kernel
theorem dX4_declares_1 : decode cX4_declares 1 = .ok (.ireturn, 1) := by decide +kernel
abbrev cX4_what : ByteArray := prog_7_method_2_code
def yX4_what : MethodName := ⟨RX4, "what", "()I"⟩
theorem dX4_what_0 : decode cX4_what 0 = .ok (.iconst 3, 1) := by decide +kernel
theorem dX4_what_1 : decode cX4_what 1 = .ok (.ireturn, 1) := by decide +kernel
abbrev cX4_row : ByteArray := prog_7_method_5_code
def yX4_row : MethodName := ⟨RX4, "row", "(I)Ljava/lang/Object;"⟩
theorem dX4_row_0 : decode cX4_row 0 = .ok (.iload_n 1, 1) := by decide +kernel
theorem dX4_row_1 : decode cX4_row 1 = .ok (.anewarray 28, 3) := by decide +kernel
theorem dX4_row_4 : decode cX4_row 4 = .ok (.areturn, 1) := by decide +kernel
theorem q94 : (Jvm.Cond.initialized "ReflectMirror$Face") ∈ lw_all := lw_g (lw_at lw_m1 5 rfl) rfl
theorem q181 : (Jvm.Cond.fieldLink "ReflectMirror$Face" (17 : Nat) "ReflectMirror$Face" "faces" "[LReflectMirror$Type;") ∈ lw_all := lw_g (lw_at lw_m1 92 rfl) rfl
theorem q182 : (Jvm.Cond.sameField "ReflectMirror$Face" "ReflectMirror$Type" "faces" "[LReflectMirror$Type;") ∈ lw_all := lw_g (lw_at lw_m1 93 rfl) rfl
theorem q188 : (Jvm.Cond.fieldLink "ReflectMirror$Face" (11 : Nat) "ReflectMirror$Face" "faceMany" "I") ∈ lw_all := lw_g (lw_at lw_m1 99 rfl) rfl
theorem q189 : (Jvm.Cond.sameField "ReflectMirror$Face" "ReflectMirror$Type" "faceMany" "I") ∈ lw_all := lw_g (lw_at lw_m1 100 rfl) rfl
theorem q223 : (Jvm.Cond.instanceMethod ({ cls := "ReflectMirror$Face", name := "<init>", desc := "(II)V" } : Jvm.MethodName)) ∈ lw_all := lw_g (lw_at lw_m1 134 rfl) rfl
theorem q224 : (Jvm.Cond.code ({ cls := "ReflectMirror$Face", name := "<init>", desc := "(II)V" } : Jvm.MethodName) prog_7_method_1_code (3 : Nat) (Option.none : Option Jvm.ClassFile.FieldType)) ∈ lw_all := lw_g (lw_at lw_m1 135 rfl) rfl
theorem q225 : (Jvm.Cond.methodLink "ReflectMirror$Face" (1 : Nat) ({ cls := "ReflectMirror$Type", name := "<init>", desc := "(II)V" } : Jvm.MethodName)) ∈ lw_all := lw_g (lw_at lw_m1 136 rfl) rfl
theorem q269 : (Jvm.Cond.selects "ReflectMirror$Face" ({ cls := "ReflectMirror$Type", name := "climb", desc := "(LReflectMirror$Type;)V" } : Jvm.MethodName) ({ cls := "ReflectMirror$Face", name := "climb", desc := "(LReflectMirror$Type;)V" } : Jvm.MethodName)) ∈ lw_all := lw_g (lw_at lw_m1 180 rfl) rfl
theorem q270 : (Jvm.Cond.instanceMethod ({ cls := "ReflectMirror$Face", name := "climb", desc := "(LReflectMirror$Type;)V" } : Jvm.MethodName)) ∈ lw_all := lw_g (lw_at lw_m1 181 rfl) rfl
theorem q271 : (Jvm.Cond.code ({ cls := "ReflectMirror$Face", name := "climb", desc := "(LReflectMirror$Type;)V" } : Jvm.MethodName) prog_7_method_4_code (3 : Nat) (Option.none : Option Jvm.ClassFile.FieldType)) ∈ lw_all := lw_g (lw_at lw_m1 182 rfl) rfl
theorem q272 : (Jvm.Cond.methodLink "ReflectMirror$Face" (7 : Nat) ({ cls := "ReflectMirror$Type", name := "climb", desc := "(LReflectMirror$Type;)V" } : Jvm.MethodName)) ∈ lw_all := lw_g (lw_at lw_m1 183 rfl) rfl
theorem q273 : (Jvm.Cond.superclass "ReflectMirror$Face" "ReflectMirror$Type") ∈ lw_all := lw_g (lw_at lw_m1 184 rfl) rfl
theorem q278 : (Jvm.Cond.selects "ReflectMirror$Face" ({ cls := "ReflectMirror$Type", name := "clear", desc := "()V" } : Jvm.MethodName) ({ cls := "ReflectMirror$Type", name := "clear", desc := "()V" } : Jvm.MethodName)) ∈ lw_all := lw_g (lw_at lw_m1 189 rfl) rfl
theorem q286 : (Jvm.Cond.selects "ReflectMirror$Face" ({ cls := "ReflectMirror$Type", name := "add", desc := "(LReflectMirror$Type;)V" } : Jvm.MethodName) ({ cls := "ReflectMirror$Type", name := "add", desc := "(LReflectMirror$Type;)V" } : Jvm.MethodName)) ∈ lw_all := lw_g (lw_at lw_m1 197 rfl) rfl
theorem q291 : (Jvm.Cond.methodLink "ReflectMirror$Face" (21 : Nat) ({ cls := "ReflectMirror$Face", name := "addAll", desc := "(LReflectMirror$Type;LReflectMirror$Type;)V" } : Jvm.MethodName)) ∈ lw_all := lw_g (lw_at lw_m1 202 rfl) rfl
theorem q292 : (Jvm.Cond.sameMethod "ReflectMirror$Face" "ReflectMirror$Type" "addAll" "(LReflectMirror$Type;LReflectMirror$Type;)V") ∈ lw_all := lw_g (lw_at lw_m1 203 rfl) rfl
theorem q294 : (Jvm.Cond.selects "ReflectMirror$Face" ({ cls := "ReflectMirror$Face", name := "addAll", desc := "(LReflectMirror$Type;LReflectMirror$Type;)V" } : Jvm.MethodName) ({ cls := "ReflectMirror$Type", name := "addAll", desc := "(LReflectMirror$Type;LReflectMirror$Type;)V" } : Jvm.MethodName)) ∈ lw_all := lw_g (lw_at lw_m1 205 rfl) rfl
theorem q298 : (Jvm.Cond.methodLink "ReflectMirror$Face" (25 : Nat) ({ cls := "ReflectMirror$Face", name := "add", desc := "(LReflectMirror$Type;)V" } : Jvm.MethodName)) ∈ lw_all := lw_g (lw_at lw_m1 209 rfl) rfl
theorem q299 : (Jvm.Cond.sameMethod "ReflectMirror$Face" "ReflectMirror$Type" "add" "(LReflectMirror$Type;)V") ∈ lw_all := lw_g (lw_at lw_m1 210 rfl) rfl
theorem q301 : (Jvm.Cond.selects "ReflectMirror$Face" ({ cls := "ReflectMirror$Face", name := "add", desc := "(LReflectMirror$Type;)V" } : Jvm.MethodName) ({ cls := "ReflectMirror$Type", name := "add", desc := "(LReflectMirror$Type;)V" } : Jvm.MethodName)) ∈ lw_all := lw_g (lw_at lw_m1 212 rfl) rfl
theorem q384 : (Jvm.Cond.selects "ReflectMirror$Face" ({ cls := "ReflectMirror$Type", name := "isClass", desc := "()Z" } : Jvm.MethodName) ({ cls := "ReflectMirror$Type", name := "isClass", desc := "()Z" } : Jvm.MethodName)) ∈ lw_all := lw_g (lw_at lw_m2 55 rfl) rfl
theorem q399 : (Jvm.Cond.selects "ReflectMirror$Face" ({ cls := "ReflectMirror$Type", name := "number", desc := "()I" } : Jvm.MethodName) ({ cls := "ReflectMirror$Type", name := "number", desc := "()I" } : Jvm.MethodName)) ∈ lw_all := lw_g (lw_at lw_m2 70 rfl) rfl
theorem q409 : (Jvm.Cond.instantiable "ReflectMirror$Face" (8 : Nat)) ∈ lw_all := lw_g (lw_at lw_m2 80 rfl) rfl
theorem q411 : (Jvm.Cond.laysFinal "ReflectMirror$Face" "ReflectMirror$Type" "number" "I") ∈ lw_all := lw_g (lw_at lw_m2 82 rfl) rfl
theorem q412 : (Jvm.Cond.laysFinal "ReflectMirror$Face" "ReflectMirror$Type" "pack" "I") ∈ lw_all := lw_g (lw_at lw_m2 83 rfl) rfl
theorem q413 : (Jvm.Cond.laysFinal "ReflectMirror$Face" "ReflectMirror$Type" "faces" "[LReflectMirror$Type;") ∈ lw_all := lw_g (lw_at lw_m2 84 rfl) rfl
theorem q414 : (Jvm.Cond.lays "ReflectMirror$Face" "ReflectMirror$Type" "faceMany" "I") ∈ lw_all := lw_g (lw_at lw_m2 85 rfl) rfl
theorem q415 : (Jvm.Cond.laysFinal "ReflectMirror$Face" "ReflectMirror$Type" "above" "[LReflectMirror$Type;") ∈ lw_all := lw_g (lw_at lw_m2 86 rfl) rfl
theorem q416 : (Jvm.Cond.lays "ReflectMirror$Face" "ReflectMirror$Type" "aboveMany" "I") ∈ lw_all := lw_g (lw_at lw_m2 87 rfl) rfl
theorem q417 : (Jvm.Cond.laysFinal "ReflectMirror$Face" "ReflectMirror$Type" "has" "[Z") ∈ lw_all := lw_g (lw_at lw_m2 88 rfl) rfl
theorem q418 : (Jvm.Cond.lays "ReflectMirror$Face" "ReflectMirror$Type" "rows" "LReflectMirror$Type;") ∈ lw_all := lw_g (lw_at lw_m2 89 rfl) rfl
theorem q450 : (Jvm.Cond.selects "ReflectMirror$Face" ({ cls := "ReflectMirror$Type", name := "declares", desc := "()Z" } : Jvm.MethodName) ({ cls := "ReflectMirror$Face", name := "declares", desc := "()Z" } : Jvm.MethodName)) ∈ lw_all := lw_g (lw_at lw_m2 121 rfl) rfl
theorem q451 : (Jvm.Cond.instanceMethod ({ cls := "ReflectMirror$Face", name := "declares", desc := "()Z" } : Jvm.MethodName)) ∈ lw_all := lw_g (lw_at lw_m2 122 rfl) rfl
theorem q452 : (Jvm.Cond.code ({ cls := "ReflectMirror$Face", name := "declares", desc := "()Z" } : Jvm.MethodName) prog_7_method_3_code (1 : Nat) (Option.some Jvm.ClassFile.FieldType.boolean)) ∈ lw_all := lw_g (lw_at lw_m2 123 rfl) rfl
theorem q462 : (Jvm.Cond.selects "ReflectMirror$Face" ({ cls := "ReflectMirror$Type", name := "what", desc := "()I" } : Jvm.MethodName) ({ cls := "ReflectMirror$Face", name := "what", desc := "()I" } : Jvm.MethodName)) ∈ lw_all := lw_g (lw_at lw_m2 133 rfl) rfl
theorem q463 : (Jvm.Cond.instanceMethod ({ cls := "ReflectMirror$Face", name := "what", desc := "()I" } : Jvm.MethodName)) ∈ lw_all := lw_g (lw_at lw_m2 134 rfl) rfl
theorem q464 : (Jvm.Cond.code ({ cls := "ReflectMirror$Face", name := "what", desc := "()I" } : Jvm.MethodName) prog_7_method_2_code (1 : Nat) (Option.some Jvm.ClassFile.FieldType.int)) ∈ lw_all := lw_g (lw_at lw_m2 135 rfl) rfl
theorem q476 : (Jvm.Cond.unhidden "ReflectMirror$Face" "isBehind" "(LReflectMirror$Numbered;)Z") ∈ lw_tbl := lw_at lw_m2 147 rfl
theorem q487 : (Jvm.Cond.castable "ReflectMirror$Face" "ReflectMirror$Numbered") ∈ lw_tbl := lw_at lw_m2 158 rfl
theorem q488 : (Jvm.Cond.selects "ReflectMirror$Face" ({ cls := "ReflectMirror$Numbered", name := "number", desc := "()I" } : Jvm.MethodName) ({ cls := "ReflectMirror$Type", name := "number", desc := "()I" } : Jvm.MethodName)) ∈ lw_all := lw_g (lw_at lw_m2 159 rfl) rfl
theorem q489 : (Jvm.Cond.unhidden "ReflectMirror$Face" "number" "()I") ∈ lw_tbl := lw_at lw_m2 160 rfl
theorem q523 : (Jvm.Cond.selects "ReflectMirror$Face" ({ cls := "ReflectMirror$Type", name := "parent", desc := "()LReflectMirror$Type;" } : Jvm.MethodName) ({ cls := "ReflectMirror$Type", name := "parent", desc := "()LReflectMirror$Type;" } : Jvm.MethodName)) ∈ lw_all := lw_g (lw_at lw_m2 194 rfl) rfl
theorem q535 : (Jvm.Cond.selects "ReflectMirror$Face" ({ cls := "ReflectMirror$Type", name := "of", desc := "()LReflectMirror$Type;" } : Jvm.MethodName) ({ cls := "ReflectMirror$Type", name := "of", desc := "()LReflectMirror$Type;" } : Jvm.MethodName)) ∈ lw_all := lw_g (lw_at lw_m2 206 rfl) rfl
theorem q545 : (Jvm.Cond.selects "ReflectMirror$Face" ({ cls := "ReflectMirror$Type", name := "isReference", desc := "()Z" } : Jvm.MethodName) ({ cls := "ReflectMirror$Type", name := "isReference", desc := "()Z" } : Jvm.MethodName)) ∈ lw_all := lw_g (lw_at lw_m2 216 rfl) rfl
theorem q560 : (Jvm.Cond.selects "ReflectMirror$Face" ({ cls := "ReflectMirror$Type", name := "is", desc := "(LReflectMirror$Type;)Z" } : Jvm.MethodName) ({ cls := "ReflectMirror$Type", name := "is", desc := "(LReflectMirror$Type;)Z" } : Jvm.MethodName)) ∈ lw_all := lw_g (lw_at lw_m2 231 rfl) rfl
theorem q718 : (Jvm.Cond.selects "ReflectMirror$Face" ({ cls := "ReflectMirror$Type", name := "row", desc := "(I)Ljava/lang/Object;" } : Jvm.MethodName) ({ cls := "ReflectMirror$Face", name := "row", desc := "(I)Ljava/lang/Object;" } : Jvm.MethodName)) ∈ lw_all := lw_g (lw_at lw_m3 149 rfl) rfl
theorem q719 : (Jvm.Cond.instanceMethod ({ cls := "ReflectMirror$Face", name := "row", desc := "(I)Ljava/lang/Object;" } : Jvm.MethodName)) ∈ lw_all := lw_g (lw_at lw_m3 150 rfl) rfl
theorem q720 : (Jvm.Cond.code ({ cls := "ReflectMirror$Face", name := "row", desc := "(I)Ljava/lang/Object;" } : Jvm.MethodName) prog_7_method_5_code (2 : Nat) (Option.some (Jvm.ClassFile.FieldType.object "java/lang/Object"))) ∈ lw_all := lw_g (lw_at lw_m3 151 rfl) rfl
theorem q721 : (Jvm.Cond.classLink "ReflectMirror$Face" (28 : Nat) "ReflectMirror$One") ∈ lw_all := lw_g (lw_at lw_m3 152 rfl) rfl
theorem q2571 : (Jvm.Cond.sameMethod "ReflectMirror$Face" "ReflectMirror$Face" "row" "(I)Ljava/lang/Object;") ∈ lw_all := lw_g (lw_at lw_m11 82 rfl) rfl
theorem q2596 : (Jvm.Cond.castable "ReflectMirror$Face" "java/lang/Object") ∈ lw_tbl := lw_at lw_m11 107 rfl
theorem q2632 : (Jvm.Cond.castable "ReflectMirror$Face" "ReflectMirror$Type") ∈ lw_tbl := lw_at lw_m11 143 rfl
theorem in_X4 : ∀ w ∈ wsX40, w ∈ lw_all := lw_in wsX40 [411, 412, 413, 414, 415, 416, 417, 418] (by decide +kernel) (by decide +kernel)

/-! ReflectMirror$Plain -/
set_option maxRecDepth 100000
def RX5 : String := "ReflectMirror$Plain"
def TX5 : u_T := fun k => match k with
  | 0 => ("ReflectMirror$Type", "number", "I", true)
  | 1 => ("ReflectMirror$Type", "pack", "I", true)
  | 2 => ("ReflectMirror$Type", "faces", "[LReflectMirror$Type;", true)
  | 3 => ("ReflectMirror$Type", "faceMany", "I", false)
  | 4 => ("ReflectMirror$Type", "above", "[LReflectMirror$Type;", true)
  | 5 => ("ReflectMirror$Type", "aboveMany", "I", false)
  | 6 => ("ReflectMirror$Type", "has", "[Z", true)
  | 7 => ("ReflectMirror$Type", "rows", "LReflectMirror$Type;", false)
  | 8 => ("ReflectMirror$Plain", "parent", "LReflectMirror$Type;", true)
  | _ => ("ReflectMirror$Plain", "isAbstract", "Z", true)
def tyX5 : Nat → FieldType := fun k => match k with
  | 0 => .int
  | 1 => .int
  | 2 => .array (.object "ReflectMirror$Type")
  | 3 => .int
  | 4 => .array (.object "ReflectMirror$Type")
  | 5 => .int
  | 6 => .array .boolean
  | 7 => .object "ReflectMirror$Type"
  | 8 => .object "ReflectMirror$Type"
  | _ => .boolean
abbrev wsX50 : List Cond := u_ws RX5 TX5 10
theorem nmX5 : ∀ a, a < 10 → ∀ b, b < 10 → a ≠ b → (TX5 a).2.1 ≠ (TX5 b).2.1 := by decide +kernel
theorem tyX5_ok : ∀ k, k < 10 → parseFieldDescriptor (TX5 k).2.2.1 = some (tyX5 k) := by decide +kernel
abbrev cX5_init : ByteArray := prog_18_method_1_code
def yX5_init : MethodName := ⟨RX5, "<init>", "(IILReflectMirror$Type;Z)V"⟩
def dkwX5_init_0 : List UInt8 := [42, 27, 28, 183, 0, 1, 42, 45, 181, 0, 7, 42, 21, 4, 181, 0, 13, 177]
abbrev dktX5_init_0 : List UInt8 := dkwX5_init_0 ++ []
theorem dksX5_init_0 : cX5_init.data.toList.drop 0 = dktX5_init_0 := by decide +kernel
theorem dX5_init_0 : decode cX5_init 0 = .ok (.aload_n 0, 1) := dk_42 (dk_at dksX5_init_0 0 rfl rfl)
theorem dX5_init_1 : decode cX5_init 1 = .ok (.iload_n 1, 1) := dk_27 (dk_at dksX5_init_0 1 rfl rfl)
theorem dX5_init_2 : decode cX5_init 2 = .ok (.iload_n 2, 1) := dk_28 (dk_at dksX5_init_0 2 rfl rfl)
theorem dX5_init_3 : decode cX5_init 3 = .ok (.invokespecial 1, 3) := dk_183 0 1 (dk_at dksX5_init_0 3 rfl rfl)
theorem dX5_init_6 : decode cX5_init 6 = .ok (.aload_n 0, 1) := dk_42 (dk_at dksX5_init_0 6 rfl rfl)
theorem dX5_init_7 : decode cX5_init 7 = .ok (.aload_n 3, 1) := dk_45 (dk_at dksX5_init_0 7 rfl rfl)
theorem dX5_init_8 : decode cX5_init 8 = .ok (.putfield 7, 3) := dk_181 0 7 (dk_at dksX5_init_0 8 rfl rfl)
theorem dX5_init_11 : decode cX5_init 11 = .ok (.aload_n 0, 1) := dk_42 (dk_at dksX5_init_0 11 rfl rfl)
theorem dX5_init_12 : decode cX5_init 12 = .ok (.iload 4, 2) := dk_21 4 (dk_at dksX5_init_0 12 rfl rfl)
theorem dX5_init_14 : decode cX5_init 14 = .ok (.putfield 13, 3) := dk_181 0 13 (dk_at dksX5_init_0 14 rfl rfl)
theorem dX5_init_17 : decode cX5_init 17 = .ok (.return_, 1) := dk_177 (dk_at dksX5_init_0 17 rfl rfl)
abbrev cX5_climb : ByteArray := prog_18_method_6_code
def yX5_climb : MethodName := ⟨RX5, "climb", "(LReflectMirror$Type;)V"⟩
def dkwX5_climb_2 : List UInt8 := [132, 2, 1, 167, 255, 234, 177]
abbrev dktX5_climb_2 : List UInt8 := dkwX5_climb_2 ++ []
def dkwX5_climb_1 : List UInt8 := [182, 0, 25, 3, 61, 28, 42, 180, 0, 29, 162, 0, 20, 42, 42, 180, 0, 33, 28, 50, 1, 182, 0, 25]
abbrev dktX5_climb_1 : List UInt8 := dkwX5_climb_1 ++ dktX5_climb_2
def dkwX5_climb_0 : List UInt8 := [42, 182, 0, 17, 42, 42, 182, 0, 21, 42, 180, 0, 7, 198, 0, 12, 42, 42, 180, 0, 7, 1]
abbrev dktX5_climb_0 : List UInt8 := dkwX5_climb_0 ++ dktX5_climb_1
theorem dksX5_climb_0 : cX5_climb.data.toList.drop 0 = dktX5_climb_0 := by decide +kernel
theorem dksX5_climb_1 : cX5_climb.data.toList.drop 22 = dktX5_climb_1 := dk_seg dksX5_climb_0 22 rfl rfl
theorem dksX5_climb_2 : cX5_climb.data.toList.drop 46 = dktX5_climb_2 := dk_seg dksX5_climb_1 24 rfl rfl
theorem dX5_climb_0 : decode cX5_climb 0 = .ok (.aload_n 0, 1) := dk_42 (dk_at dksX5_climb_0 0 rfl rfl)
theorem dX5_climb_1 : decode cX5_climb 1 = .ok (.invokevirtual 17, 3) := dk_182 0 17 (dk_at dksX5_climb_0 1 rfl rfl)
theorem dX5_climb_4 : decode cX5_climb 4 = .ok (.aload_n 0, 1) := dk_42 (dk_at dksX5_climb_0 4 rfl rfl)
theorem dX5_climb_5 : decode cX5_climb 5 = .ok (.aload_n 0, 1) := dk_42 (dk_at dksX5_climb_0 5 rfl rfl)
theorem dX5_climb_6 : decode cX5_climb 6 = .ok (.invokevirtual 21, 3) := dk_182 0 21 (dk_at dksX5_climb_0 6 rfl rfl)
theorem dX5_climb_9 : decode cX5_climb 9 = .ok (.aload_n 0, 1) := dk_42 (dk_at dksX5_climb_0 9 rfl rfl)
theorem dX5_climb_10 : decode cX5_climb 10 = .ok (.getfield 7, 3) := dk_180 0 7 (dk_at dksX5_climb_0 10 rfl rfl)
theorem dX5_climb_13 : decode cX5_climb 13 = .ok (.ifnull 12, 3) := dk_198 0 12 (dk_at dksX5_climb_0 13 rfl rfl)
theorem dX5_climb_16 : decode cX5_climb 16 = .ok (.aload_n 0, 1) := dk_42 (dk_at dksX5_climb_0 16 rfl rfl)
theorem dX5_climb_17 : decode cX5_climb 17 = .ok (.aload_n 0, 1) := dk_42 (dk_at dksX5_climb_0 17 rfl rfl)
theorem dX5_climb_18 : decode cX5_climb 18 = .ok (.getfield 7, 3) := dk_180 0 7 (dk_at dksX5_climb_0 18 rfl rfl)
theorem dX5_climb_21 : decode cX5_climb 21 = .ok (.aconst_null, 1) := dk_1 (dk_at dksX5_climb_0 21 rfl rfl)
theorem dX5_climb_22 : decode cX5_climb 22 = .ok (.invokevirtual 25, 3) := dk_182 0 25 (dk_at dksX5_climb_1 0 rfl rfl)
theorem dX5_climb_25 : decode cX5_climb 25 = .ok (.iconst 0, 1) := dk_3 (dk_at dksX5_climb_1 3 rfl rfl)
theorem dX5_climb_26 : decode cX5_climb 26 = .ok (.istore_n 2, 1) := dk_61 (dk_at dksX5_climb_1 4 rfl rfl)
theorem dX5_climb_27 : decode cX5_climb 27 = .ok (.iload_n 2, 1) := dk_28 (dk_at dksX5_climb_1 5 rfl rfl)
theorem dX5_climb_28 : decode cX5_climb 28 = .ok (.aload_n 0, 1) := dk_42 (dk_at dksX5_climb_1 6 rfl rfl)
theorem dX5_climb_29 : decode cX5_climb 29 = .ok (.getfield 29, 3) := dk_180 0 29 (dk_at dksX5_climb_1 7 rfl rfl)
theorem dX5_climb_32 : decode cX5_climb 32 = .ok (.if_icmp .ge 20, 3) := dk_162 0 20 (dk_at dksX5_climb_1 10 rfl rfl)
theorem dX5_climb_35 : decode cX5_climb 35 = .ok (.aload_n 0, 1) := dk_42 (dk_at dksX5_climb_1 13 rfl rfl)
theorem dX5_climb_36 : decode cX5_climb 36 = .ok (.aload_n 0, 1) := dk_42 (dk_at dksX5_climb_1 14 rfl rfl)
theorem dX5_climb_37 : decode cX5_climb 37 = .ok (.getfield 33, 3) := dk_180 0 33 (dk_at dksX5_climb_1 15 rfl rfl)
theorem dX5_climb_40 : decode cX5_climb 40 = .ok (.iload_n 2, 1) := dk_28 (dk_at dksX5_climb_1 18 rfl rfl)
theorem dX5_climb_41 : decode cX5_climb 41 = .ok (.aaload, 1) := dk_50 (dk_at dksX5_climb_1 19 rfl rfl)
theorem dX5_climb_42 : decode cX5_climb 42 = .ok (.aconst_null, 1) := dk_1 (dk_at dksX5_climb_1 20 rfl rfl)
theorem dX5_climb_43 : decode cX5_climb 43 = .ok (.invokevirtual 25, 3) := dk_182 0 25 (dk_at dksX5_climb_1 21 rfl rfl)
theorem dX5_climb_46 : decode cX5_climb 46 = .ok (.iinc 2 1, 3) := dk_132 2 1 (dk_at dksX5_climb_2 0 rfl rfl)
theorem dX5_climb_49 : decode cX5_climb 49 = .ok (.goto (-22), 3) := dk_167 255 234 (dk_at dksX5_climb_2 3 rfl rfl)
theorem dX5_climb_52 : decode cX5_climb 52 = .ok (.return_, 1) := dk_177 (dk_at dksX5_climb_2 6 rfl rfl)
abbrev cX5_isClass : ByteArray := prog_18_method_4_code
def yX5_isClass : MethodName := ⟨RX5, "isClass", "()Z"⟩
theorem dX5_isClass_0 : decode cX5_isClass 0 = .ok (.iconst 1, 1) := by decide +kernel
theorem dX5_isClass_1 : decode cX5_isClass 1 = .ok (.ireturn, 1) := by decide +kernel
abbrev cX5_declares : ByteArray := prog_18_method_5_code
def yX5_declares : MethodName := ⟨RX5, "declares", "()Z"⟩
def dkwX5_declares_0 : List UInt8 := [42, 180, 0, 7, 198, 0, 7, 4, 167, 0, 4, 3, 172]
abbrev dktX5_declares_0 : List UInt8 := dkwX5_declares_0 ++ []
theorem dksX5_declares_0 : cX5_declares.data.toList.drop 0 = dktX5_declares_0 := by decide +kernel
theorem dX5_declares_0 : decode cX5_declares 0 = .ok (.aload_n 0, 1) := dk_42 (dk_at dksX5_declares_0 0 rfl rfl)
theorem dX5_declares_1 : decode cX5_declares 1 = .ok (.getfield 7, 3) := dk_180 0 7 (dk_at dksX5_declares_0 1 rfl rfl)
theorem dX5_declares_4 : decode cX5_declares 4 = .ok (.ifnull 7, 3) := dk_198 0 7 (dk_at dksX5_declares_0 4 rfl rfl)
theorem dX5_declares_7 : decode cX5_declares 7 = .ok (.iconst 1, 1) := dk_4 (dk_at dksX5_declares_0 7 rfl rfl)
theorem dX5_declares_8 : decode cX5_declares 8 = .ok (.goto 4, 3) := dk_167 0 4 (dk_at dksX5_declares_0 8 rfl rfl)
theorem dX5_declares_11 : decode cX5_declares 11 = .ok (.iconst 0, 1) := dk_3 (dk_at dksX5_declares_0 11 rfl rfl)
theorem dX5_declares_12 : decode cX5_declares 12 = .ok (.ireturn, 1) := dk_172 (dk_at dksX5_declares_0 12 rfl rfl)
abbrev cX5_what : ByteArray := prog_18_method_2_code
def yX5_what : MethodName := ⟨RX5, "what", "()I"⟩
def dkwX5_what_0 : List UInt8 := [42, 180, 0, 13, 153, 0, 7, 5, 167, 0, 4, 4, 172]
abbrev dktX5_what_0 : List UInt8 := dkwX5_what_0 ++ []
theorem dksX5_what_0 : cX5_what.data.toList.drop 0 = dktX5_what_0 := by decide +kernel
theorem dX5_what_0 : decode cX5_what 0 = .ok (.aload_n 0, 1) := dk_42 (dk_at dksX5_what_0 0 rfl rfl)
theorem dX5_what_1 : decode cX5_what 1 = .ok (.getfield 13, 3) := dk_180 0 13 (dk_at dksX5_what_0 1 rfl rfl)
theorem dX5_what_4 : decode cX5_what 4 = .ok (.ifCond .eq 7, 3) := dk_153 0 7 (dk_at dksX5_what_0 4 rfl rfl)
theorem dX5_what_7 : decode cX5_what 7 = .ok (.iconst 2, 1) := dk_5 (dk_at dksX5_what_0 7 rfl rfl)
theorem dX5_what_8 : decode cX5_what 8 = .ok (.goto 4, 3) := dk_167 0 4 (dk_at dksX5_what_0 8 rfl rfl)
theorem dX5_what_11 : decode cX5_what 11 = .ok (.iconst 1, 1) := dk_4 (dk_at dksX5_what_0 11 rfl rfl)
theorem dX5_what_12 : decode cX5_what 12 = .ok (.ireturn, 1) := dk_172 (dk_at dksX5_what_0 12 rfl rfl)
abbrev cX5_parent : ByteArray := prog_18_method_3_code
def yX5_parent : MethodName := ⟨RX5, "parent", "()LReflectMirror$Type;"⟩
theorem dX5_parent_0 : decode cX5_parent 0 = .ok (.aload_n 0, 1) := by decide +kernel
theorem dX5_parent_1 : decode cX5_parent 1 = .ok (.getfield 7, 3) := by decide +kernel
theorem dX5_parent_4 : decode cX5_parent 4 = .ok (.areturn, 1) := by decide +kernel
abbrev cX5_row : ByteArray := prog_18_method_7_code
def yX5_row : MethodName := ⟨RX5, "row", "(I)Ljava/lang/Object;"⟩
def dkwX5_row_0 : List UInt8 := [42, 180, 0, 7, 199, 0, 10, 27, 189, 0, 37, 167, 0, 8, 42, 27, 183, 0, 39, 176]
abbrev dktX5_row_0 : List UInt8 := dkwX5_row_0 ++ []
theorem dksX5_row_0 : cX5_row.data.toList.drop 0 = dktX5_row_0 := by decide +kernel
theorem dX5_row_0 : decode cX5_row 0 = .ok (.aload_n 0, 1) := dk_42 (dk_at dksX5_row_0 0 rfl rfl)
theorem dX5_row_1 : decode cX5_row 1 = .ok (.getfield 7, 3) := dk_180 0 7 (dk_at dksX5_row_0 1 rfl rfl)
theorem dX5_row_4 : decode cX5_row 4 = .ok (.ifnonnull 10, 3) := dk_199 0 10 (dk_at dksX5_row_0 4 rfl rfl)
theorem dX5_row_7 : decode cX5_row 7 = .ok (.iload_n 1, 1) := dk_27 (dk_at dksX5_row_0 7 rfl rfl)
theorem dX5_row_8 : decode cX5_row 8 = .ok (.anewarray 37, 3) := dk_189 0 37 (dk_at dksX5_row_0 8 rfl rfl)
theorem dX5_row_11 : decode cX5_row 11 = .ok (.goto 8, 3) := dk_167 0 8 (dk_at dksX5_row_0 11 rfl rfl)
theorem dX5_row_14 : decode cX5_row 14 = .ok (.aload_n 0, 1) := dk_42 (dk_at dksX5_row_0 14 rfl rfl)
theorem dX5_row_15 : decode cX5_row 15 = .ok (.iload_n 1, 1) := dk_27 (dk_at dksX5_row_0 15 rfl rfl)
theorem dX5_row_16 : decode cX5_row 16 = .ok (.invokespecial 39, 3) := dk_183 0 39 (dk_at dksX5_row_0 16 rfl rfl)
theorem dX5_row_19 : decode cX5_row 19 = .ok (.areturn, 1) := dk_176 (dk_at dksX5_row_0 19 rfl rfl)
theorem q95 : (Jvm.Cond.initialized "ReflectMirror$Plain") ∈ lw_all := lw_g (lw_at lw_m1 6 rfl) rfl
theorem q184 : (Jvm.Cond.fieldLink "ReflectMirror$Plain" (33 : Nat) "ReflectMirror$Plain" "faces" "[LReflectMirror$Type;") ∈ lw_all := lw_g (lw_at lw_m1 95 rfl) rfl
theorem q185 : (Jvm.Cond.sameField "ReflectMirror$Plain" "ReflectMirror$Type" "faces" "[LReflectMirror$Type;") ∈ lw_all := lw_g (lw_at lw_m1 96 rfl) rfl
theorem q190 : (Jvm.Cond.fieldLink "ReflectMirror$Plain" (29 : Nat) "ReflectMirror$Plain" "faceMany" "I") ∈ lw_all := lw_g (lw_at lw_m1 101 rfl) rfl
theorem q191 : (Jvm.Cond.sameField "ReflectMirror$Plain" "ReflectMirror$Type" "faceMany" "I") ∈ lw_all := lw_g (lw_at lw_m1 102 rfl) rfl
theorem q218 : (Jvm.Cond.instantiable "ReflectMirror$Plain" (10 : Nat)) ∈ lw_all := lw_g (lw_at lw_m1 129 rfl) rfl
theorem q220 : (Jvm.Cond.instanceMethod ({ cls := "ReflectMirror$Plain", name := "<init>", desc := "(IILReflectMirror$Type;Z)V" } : Jvm.MethodName)) ∈ lw_all := lw_g (lw_at lw_m1 131 rfl) rfl
theorem q221 : (Jvm.Cond.code ({ cls := "ReflectMirror$Plain", name := "<init>", desc := "(IILReflectMirror$Type;Z)V" } : Jvm.MethodName) prog_18_method_1_code (5 : Nat) (Option.none : Option Jvm.ClassFile.FieldType)) ∈ lw_all := lw_g (lw_at lw_m1 132 rfl) rfl
theorem q222 : (Jvm.Cond.methodLink "ReflectMirror$Plain" (1 : Nat) ({ cls := "ReflectMirror$Face", name := "<init>", desc := "(II)V" } : Jvm.MethodName)) ∈ lw_all := lw_g (lw_at lw_m1 133 rfl) rfl
theorem q226 : (Jvm.Cond.fieldLink "ReflectMirror$Plain" (7 : Nat) "ReflectMirror$Plain" "parent" "LReflectMirror$Type;") ∈ lw_all := lw_g (lw_at lw_m1 137 rfl) rfl
theorem q227 : (Jvm.Cond.fieldLink "ReflectMirror$Plain" (13 : Nat) "ReflectMirror$Plain" "isAbstract" "Z") ∈ lw_all := lw_g (lw_at lw_m1 138 rfl) rfl
theorem q228 : (Jvm.Cond.laysFinal "ReflectMirror$Plain" "ReflectMirror$Plain" "parent" "LReflectMirror$Type;") ∈ lw_all := lw_g (lw_at lw_m1 139 rfl) rfl
theorem q229 : (Jvm.Cond.soleField "ReflectMirror$Plain" "parent") ∈ lw_all := lw_g (lw_at lw_m1 140 rfl) rfl
theorem q230 : (Jvm.Cond.laysFinal "ReflectMirror$Plain" "ReflectMirror$Plain" "isAbstract" "Z") ∈ lw_all := lw_g (lw_at lw_m1 141 rfl) rfl
theorem q231 : (Jvm.Cond.soleField "ReflectMirror$Plain" "isAbstract") ∈ lw_all := lw_g (lw_at lw_m1 142 rfl) rfl
theorem q232 : (Jvm.Cond.laysFinal "ReflectMirror$Plain" "ReflectMirror$Type" "number" "I") ∈ lw_all := lw_g (lw_at lw_m1 143 rfl) rfl
theorem q233 : (Jvm.Cond.laysFinal "ReflectMirror$Plain" "ReflectMirror$Type" "pack" "I") ∈ lw_all := lw_g (lw_at lw_m1 144 rfl) rfl
theorem q234 : (Jvm.Cond.laysFinal "ReflectMirror$Plain" "ReflectMirror$Type" "faces" "[LReflectMirror$Type;") ∈ lw_all := lw_g (lw_at lw_m1 145 rfl) rfl
theorem q235 : (Jvm.Cond.lays "ReflectMirror$Plain" "ReflectMirror$Type" "faceMany" "I") ∈ lw_all := lw_g (lw_at lw_m1 146 rfl) rfl
theorem q236 : (Jvm.Cond.laysFinal "ReflectMirror$Plain" "ReflectMirror$Type" "above" "[LReflectMirror$Type;") ∈ lw_all := lw_g (lw_at lw_m1 147 rfl) rfl
theorem q237 : (Jvm.Cond.lays "ReflectMirror$Plain" "ReflectMirror$Type" "aboveMany" "I") ∈ lw_all := lw_g (lw_at lw_m1 148 rfl) rfl
theorem q238 : (Jvm.Cond.laysFinal "ReflectMirror$Plain" "ReflectMirror$Type" "has" "[Z") ∈ lw_all := lw_g (lw_at lw_m1 149 rfl) rfl
theorem q239 : (Jvm.Cond.lays "ReflectMirror$Plain" "ReflectMirror$Type" "rows" "LReflectMirror$Type;") ∈ lw_all := lw_g (lw_at lw_m1 150 rfl) rfl
theorem q240 : (Jvm.Cond.superclass "ReflectMirror$Plain" "ReflectMirror$Face") ∈ lw_all := lw_g (lw_at lw_m1 151 rfl) rfl
theorem q279 : (Jvm.Cond.selects "ReflectMirror$Plain" ({ cls := "ReflectMirror$Type", name := "clear", desc := "()V" } : Jvm.MethodName) ({ cls := "ReflectMirror$Type", name := "clear", desc := "()V" } : Jvm.MethodName)) ∈ lw_all := lw_g (lw_at lw_m1 190 rfl) rfl
theorem q287 : (Jvm.Cond.selects "ReflectMirror$Plain" ({ cls := "ReflectMirror$Type", name := "add", desc := "(LReflectMirror$Type;)V" } : Jvm.MethodName) ({ cls := "ReflectMirror$Type", name := "add", desc := "(LReflectMirror$Type;)V" } : Jvm.MethodName)) ∈ lw_all := lw_g (lw_at lw_m1 198 rfl) rfl
theorem q295 : (Jvm.Cond.selects "ReflectMirror$Plain" ({ cls := "ReflectMirror$Face", name := "addAll", desc := "(LReflectMirror$Type;LReflectMirror$Type;)V" } : Jvm.MethodName) ({ cls := "ReflectMirror$Type", name := "addAll", desc := "(LReflectMirror$Type;LReflectMirror$Type;)V" } : Jvm.MethodName)) ∈ lw_all := lw_g (lw_at lw_m1 206 rfl) rfl
theorem q302 : (Jvm.Cond.selects "ReflectMirror$Plain" ({ cls := "ReflectMirror$Face", name := "add", desc := "(LReflectMirror$Type;)V" } : Jvm.MethodName) ({ cls := "ReflectMirror$Type", name := "add", desc := "(LReflectMirror$Type;)V" } : Jvm.MethodName)) ∈ lw_all := lw_g (lw_at lw_m1 213 rfl) rfl
theorem q303 : (Jvm.Cond.selects "ReflectMirror$Plain" ({ cls := "ReflectMirror$Type", name := "climb", desc := "(LReflectMirror$Type;)V" } : Jvm.MethodName) ({ cls := "ReflectMirror$Plain", name := "climb", desc := "(LReflectMirror$Type;)V" } : Jvm.MethodName)) ∈ lw_all := lw_g (lw_at lw_m1 214 rfl) rfl
theorem q304 : (Jvm.Cond.instanceMethod ({ cls := "ReflectMirror$Plain", name := "climb", desc := "(LReflectMirror$Type;)V" } : Jvm.MethodName)) ∈ lw_all := lw_g (lw_at lw_m1 215 rfl) rfl
theorem q305 : (Jvm.Cond.code ({ cls := "ReflectMirror$Plain", name := "climb", desc := "(LReflectMirror$Type;)V" } : Jvm.MethodName) prog_18_method_6_code (3 : Nat) (Option.none : Option Jvm.ClassFile.FieldType)) ∈ lw_all := lw_g (lw_at lw_m1 216 rfl) rfl
theorem q306 : (Jvm.Cond.methodLink "ReflectMirror$Plain" (17 : Nat) ({ cls := "ReflectMirror$Plain", name := "clear", desc := "()V" } : Jvm.MethodName)) ∈ lw_all := lw_g (lw_at lw_m1 217 rfl) rfl
theorem q307 : (Jvm.Cond.sameMethod "ReflectMirror$Plain" "ReflectMirror$Type" "clear" "()V") ∈ lw_all := lw_g (lw_at lw_m1 218 rfl) rfl
theorem q309 : (Jvm.Cond.selects "ReflectMirror$Plain" ({ cls := "ReflectMirror$Plain", name := "clear", desc := "()V" } : Jvm.MethodName) ({ cls := "ReflectMirror$Type", name := "clear", desc := "()V" } : Jvm.MethodName)) ∈ lw_all := lw_g (lw_at lw_m1 220 rfl) rfl
theorem q310 : (Jvm.Cond.methodLink "ReflectMirror$Plain" (21 : Nat) ({ cls := "ReflectMirror$Plain", name := "add", desc := "(LReflectMirror$Type;)V" } : Jvm.MethodName)) ∈ lw_all := lw_g (lw_at lw_m1 221 rfl) rfl
theorem q311 : (Jvm.Cond.sameMethod "ReflectMirror$Plain" "ReflectMirror$Type" "add" "(LReflectMirror$Type;)V") ∈ lw_all := lw_g (lw_at lw_m1 222 rfl) rfl
theorem q312 : (Jvm.Cond.selects "ReflectMirror$Plain" ({ cls := "ReflectMirror$Plain", name := "add", desc := "(LReflectMirror$Type;)V" } : Jvm.MethodName) ({ cls := "ReflectMirror$Type", name := "add", desc := "(LReflectMirror$Type;)V" } : Jvm.MethodName)) ∈ lw_all := lw_g (lw_at lw_m1 223 rfl) rfl
theorem q313 : (Jvm.Cond.methodLink "ReflectMirror$Plain" (25 : Nat) ({ cls := "ReflectMirror$Plain", name := "addAll", desc := "(LReflectMirror$Type;LReflectMirror$Type;)V" } : Jvm.MethodName)) ∈ lw_all := lw_g (lw_at lw_m1 224 rfl) rfl
theorem q314 : (Jvm.Cond.sameMethod "ReflectMirror$Plain" "ReflectMirror$Type" "addAll" "(LReflectMirror$Type;LReflectMirror$Type;)V") ∈ lw_all := lw_g (lw_at lw_m1 225 rfl) rfl
theorem q315 : (Jvm.Cond.selects "ReflectMirror$Plain" ({ cls := "ReflectMirror$Plain", name := "addAll", desc := "(LReflectMirror$Type;LReflectMirror$Type;)V" } : Jvm.MethodName) ({ cls := "ReflectMirror$Type", name := "addAll", desc := "(LReflectMirror$Type;LReflectMirror$Type;)V" } : Jvm.MethodName)) ∈ lw_all := lw_g (lw_at lw_m1 226 rfl) rfl
theorem q385 : (Jvm.Cond.selects "ReflectMirror$Plain" ({ cls := "ReflectMirror$Type", name := "isClass", desc := "()Z" } : Jvm.MethodName) ({ cls := "ReflectMirror$Plain", name := "isClass", desc := "()Z" } : Jvm.MethodName)) ∈ lw_all := lw_g (lw_at lw_m2 56 rfl) rfl
theorem q386 : (Jvm.Cond.instanceMethod ({ cls := "ReflectMirror$Plain", name := "isClass", desc := "()Z" } : Jvm.MethodName)) ∈ lw_all := lw_g (lw_at lw_m2 57 rfl) rfl
theorem q387 : (Jvm.Cond.code ({ cls := "ReflectMirror$Plain", name := "isClass", desc := "()Z" } : Jvm.MethodName) prog_18_method_4_code (1 : Nat) (Option.some Jvm.ClassFile.FieldType.boolean)) ∈ lw_all := lw_g (lw_at lw_m2 58 rfl) rfl
theorem q400 : (Jvm.Cond.selects "ReflectMirror$Plain" ({ cls := "ReflectMirror$Type", name := "number", desc := "()I" } : Jvm.MethodName) ({ cls := "ReflectMirror$Type", name := "number", desc := "()I" } : Jvm.MethodName)) ∈ lw_all := lw_g (lw_at lw_m2 71 rfl) rfl
theorem q453 : (Jvm.Cond.selects "ReflectMirror$Plain" ({ cls := "ReflectMirror$Type", name := "declares", desc := "()Z" } : Jvm.MethodName) ({ cls := "ReflectMirror$Plain", name := "declares", desc := "()Z" } : Jvm.MethodName)) ∈ lw_all := lw_g (lw_at lw_m2 124 rfl) rfl
theorem q454 : (Jvm.Cond.instanceMethod ({ cls := "ReflectMirror$Plain", name := "declares", desc := "()Z" } : Jvm.MethodName)) ∈ lw_all := lw_g (lw_at lw_m2 125 rfl) rfl
theorem q455 : (Jvm.Cond.code ({ cls := "ReflectMirror$Plain", name := "declares", desc := "()Z" } : Jvm.MethodName) prog_18_method_5_code (1 : Nat) (Option.some Jvm.ClassFile.FieldType.boolean)) ∈ lw_all := lw_g (lw_at lw_m2 126 rfl) rfl
theorem q465 : (Jvm.Cond.selects "ReflectMirror$Plain" ({ cls := "ReflectMirror$Type", name := "what", desc := "()I" } : Jvm.MethodName) ({ cls := "ReflectMirror$Plain", name := "what", desc := "()I" } : Jvm.MethodName)) ∈ lw_all := lw_g (lw_at lw_m2 136 rfl) rfl
theorem q466 : (Jvm.Cond.instanceMethod ({ cls := "ReflectMirror$Plain", name := "what", desc := "()I" } : Jvm.MethodName)) ∈ lw_all := lw_g (lw_at lw_m2 137 rfl) rfl
theorem q467 : (Jvm.Cond.code ({ cls := "ReflectMirror$Plain", name := "what", desc := "()I" } : Jvm.MethodName) prog_18_method_2_code (1 : Nat) (Option.some Jvm.ClassFile.FieldType.int)) ∈ lw_all := lw_g (lw_at lw_m2 138 rfl) rfl
theorem q477 : (Jvm.Cond.unhidden "ReflectMirror$Plain" "isBehind" "(LReflectMirror$Numbered;)Z") ∈ lw_tbl := lw_at lw_m2 148 rfl
theorem q506 : (Jvm.Cond.castable "ReflectMirror$Plain" "ReflectMirror$Numbered") ∈ lw_tbl := lw_at lw_m2 177 rfl
theorem q507 : (Jvm.Cond.selects "ReflectMirror$Plain" ({ cls := "ReflectMirror$Numbered", name := "number", desc := "()I" } : Jvm.MethodName) ({ cls := "ReflectMirror$Type", name := "number", desc := "()I" } : Jvm.MethodName)) ∈ lw_all := lw_g (lw_at lw_m2 178 rfl) rfl
theorem q508 : (Jvm.Cond.unhidden "ReflectMirror$Plain" "number" "()I") ∈ lw_tbl := lw_at lw_m2 179 rfl
theorem q524 : (Jvm.Cond.selects "ReflectMirror$Plain" ({ cls := "ReflectMirror$Type", name := "parent", desc := "()LReflectMirror$Type;" } : Jvm.MethodName) ({ cls := "ReflectMirror$Plain", name := "parent", desc := "()LReflectMirror$Type;" } : Jvm.MethodName)) ∈ lw_all := lw_g (lw_at lw_m2 195 rfl) rfl
theorem q525 : (Jvm.Cond.instanceMethod ({ cls := "ReflectMirror$Plain", name := "parent", desc := "()LReflectMirror$Type;" } : Jvm.MethodName)) ∈ lw_all := lw_g (lw_at lw_m2 196 rfl) rfl
theorem q526 : (Jvm.Cond.code ({ cls := "ReflectMirror$Plain", name := "parent", desc := "()LReflectMirror$Type;" } : Jvm.MethodName) prog_18_method_3_code (1 : Nat) (Option.some (Jvm.ClassFile.FieldType.object "ReflectMirror$Type"))) ∈ lw_all := lw_g (lw_at lw_m2 197 rfl) rfl
theorem q536 : (Jvm.Cond.selects "ReflectMirror$Plain" ({ cls := "ReflectMirror$Type", name := "of", desc := "()LReflectMirror$Type;" } : Jvm.MethodName) ({ cls := "ReflectMirror$Type", name := "of", desc := "()LReflectMirror$Type;" } : Jvm.MethodName)) ∈ lw_all := lw_g (lw_at lw_m2 207 rfl) rfl
theorem q546 : (Jvm.Cond.selects "ReflectMirror$Plain" ({ cls := "ReflectMirror$Type", name := "isReference", desc := "()Z" } : Jvm.MethodName) ({ cls := "ReflectMirror$Type", name := "isReference", desc := "()Z" } : Jvm.MethodName)) ∈ lw_all := lw_g (lw_at lw_m2 217 rfl) rfl
theorem q561 : (Jvm.Cond.selects "ReflectMirror$Plain" ({ cls := "ReflectMirror$Type", name := "is", desc := "(LReflectMirror$Type;)Z" } : Jvm.MethodName) ({ cls := "ReflectMirror$Type", name := "is", desc := "(LReflectMirror$Type;)Z" } : Jvm.MethodName)) ∈ lw_all := lw_g (lw_at lw_m2 232 rfl) rfl
theorem q723 : (Jvm.Cond.selects "ReflectMirror$Plain" ({ cls := "ReflectMirror$Type", name := "row", desc := "(I)Ljava/lang/Object;" } : Jvm.MethodName) ({ cls := "ReflectMirror$Plain", name := "row", desc := "(I)Ljava/lang/Object;" } : Jvm.MethodName)) ∈ lw_all := lw_g (lw_at lw_m3 154 rfl) rfl
theorem q724 : (Jvm.Cond.instanceMethod ({ cls := "ReflectMirror$Plain", name := "row", desc := "(I)Ljava/lang/Object;" } : Jvm.MethodName)) ∈ lw_all := lw_g (lw_at lw_m3 155 rfl) rfl
theorem q725 : (Jvm.Cond.code ({ cls := "ReflectMirror$Plain", name := "row", desc := "(I)Ljava/lang/Object;" } : Jvm.MethodName) prog_18_method_7_code (2 : Nat) (Option.some (Jvm.ClassFile.FieldType.object "java/lang/Object"))) ∈ lw_all := lw_g (lw_at lw_m3 156 rfl) rfl
theorem q726 : (Jvm.Cond.classLink "ReflectMirror$Plain" (37 : Nat) "ReflectMirror$Thing") ∈ lw_all := lw_g (lw_at lw_m3 157 rfl) rfl
theorem q727 : (Jvm.Cond.methodLink "ReflectMirror$Plain" (39 : Nat) ({ cls := "ReflectMirror$Face", name := "row", desc := "(I)Ljava/lang/Object;" } : Jvm.MethodName)) ∈ lw_all := lw_g (lw_at lw_m3 158 rfl) rfl
theorem q2593 : (Jvm.Cond.castable "ReflectMirror$Plain" "java/lang/Object") ∈ lw_tbl := lw_at lw_m11 104 rfl
theorem q2631 : (Jvm.Cond.castable "ReflectMirror$Plain" "ReflectMirror$Type") ∈ lw_tbl := lw_at lw_m11 142 rfl
theorem in_X5 : ∀ w ∈ wsX50, w ∈ lw_all := lw_in wsX50 [232, 233, 234, 235, 236, 237, 238, 239, 228, 230] (by decide +kernel) (by decide +kernel)

/-! ReflectMirror$Cell -/
set_option maxRecDepth 100000
def RX6 : String := "ReflectMirror$Cell"
def TX6 : u_T := fun k => match k with
  | 0 => ("ReflectMirror$Cell", "as", "I", false)
  | 1 => ("ReflectMirror$Cell", "bits", "J", false)
  | _ => ("ReflectMirror$Cell", "thing", "LReflectMirror$Thing;", false)
def tyX6 : Nat → FieldType := fun k => match k with
  | 0 => .int
  | 1 => .long
  | _ => .object "ReflectMirror$Thing"
abbrev wsX60 : List Cond := u_ws RX6 TX6 3
theorem nmX6 : ∀ a, a < 3 → ∀ b, b < 3 → a ≠ b → (TX6 a).2.1 ≠ (TX6 b).2.1 := by decide +kernel
theorem tyX6_ok : ∀ k, k < 3 → parseFieldDescriptor (TX6 k).2.2.1 = some (tyX6 k) := by decide +kernel
abbrev cX6_init : ByteArray := prog_6_method_1_code
def yX6_init : MethodName := ⟨RX6, "<init>", "()V"⟩
def dkwX6_init_0 : List UInt8 := [42, 183, 0, 3, 42, 7, 181, 0, 9, 177]
abbrev dktX6_init_0 : List UInt8 := dkwX6_init_0 ++ []
theorem dksX6_init_0 : cX6_init.data.toList.drop 0 = dktX6_init_0 := by decide +kernel
theorem dX6_init_0 : decode cX6_init 0 = .ok (.aload_n 0, 1) := dk_42 (dk_at dksX6_init_0 0 rfl rfl)
theorem dX6_init_1 : decode cX6_init 1 = .ok (.invokespecial 3, 3) := dk_183 0 3 (dk_at dksX6_init_0 1 rfl rfl)
theorem dX6_init_4 : decode cX6_init 4 = .ok (.aload_n 0, 1) := dk_42 (dk_at dksX6_init_0 4 rfl rfl)
theorem dX6_init_5 : decode cX6_init 5 = .ok (.iconst 4, 1) := dk_7 (dk_at dksX6_init_0 5 rfl rfl)
theorem dX6_init_6 : decode cX6_init 6 = .ok (.putfield 9, 3) := dk_181 0 9 (dk_at dksX6_init_0 6 rfl rfl)
theorem dX6_init_9 : decode cX6_init 9 = .ok (.return_, 1) := dk_177 (dk_at dksX6_init_0 9 rfl rfl)
abbrev cX6_become : ByteArray := prog_6_method_2_code
def yX6_become : MethodName := ⟨RX6, "become", "(LReflectMirror$Cell;)V"⟩
def dkwX6_become_1 : List UInt8 := [177]
abbrev dktX6_become_1 : List UInt8 := dkwX6_become_1 ++ []
def dkwX6_become_0 : List UInt8 := [42, 43, 180, 0, 9, 181, 0, 9, 42, 43, 180, 0, 15, 181, 0, 15, 42, 43, 180, 0, 19, 181, 0, 19]
abbrev dktX6_become_0 : List UInt8 := dkwX6_become_0 ++ dktX6_become_1
theorem dksX6_become_0 : cX6_become.data.toList.drop 0 = dktX6_become_0 := by decide +kernel
theorem dksX6_become_1 : cX6_become.data.toList.drop 24 = dktX6_become_1 := dk_seg dksX6_become_0 24 rfl rfl
theorem dX6_become_0 : decode cX6_become 0 = .ok (.aload_n 0, 1) := dk_42 (dk_at dksX6_become_0 0 rfl rfl)
theorem dX6_become_1 : decode cX6_become 1 = .ok (.aload_n 1, 1) := dk_43 (dk_at dksX6_become_0 1 rfl rfl)
theorem dX6_become_2 : decode cX6_become 2 = .ok (.getfield 9, 3) := dk_180 0 9 (dk_at dksX6_become_0 2 rfl rfl)
theorem dX6_become_5 : decode cX6_become 5 = .ok (.putfield 9, 3) := dk_181 0 9 (dk_at dksX6_become_0 5 rfl rfl)
theorem dX6_become_8 : decode cX6_become 8 = .ok (.aload_n 0, 1) := dk_42 (dk_at dksX6_become_0 8 rfl rfl)
theorem dX6_become_9 : decode cX6_become 9 = .ok (.aload_n 1, 1) := dk_43 (dk_at dksX6_become_0 9 rfl rfl)
theorem dX6_become_10 : decode cX6_become 10 = .ok (.getfield 15, 3) := dk_180 0 15 (dk_at dksX6_become_0 10 rfl rfl)
theorem dX6_become_13 : decode cX6_become 13 = .ok (.putfield 15, 3) := dk_181 0 15 (dk_at dksX6_become_0 13 rfl rfl)
theorem dX6_become_16 : decode cX6_become 16 = .ok (.aload_n 0, 1) := dk_42 (dk_at dksX6_become_0 16 rfl rfl)
theorem dX6_become_17 : decode cX6_become 17 = .ok (.aload_n 1, 1) := dk_43 (dk_at dksX6_become_0 17 rfl rfl)
theorem dX6_become_18 : decode cX6_become 18 = .ok (.getfield 19, 3) := dk_180 0 19 (dk_at dksX6_become_0 18 rfl rfl)
theorem dX6_become_21 : decode cX6_become 21 = .ok (.putfield 19, 3) := dk_181 0 19 (dk_at dksX6_become_0 21 rfl rfl)
theorem dX6_become_24 : decode cX6_become 24 = .ok (.return_, 1) := dk_177 (dk_at dksX6_become_1 0 rfl rfl)
abbrev cX6_single : ByteArray := prog_6_method_5_code
def yX6_single : MethodName := ⟨RX6, "single", "()F"⟩
def dkwX6_single_1 : List UInt8 := [137, 174]
abbrev dktX6_single_1 : List UInt8 := dkwX6_single_1 ++ []
def dkwX6_single_0 : List UInt8 := [42, 180, 0, 9, 16, 6, 160, 0, 14, 42, 180, 0, 15, 136, 184, 0, 39, 167, 0, 8, 42, 180, 0, 15]
abbrev dktX6_single_0 : List UInt8 := dkwX6_single_0 ++ dktX6_single_1
theorem dksX6_single_0 : cX6_single.data.toList.drop 0 = dktX6_single_0 := by decide +kernel
theorem dksX6_single_1 : cX6_single.data.toList.drop 24 = dktX6_single_1 := dk_seg dksX6_single_0 24 rfl rfl
theorem dX6_single_0 : decode cX6_single 0 = .ok (.aload_n 0, 1) := dk_42 (dk_at dksX6_single_0 0 rfl rfl)
theorem dX6_single_1 : decode cX6_single 1 = .ok (.getfield 9, 3) := dk_180 0 9 (dk_at dksX6_single_0 1 rfl rfl)
theorem dX6_single_4 : decode cX6_single 4 = .ok (.bipush 6, 2) := dk_16 6 (dk_at dksX6_single_0 4 rfl rfl)
theorem dX6_single_6 : decode cX6_single 6 = .ok (.if_icmp .ne 14, 3) := dk_160 0 14 (dk_at dksX6_single_0 6 rfl rfl)
theorem dX6_single_9 : decode cX6_single 9 = .ok (.aload_n 0, 1) := dk_42 (dk_at dksX6_single_0 9 rfl rfl)
theorem dX6_single_10 : decode cX6_single 10 = .ok (.getfield 15, 3) := dk_180 0 15 (dk_at dksX6_single_0 10 rfl rfl)
theorem dX6_single_13 : decode cX6_single 13 = .ok (.l2i, 1) := dk_136 (dk_at dksX6_single_0 13 rfl rfl)
theorem dX6_single_14 : decode cX6_single 14 = .ok (.invokestatic 39, 3) := dk_184 0 39 (dk_at dksX6_single_0 14 rfl rfl)
theorem dX6_single_17 : decode cX6_single 17 = .ok (.goto 8, 3) := dk_167 0 8 (dk_at dksX6_single_0 17 rfl rfl)
theorem dX6_single_20 : decode cX6_single 20 = .ok (.aload_n 0, 1) := dk_42 (dk_at dksX6_single_0 20 rfl rfl)
theorem dX6_single_21 : decode cX6_single 21 = .ok (.getfield 15, 3) := dk_180 0 15 (dk_at dksX6_single_0 21 rfl rfl)
theorem dX6_single_24 : decode cX6_single 24 = .ok (.l2f, 1) := dk_137 (dk_at dksX6_single_1 0 rfl rfl)
theorem dX6_single_25 : decode cX6_single 25 = .ok (.freturn, 1) := dk_174 (dk_at dksX6_single_1 1 rfl rfl)
abbrev cX6_real : ByteArray := prog_6_method_4_code
def yX6_real : MethodName := ⟨RX6, "real", "()D"⟩
def dkwX6_real_1 : List UInt8 := [16, 6, 160, 0, 15, 42, 180, 0, 15, 136, 184, 0, 39, 141, 167, 0, 8, 42, 180, 0, 15, 138, 175]
abbrev dktX6_real_1 : List UInt8 := dkwX6_real_1 ++ []
def dkwX6_real_0 : List UInt8 := [42, 180, 0, 9, 16, 7, 160, 0, 13, 42, 180, 0, 15, 184, 0, 33, 167, 0, 29, 42, 180, 0, 9]
abbrev dktX6_real_0 : List UInt8 := dkwX6_real_0 ++ dktX6_real_1
theorem dksX6_real_0 : cX6_real.data.toList.drop 0 = dktX6_real_0 := by decide +kernel
theorem dksX6_real_1 : cX6_real.data.toList.drop 23 = dktX6_real_1 := dk_seg dksX6_real_0 23 rfl rfl
theorem dX6_real_0 : decode cX6_real 0 = .ok (.aload_n 0, 1) := dk_42 (dk_at dksX6_real_0 0 rfl rfl)
theorem dX6_real_1 : decode cX6_real 1 = .ok (.getfield 9, 3) := dk_180 0 9 (dk_at dksX6_real_0 1 rfl rfl)
theorem dX6_real_4 : decode cX6_real 4 = .ok (.bipush 7, 2) := dk_16 7 (dk_at dksX6_real_0 4 rfl rfl)
theorem dX6_real_6 : decode cX6_real 6 = .ok (.if_icmp .ne 13, 3) := dk_160 0 13 (dk_at dksX6_real_0 6 rfl rfl)
theorem dX6_real_9 : decode cX6_real 9 = .ok (.aload_n 0, 1) := dk_42 (dk_at dksX6_real_0 9 rfl rfl)
theorem dX6_real_10 : decode cX6_real 10 = .ok (.getfield 15, 3) := dk_180 0 15 (dk_at dksX6_real_0 10 rfl rfl)
theorem dX6_real_13 : decode cX6_real 13 = .ok (.invokestatic 33, 3) := dk_184 0 33 (dk_at dksX6_real_0 13 rfl rfl)
theorem dX6_real_16 : decode cX6_real 16 = .ok (.goto 29, 3) := dk_167 0 29 (dk_at dksX6_real_0 16 rfl rfl)
theorem dX6_real_19 : decode cX6_real 19 = .ok (.aload_n 0, 1) := dk_42 (dk_at dksX6_real_0 19 rfl rfl)
theorem dX6_real_20 : decode cX6_real 20 = .ok (.getfield 9, 3) := dk_180 0 9 (dk_at dksX6_real_0 20 rfl rfl)
theorem dX6_real_23 : decode cX6_real 23 = .ok (.bipush 6, 2) := dk_16 6 (dk_at dksX6_real_1 0 rfl rfl)
theorem dX6_real_25 : decode cX6_real 25 = .ok (.if_icmp .ne 15, 3) := dk_160 0 15 (dk_at dksX6_real_1 2 rfl rfl)
theorem dX6_real_28 : decode cX6_real 28 = .ok (.aload_n 0, 1) := dk_42 (dk_at dksX6_real_1 5 rfl rfl)
theorem dX6_real_29 : decode cX6_real 29 = .ok (.getfield 15, 3) := dk_180 0 15 (dk_at dksX6_real_1 6 rfl rfl)
theorem dX6_real_32 : decode cX6_real 32 = .ok (.l2i, 1) := dk_136 (dk_at dksX6_real_1 9 rfl rfl)
theorem dX6_real_33 : decode cX6_real 33 = .ok (.invokestatic 39, 3) := dk_184 0 39 (dk_at dksX6_real_1 10 rfl rfl)
theorem dX6_real_36 : decode cX6_real 36 = .ok (.f2d, 1) := dk_141 (dk_at dksX6_real_1 13 rfl rfl)
theorem dX6_real_37 : decode cX6_real 37 = .ok (.goto 8, 3) := dk_167 0 8 (dk_at dksX6_real_1 14 rfl rfl)
theorem dX6_real_40 : decode cX6_real 40 = .ok (.aload_n 0, 1) := dk_42 (dk_at dksX6_real_1 17 rfl rfl)
theorem dX6_real_41 : decode cX6_real 41 = .ok (.getfield 15, 3) := dk_180 0 15 (dk_at dksX6_real_1 18 rfl rfl)
theorem dX6_real_44 : decode cX6_real 44 = .ok (.l2d, 1) := dk_138 (dk_at dksX6_real_1 21 rfl rfl)
theorem dX6_real_45 : decode cX6_real 45 = .ok (.dreturn, 1) := dk_175 (dk_at dksX6_real_1 22 rfl rfl)
abbrev cX6_widenTo : ByteArray := prog_6_method_7_code
def yX6_widenTo : MethodName := ⟨RX6, "widenTo", "(LReflectMirror$Type;)V"⟩
def dkwX6_widenTo_0 : List UInt8 := [43, 182, 0, 23, 154, 0, 11, 42, 43, 182, 0, 29, 182, 0, 61, 177]
abbrev dktX6_widenTo_0 : List UInt8 := dkwX6_widenTo_0 ++ []
theorem dksX6_widenTo_0 : cX6_widenTo.data.toList.drop 0 = dktX6_widenTo_0 := by decide +kernel
theorem dX6_widenTo_0 : decode cX6_widenTo 0 = .ok (.aload_n 1, 1) := dk_43 (dk_at dksX6_widenTo_0 0 rfl rfl)
theorem dX6_widenTo_1 : decode cX6_widenTo 1 = .ok (.invokevirtual 23, 3) := dk_182 0 23 (dk_at dksX6_widenTo_0 1 rfl rfl)
theorem dX6_widenTo_4 : decode cX6_widenTo 4 = .ok (.ifCond .ne 11, 3) := dk_154 0 11 (dk_at dksX6_widenTo_0 4 rfl rfl)
theorem dX6_widenTo_7 : decode cX6_widenTo 7 = .ok (.aload_n 0, 1) := dk_42 (dk_at dksX6_widenTo_0 7 rfl rfl)
theorem dX6_widenTo_8 : decode cX6_widenTo 8 = .ok (.aload_n 1, 1) := dk_43 (dk_at dksX6_widenTo_0 8 rfl rfl)
theorem dX6_widenTo_9 : decode cX6_widenTo 9 = .ok (.invokevirtual 29, 3) := dk_182 0 29 (dk_at dksX6_widenTo_0 9 rfl rfl)
theorem dX6_widenTo_12 : decode cX6_widenTo 12 = .ok (.invokevirtual 61, 3) := dk_182 0 61 (dk_at dksX6_widenTo_0 12 rfl rfl)
theorem dX6_widenTo_15 : decode cX6_widenTo 15 = .ok (.return_, 1) := dk_177 (dk_at dksX6_widenTo_0 15 rfl rfl)
abbrev cX6_widen : ByteArray := prog_6_method_6_code
def yX6_widen : MethodName := ⟨RX6, "widen", "(I)V"⟩
def dkwX6_widen_2 : List UInt8 := [182, 0, 53, 184, 0, 57, 133, 181, 0, 15, 42, 27, 181, 0, 9, 177]
abbrev dktX6_widen_2 : List UInt8 := dkwX6_widen_2 ++ []
def dkwX6_widen_1 : List UInt8 := [181, 0, 15, 167, 0, 30, 27, 16, 6, 160, 0, 24, 42, 180, 0, 9, 16, 6, 162, 0, 15, 42, 42]
abbrev dktX6_widen_1 : List UInt8 := dkwX6_widen_1 ++ dktX6_widen_2
def dkwX6_widen_0 : List UInt8 := [27, 16, 7, 160, 0, 26, 42, 180, 0, 9, 16, 7, 162, 0, 17, 42, 42, 182, 0, 45, 184, 0, 49]
abbrev dktX6_widen_0 : List UInt8 := dkwX6_widen_0 ++ dktX6_widen_1
theorem dksX6_widen_0 : cX6_widen.data.toList.drop 0 = dktX6_widen_0 := by decide +kernel
theorem dksX6_widen_1 : cX6_widen.data.toList.drop 23 = dktX6_widen_1 := dk_seg dksX6_widen_0 23 rfl rfl
theorem dksX6_widen_2 : cX6_widen.data.toList.drop 46 = dktX6_widen_2 := dk_seg dksX6_widen_1 23 rfl rfl
theorem dX6_widen_0 : decode cX6_widen 0 = .ok (.iload_n 1, 1) := dk_27 (dk_at dksX6_widen_0 0 rfl rfl)
theorem dX6_widen_1 : decode cX6_widen 1 = .ok (.bipush 7, 2) := dk_16 7 (dk_at dksX6_widen_0 1 rfl rfl)
theorem dX6_widen_3 : decode cX6_widen 3 = .ok (.if_icmp .ne 26, 3) := dk_160 0 26 (dk_at dksX6_widen_0 3 rfl rfl)
theorem dX6_widen_6 : decode cX6_widen 6 = .ok (.aload_n 0, 1) := dk_42 (dk_at dksX6_widen_0 6 rfl rfl)
theorem dX6_widen_7 : decode cX6_widen 7 = .ok (.getfield 9, 3) := dk_180 0 9 (dk_at dksX6_widen_0 7 rfl rfl)
theorem dX6_widen_10 : decode cX6_widen 10 = .ok (.bipush 7, 2) := dk_16 7 (dk_at dksX6_widen_0 10 rfl rfl)
theorem dX6_widen_12 : decode cX6_widen 12 = .ok (.if_icmp .ge 17, 3) := dk_162 0 17 (dk_at dksX6_widen_0 12 rfl rfl)
theorem dX6_widen_15 : decode cX6_widen 15 = .ok (.aload_n 0, 1) := dk_42 (dk_at dksX6_widen_0 15 rfl rfl)
theorem dX6_widen_16 : decode cX6_widen 16 = .ok (.aload_n 0, 1) := dk_42 (dk_at dksX6_widen_0 16 rfl rfl)
theorem dX6_widen_17 : decode cX6_widen 17 = .ok (.invokevirtual 45, 3) := dk_182 0 45 (dk_at dksX6_widen_0 17 rfl rfl)
theorem dX6_widen_20 : decode cX6_widen 20 = .ok (.invokestatic 49, 3) := dk_184 0 49 (dk_at dksX6_widen_0 20 rfl rfl)
theorem dX6_widen_23 : decode cX6_widen 23 = .ok (.putfield 15, 3) := dk_181 0 15 (dk_at dksX6_widen_1 0 rfl rfl)
theorem dX6_widen_26 : decode cX6_widen 26 = .ok (.goto 30, 3) := dk_167 0 30 (dk_at dksX6_widen_1 3 rfl rfl)
theorem dX6_widen_29 : decode cX6_widen 29 = .ok (.iload_n 1, 1) := dk_27 (dk_at dksX6_widen_1 6 rfl rfl)
theorem dX6_widen_30 : decode cX6_widen 30 = .ok (.bipush 6, 2) := dk_16 6 (dk_at dksX6_widen_1 7 rfl rfl)
theorem dX6_widen_32 : decode cX6_widen 32 = .ok (.if_icmp .ne 24, 3) := dk_160 0 24 (dk_at dksX6_widen_1 9 rfl rfl)
theorem dX6_widen_35 : decode cX6_widen 35 = .ok (.aload_n 0, 1) := dk_42 (dk_at dksX6_widen_1 12 rfl rfl)
theorem dX6_widen_36 : decode cX6_widen 36 = .ok (.getfield 9, 3) := dk_180 0 9 (dk_at dksX6_widen_1 13 rfl rfl)
theorem dX6_widen_39 : decode cX6_widen 39 = .ok (.bipush 6, 2) := dk_16 6 (dk_at dksX6_widen_1 16 rfl rfl)
theorem dX6_widen_41 : decode cX6_widen 41 = .ok (.if_icmp .ge 15, 3) := dk_162 0 15 (dk_at dksX6_widen_1 18 rfl rfl)
theorem dX6_widen_44 : decode cX6_widen 44 = .ok (.aload_n 0, 1) := dk_42 (dk_at dksX6_widen_1 21 rfl rfl)
theorem dX6_widen_45 : decode cX6_widen 45 = .ok (.aload_n 0, 1) := dk_42 (dk_at dksX6_widen_1 22 rfl rfl)
theorem dX6_widen_46 : decode cX6_widen 46 = .ok (.invokevirtual 53, 3) := dk_182 0 53 (dk_at dksX6_widen_2 0 rfl rfl)
theorem dX6_widen_49 : decode cX6_widen 49 = .ok (.invokestatic 57, 3) := dk_184 0 57 (dk_at dksX6_widen_2 3 rfl rfl)
theorem dX6_widen_52 : decode cX6_widen 52 = .ok (.i2l, 1) := dk_133 (dk_at dksX6_widen_2 6 rfl rfl)
theorem dX6_widen_53 : decode cX6_widen 53 = .ok (.putfield 15, 3) := dk_181 0 15 (dk_at dksX6_widen_2 7 rfl rfl)
theorem dX6_widen_56 : decode cX6_widen 56 = .ok (.aload_n 0, 1) := dk_42 (dk_at dksX6_widen_2 10 rfl rfl)
theorem dX6_widen_57 : decode cX6_widen 57 = .ok (.iload_n 1, 1) := dk_27 (dk_at dksX6_widen_2 11 rfl rfl)
theorem dX6_widen_58 : decode cX6_widen 58 = .ok (.putfield 9, 3) := dk_181 0 9 (dk_at dksX6_widen_2 12 rfl rfl)
theorem dX6_widen_61 : decode cX6_widen 61 = .ok (.return_, 1) := dk_177 (dk_at dksX6_widen_2 15 rfl rfl)
abbrev cX6_clear : ByteArray := prog_6_method_3_code
def yX6_clear : MethodName := ⟨RX6, "clear", "(LReflectMirror$Type;)V"⟩
def dkwX6_clear_1 : List UInt8 := [182, 0, 29, 181, 0, 9, 42, 9, 181, 0, 15, 42, 1, 181, 0, 19, 177]
abbrev dktX6_clear_1 : List UInt8 := dkwX6_clear_1 ++ []
def dkwX6_clear_0 : List UInt8 := [42, 43, 199, 0, 7, 7, 167, 0, 19, 43, 182, 0, 23, 153, 0, 8, 16, 8, 167, 0, 7, 43]
abbrev dktX6_clear_0 : List UInt8 := dkwX6_clear_0 ++ dktX6_clear_1
theorem dksX6_clear_0 : cX6_clear.data.toList.drop 0 = dktX6_clear_0 := by decide +kernel
theorem dksX6_clear_1 : cX6_clear.data.toList.drop 22 = dktX6_clear_1 := dk_seg dksX6_clear_0 22 rfl rfl
theorem dX6_clear_0 : decode cX6_clear 0 = .ok (.aload_n 0, 1) := dk_42 (dk_at dksX6_clear_0 0 rfl rfl)
theorem dX6_clear_1 : decode cX6_clear 1 = .ok (.aload_n 1, 1) := dk_43 (dk_at dksX6_clear_0 1 rfl rfl)
theorem dX6_clear_2 : decode cX6_clear 2 = .ok (.ifnonnull 7, 3) := dk_199 0 7 (dk_at dksX6_clear_0 2 rfl rfl)
theorem dX6_clear_5 : decode cX6_clear 5 = .ok (.iconst 4, 1) := dk_7 (dk_at dksX6_clear_0 5 rfl rfl)
theorem dX6_clear_6 : decode cX6_clear 6 = .ok (.goto 19, 3) := dk_167 0 19 (dk_at dksX6_clear_0 6 rfl rfl)
theorem dX6_clear_9 : decode cX6_clear 9 = .ok (.aload_n 1, 1) := dk_43 (dk_at dksX6_clear_0 9 rfl rfl)
theorem dX6_clear_10 : decode cX6_clear 10 = .ok (.invokevirtual 23, 3) := dk_182 0 23 (dk_at dksX6_clear_0 10 rfl rfl)
theorem dX6_clear_13 : decode cX6_clear 13 = .ok (.ifCond .eq 8, 3) := dk_153 0 8 (dk_at dksX6_clear_0 13 rfl rfl)
theorem dX6_clear_16 : decode cX6_clear 16 = .ok (.bipush 8, 2) := dk_16 8 (dk_at dksX6_clear_0 16 rfl rfl)
theorem dX6_clear_18 : decode cX6_clear 18 = .ok (.goto 7, 3) := dk_167 0 7 (dk_at dksX6_clear_0 18 rfl rfl)
theorem dX6_clear_21 : decode cX6_clear 21 = .ok (.aload_n 1, 1) := dk_43 (dk_at dksX6_clear_0 21 rfl rfl)
theorem dX6_clear_22 : decode cX6_clear 22 = .ok (.invokevirtual 29, 3) := dk_182 0 29 (dk_at dksX6_clear_1 0 rfl rfl)
theorem dX6_clear_25 : decode cX6_clear 25 = .ok (.putfield 9, 3) := dk_181 0 9 (dk_at dksX6_clear_1 3 rfl rfl)
theorem dX6_clear_28 : decode cX6_clear 28 = .ok (.aload_n 0, 1) := dk_42 (dk_at dksX6_clear_1 6 rfl rfl)
theorem dX6_clear_29 : decode cX6_clear 29 = .ok (.lconst 0, 1) := dk_9 (dk_at dksX6_clear_1 7 rfl rfl)
theorem dX6_clear_30 : decode cX6_clear 30 = .ok (.putfield 15, 3) := dk_181 0 15 (dk_at dksX6_clear_1 8 rfl rfl)
theorem dX6_clear_33 : decode cX6_clear 33 = .ok (.aload_n 0, 1) := dk_42 (dk_at dksX6_clear_1 11 rfl rfl)
theorem dX6_clear_34 : decode cX6_clear 34 = .ok (.aconst_null, 1) := dk_1 (dk_at dksX6_clear_1 12 rfl rfl)
theorem dX6_clear_35 : decode cX6_clear 35 = .ok (.putfield 19, 3) := dk_181 0 19 (dk_at dksX6_clear_1 13 rfl rfl)
theorem dX6_clear_38 : decode cX6_clear 38 = .ok (.return_, 1) := dk_177 (dk_at dksX6_clear_1 16 rfl rfl)
theorem q96 : (Jvm.Cond.initialized "ReflectMirror$Cell") ∈ lw_all := lw_g (lw_at lw_m1 7 rfl) rfl
theorem q241 : (Jvm.Cond.instantiable "ReflectMirror$Cell" (3 : Nat)) ∈ lw_all := lw_g (lw_at lw_m1 152 rfl) rfl
theorem q243 : (Jvm.Cond.instanceMethod ({ cls := "ReflectMirror$Cell", name := "<init>", desc := "()V" } : Jvm.MethodName)) ∈ lw_all := lw_g (lw_at lw_m1 154 rfl) rfl
theorem q244 : (Jvm.Cond.code ({ cls := "ReflectMirror$Cell", name := "<init>", desc := "()V" } : Jvm.MethodName) prog_6_method_1_code (1 : Nat) (Option.none : Option Jvm.ClassFile.FieldType)) ∈ lw_all := lw_g (lw_at lw_m1 155 rfl) rfl
theorem q245 : (Jvm.Cond.methodLink "ReflectMirror$Cell" (3 : Nat) ({ cls := "java/lang/Object", name := "<init>", desc := "()V" } : Jvm.MethodName)) ∈ lw_all := lw_g (lw_at lw_m1 156 rfl) rfl
theorem q246 : (Jvm.Cond.fieldLink "ReflectMirror$Cell" (9 : Nat) "ReflectMirror$Cell" "as" "I") ∈ lw_all := lw_g (lw_at lw_m1 157 rfl) rfl
theorem q248 : (Jvm.Cond.fieldLink "ReflectMirror$Cell" (15 : Nat) "ReflectMirror$Cell" "bits" "J") ∈ lw_all := lw_g (lw_at lw_m1 159 rfl) rfl
theorem q252 : (Jvm.Cond.fieldLink "ReflectMirror$Cell" (19 : Nat) "ReflectMirror$Cell" "thing" "LReflectMirror$Thing;") ∈ lw_all := lw_g (lw_at lw_m1 163 rfl) rfl
theorem q255 : (Jvm.Cond.lays "ReflectMirror$Cell" "ReflectMirror$Cell" "as" "I") ∈ lw_all := lw_g (lw_at lw_m1 166 rfl) rfl
theorem q256 : (Jvm.Cond.soleField "ReflectMirror$Cell" "as") ∈ lw_all := lw_g (lw_at lw_m1 167 rfl) rfl
theorem q257 : (Jvm.Cond.lays "ReflectMirror$Cell" "ReflectMirror$Cell" "bits" "J") ∈ lw_all := lw_g (lw_at lw_m1 168 rfl) rfl
theorem q258 : (Jvm.Cond.soleField "ReflectMirror$Cell" "bits") ∈ lw_all := lw_g (lw_at lw_m1 169 rfl) rfl
theorem q259 : (Jvm.Cond.lays "ReflectMirror$Cell" "ReflectMirror$Cell" "thing" "LReflectMirror$Thing;") ∈ lw_all := lw_g (lw_at lw_m1 170 rfl) rfl
theorem q260 : (Jvm.Cond.soleField "ReflectMirror$Cell" "thing") ∈ lw_all := lw_g (lw_at lw_m1 171 rfl) rfl
theorem q261 : (Jvm.Cond.superclass "ReflectMirror$Cell" "java/lang/Object") ∈ lw_all := lw_g (lw_at lw_m1 172 rfl) rfl
theorem q1575 : (Jvm.Cond.instanceMethod ({ cls := "ReflectMirror$Cell", name := "become", desc := "(LReflectMirror$Cell;)V" } : Jvm.MethodName)) ∈ lw_all := lw_g (lw_at lw_m7 46 rfl) rfl
theorem q1576 : (Jvm.Cond.selects "ReflectMirror$Cell" ({ cls := "ReflectMirror$Cell", name := "become", desc := "(LReflectMirror$Cell;)V" } : Jvm.MethodName) ({ cls := "ReflectMirror$Cell", name := "become", desc := "(LReflectMirror$Cell;)V" } : Jvm.MethodName)) ∈ lw_all := lw_g (lw_at lw_m7 47 rfl) rfl
theorem q1577 : (Jvm.Cond.code ({ cls := "ReflectMirror$Cell", name := "become", desc := "(LReflectMirror$Cell;)V" } : Jvm.MethodName) prog_6_method_2_code (2 : Nat) (Option.none : Option Jvm.ClassFile.FieldType)) ∈ lw_all := lw_g (lw_at lw_m7 48 rfl) rfl
theorem q1608 : (Jvm.Cond.instanceMethod ({ cls := "ReflectMirror$Cell", name := "single", desc := "()F" } : Jvm.MethodName)) ∈ lw_all := lw_g (lw_at lw_m7 79 rfl) rfl
theorem q1609 : (Jvm.Cond.selects "ReflectMirror$Cell" ({ cls := "ReflectMirror$Cell", name := "single", desc := "()F" } : Jvm.MethodName) ({ cls := "ReflectMirror$Cell", name := "single", desc := "()F" } : Jvm.MethodName)) ∈ lw_all := lw_g (lw_at lw_m7 80 rfl) rfl
theorem q1610 : (Jvm.Cond.code ({ cls := "ReflectMirror$Cell", name := "single", desc := "()F" } : Jvm.MethodName) prog_6_method_5_code (1 : Nat) (Option.some Jvm.ClassFile.FieldType.float)) ∈ lw_all := lw_g (lw_at lw_m7 81 rfl) rfl
theorem q1611 : (Jvm.Cond.methodLink "ReflectMirror$Cell" (39 : Nat) ({ cls := "java/lang/Float", name := "intBitsToFloat", desc := "(I)F" } : Jvm.MethodName)) ∈ lw_all := lw_g (lw_at lw_m7 82 rfl) rfl
theorem q1618 : (Jvm.Cond.instanceMethod ({ cls := "ReflectMirror$Cell", name := "real", desc := "()D" } : Jvm.MethodName)) ∈ lw_all := lw_g (lw_at lw_m7 89 rfl) rfl
theorem q1619 : (Jvm.Cond.selects "ReflectMirror$Cell" ({ cls := "ReflectMirror$Cell", name := "real", desc := "()D" } : Jvm.MethodName) ({ cls := "ReflectMirror$Cell", name := "real", desc := "()D" } : Jvm.MethodName)) ∈ lw_all := lw_g (lw_at lw_m7 90 rfl) rfl
theorem q1620 : (Jvm.Cond.code ({ cls := "ReflectMirror$Cell", name := "real", desc := "()D" } : Jvm.MethodName) prog_6_method_4_code (1 : Nat) (Option.some Jvm.ClassFile.FieldType.double)) ∈ lw_all := lw_g (lw_at lw_m7 91 rfl) rfl
theorem q1621 : (Jvm.Cond.methodLink "ReflectMirror$Cell" (33 : Nat) ({ cls := "java/lang/Double", name := "longBitsToDouble", desc := "(J)D" } : Jvm.MethodName)) ∈ lw_all := lw_g (lw_at lw_m7 92 rfl) rfl
theorem q1719 : (Jvm.Cond.instanceMethod ({ cls := "ReflectMirror$Cell", name := "widenTo", desc := "(LReflectMirror$Type;)V" } : Jvm.MethodName)) ∈ lw_all := lw_g (lw_at lw_m7 190 rfl) rfl
theorem q1720 : (Jvm.Cond.selects "ReflectMirror$Cell" ({ cls := "ReflectMirror$Cell", name := "widenTo", desc := "(LReflectMirror$Type;)V" } : Jvm.MethodName) ({ cls := "ReflectMirror$Cell", name := "widenTo", desc := "(LReflectMirror$Type;)V" } : Jvm.MethodName)) ∈ lw_all := lw_g (lw_at lw_m7 191 rfl) rfl
theorem q1721 : (Jvm.Cond.code ({ cls := "ReflectMirror$Cell", name := "widenTo", desc := "(LReflectMirror$Type;)V" } : Jvm.MethodName) prog_6_method_7_code (2 : Nat) (Option.none : Option Jvm.ClassFile.FieldType)) ∈ lw_all := lw_g (lw_at lw_m7 192 rfl) rfl
theorem q1722 : (Jvm.Cond.methodLink "ReflectMirror$Cell" (23 : Nat) ({ cls := "ReflectMirror$Type", name := "isReference", desc := "()Z" } : Jvm.MethodName)) ∈ lw_all := lw_g (lw_at lw_m7 193 rfl) rfl
theorem q1723 : (Jvm.Cond.methodLink "ReflectMirror$Cell" (29 : Nat) ({ cls := "ReflectMirror$Type", name := "number", desc := "()I" } : Jvm.MethodName)) ∈ lw_all := lw_g (lw_at lw_m7 194 rfl) rfl
theorem q1724 : (Jvm.Cond.methodLink "ReflectMirror$Cell" (61 : Nat) ({ cls := "ReflectMirror$Cell", name := "widen", desc := "(I)V" } : Jvm.MethodName)) ∈ lw_all := lw_g (lw_at lw_m7 195 rfl) rfl
theorem q1725 : (Jvm.Cond.instanceMethod ({ cls := "ReflectMirror$Cell", name := "widen", desc := "(I)V" } : Jvm.MethodName)) ∈ lw_all := lw_g (lw_at lw_m7 196 rfl) rfl
theorem q1726 : (Jvm.Cond.selects "ReflectMirror$Cell" ({ cls := "ReflectMirror$Cell", name := "widen", desc := "(I)V" } : Jvm.MethodName) ({ cls := "ReflectMirror$Cell", name := "widen", desc := "(I)V" } : Jvm.MethodName)) ∈ lw_all := lw_g (lw_at lw_m7 197 rfl) rfl
theorem q1727 : (Jvm.Cond.code ({ cls := "ReflectMirror$Cell", name := "widen", desc := "(I)V" } : Jvm.MethodName) prog_6_method_6_code (2 : Nat) (Option.none : Option Jvm.ClassFile.FieldType)) ∈ lw_all := lw_g (lw_at lw_m7 198 rfl) rfl
theorem q1728 : (Jvm.Cond.methodLink "ReflectMirror$Cell" (45 : Nat) ({ cls := "ReflectMirror$Cell", name := "real", desc := "()D" } : Jvm.MethodName)) ∈ lw_all := lw_g (lw_at lw_m7 199 rfl) rfl
theorem q1729 : (Jvm.Cond.methodLink "ReflectMirror$Cell" (49 : Nat) ({ cls := "java/lang/Double", name := "doubleToLongBits", desc := "(D)J" } : Jvm.MethodName)) ∈ lw_all := lw_g (lw_at lw_m7 200 rfl) rfl
theorem q1730 : (Jvm.Cond.methodLink "ReflectMirror$Cell" (53 : Nat) ({ cls := "ReflectMirror$Cell", name := "single", desc := "()F" } : Jvm.MethodName)) ∈ lw_all := lw_g (lw_at lw_m7 201 rfl) rfl
theorem q1731 : (Jvm.Cond.methodLink "ReflectMirror$Cell" (57 : Nat) ({ cls := "java/lang/Float", name := "floatToIntBits", desc := "(F)I" } : Jvm.MethodName)) ∈ lw_all := lw_g (lw_at lw_m7 202 rfl) rfl
theorem q1789 : (Jvm.Cond.instanceMethod ({ cls := "ReflectMirror$Cell", name := "clear", desc := "(LReflectMirror$Type;)V" } : Jvm.MethodName)) ∈ lw_all := lw_g (lw_at lw_m8 20 rfl) rfl
theorem q1790 : (Jvm.Cond.selects "ReflectMirror$Cell" ({ cls := "ReflectMirror$Cell", name := "clear", desc := "(LReflectMirror$Type;)V" } : Jvm.MethodName) ({ cls := "ReflectMirror$Cell", name := "clear", desc := "(LReflectMirror$Type;)V" } : Jvm.MethodName)) ∈ lw_all := lw_g (lw_at lw_m8 21 rfl) rfl
theorem q1791 : (Jvm.Cond.code ({ cls := "ReflectMirror$Cell", name := "clear", desc := "(LReflectMirror$Type;)V" } : Jvm.MethodName) prog_6_method_3_code (2 : Nat) (Option.none : Option Jvm.ClassFile.FieldType)) ∈ lw_all := lw_g (lw_at lw_m8 22 rfl) rfl
theorem q2594 : (Jvm.Cond.castable "ReflectMirror$Cell" "java/lang/Object") ∈ lw_tbl := lw_at lw_m11 105 rfl
theorem in_X6 : ∀ w ∈ wsX60, w ∈ lw_all := lw_in wsX60 [255, 257, 259] (by decide +kernel) (by decide +kernel)

/-! ReflectMirror$Rows -/
set_option maxRecDepth 100000
def RX8 : String := "ReflectMirror$Rows"
def TX8 : u_T := fun k => match k with
  | 0 => ("ReflectMirror$Type", "number", "I", true)
  | 1 => ("ReflectMirror$Type", "pack", "I", true)
  | 2 => ("ReflectMirror$Type", "faces", "[LReflectMirror$Type;", true)
  | 3 => ("ReflectMirror$Type", "faceMany", "I", false)
  | 4 => ("ReflectMirror$Type", "above", "[LReflectMirror$Type;", true)
  | 5 => ("ReflectMirror$Type", "aboveMany", "I", false)
  | 6 => ("ReflectMirror$Type", "has", "[Z", true)
  | 7 => ("ReflectMirror$Type", "rows", "LReflectMirror$Type;", false)
  | 8 => ("ReflectMirror$Rows", "of", "LReflectMirror$Type;", true)
  | _ => ("ReflectMirror$Rows", "root", "LReflectMirror$Type;", true)
def tyX8 : Nat → FieldType := fun k => match k with
  | 0 => .int
  | 1 => .int
  | 2 => .array (.object "ReflectMirror$Type")
  | 3 => .int
  | 4 => .array (.object "ReflectMirror$Type")
  | 5 => .int
  | 6 => .array .boolean
  | 7 => .object "ReflectMirror$Type"
  | 8 => .object "ReflectMirror$Type"
  | _ => .object "ReflectMirror$Type"
abbrev wsX80 : List Cond := u_ws RX8 TX8 10
theorem nmX8 : ∀ a, a < 10 → ∀ b, b < 10 → a ≠ b → (TX8 a).2.1 ≠ (TX8 b).2.1 := by decide +kernel
theorem tyX8_ok : ∀ k, k < 10 → parseFieldDescriptor (TX8 k).2.2.1 = some (tyX8 k) := by decide +kernel
abbrev cX8_climb : ByteArray := prog_23_method_5_code
def yX8_climb : MethodName := ⟨RX8, "climb", "(LReflectMirror$Type;)V"⟩
def dkwX8_climb_0 : List UInt8 := [42, 43, 183, 0, 20, 42, 43, 182, 0, 24, 177]
abbrev dktX8_climb_0 : List UInt8 := dkwX8_climb_0 ++ []
theorem dksX8_climb_0 : cX8_climb.data.toList.drop 0 = dktX8_climb_0 := by decide +kernel
theorem dX8_climb_0 : decode cX8_climb 0 = .ok (.aload_n 0, 1) := dk_42 (dk_at dksX8_climb_0 0 rfl rfl)
theorem dX8_climb_1 : decode cX8_climb 1 = .ok (.aload_n 1, 1) := dk_43 (dk_at dksX8_climb_0 1 rfl rfl)
theorem dX8_climb_2 : decode cX8_climb 2 = .ok (.invokespecial 20, 3) := dk_183 0 20 (dk_at dksX8_climb_0 2 rfl rfl)
theorem dX8_climb_5 : decode cX8_climb 5 = .ok (.aload_n 0, 1) := dk_42 (dk_at dksX8_climb_0 5 rfl rfl)
theorem dX8_climb_6 : decode cX8_climb 6 = .ok (.aload_n 1, 1) := dk_43 (dk_at dksX8_climb_0 6 rfl rfl)
theorem dX8_climb_7 : decode cX8_climb 7 = .ok (.invokevirtual 24, 3) := dk_182 0 24 (dk_at dksX8_climb_0 7 rfl rfl)
theorem dX8_climb_10 : decode cX8_climb 10 = .ok (.return_, 1) := dk_177 (dk_at dksX8_climb_0 10 rfl rfl)
abbrev cX8_init : ByteArray := prog_23_method_1_code
def yX8_init : MethodName := ⟨RX8, "<init>", "(ILReflectMirror$Type;LReflectMirror$Type;)V"⟩
def dkwX8_init_0 : List UInt8 := [42, 27, 44, 180, 0, 1, 183, 0, 7, 42, 44, 181, 0, 11, 42, 45, 181, 0, 17, 177]
abbrev dktX8_init_0 : List UInt8 := dkwX8_init_0 ++ []
theorem dksX8_init_0 : cX8_init.data.toList.drop 0 = dktX8_init_0 := by decide +kernel
theorem dX8_init_0 : decode cX8_init 0 = .ok (.aload_n 0, 1) := dk_42 (dk_at dksX8_init_0 0 rfl rfl)
theorem dX8_init_1 : decode cX8_init 1 = .ok (.iload_n 1, 1) := dk_27 (dk_at dksX8_init_0 1 rfl rfl)
theorem dX8_init_2 : decode cX8_init 2 = .ok (.aload_n 2, 1) := dk_44 (dk_at dksX8_init_0 2 rfl rfl)
theorem dX8_init_3 : decode cX8_init 3 = .ok (.getfield 1, 3) := dk_180 0 1 (dk_at dksX8_init_0 3 rfl rfl)
theorem dX8_init_6 : decode cX8_init 6 = .ok (.invokespecial 7, 3) := dk_183 0 7 (dk_at dksX8_init_0 6 rfl rfl)
theorem dX8_init_9 : decode cX8_init 9 = .ok (.aload_n 0, 1) := dk_42 (dk_at dksX8_init_0 9 rfl rfl)
theorem dX8_init_10 : decode cX8_init 10 = .ok (.aload_n 2, 1) := dk_44 (dk_at dksX8_init_0 10 rfl rfl)
theorem dX8_init_11 : decode cX8_init 11 = .ok (.putfield 11, 3) := dk_181 0 11 (dk_at dksX8_init_0 11 rfl rfl)
theorem dX8_init_14 : decode cX8_init 14 = .ok (.aload_n 0, 1) := dk_42 (dk_at dksX8_init_0 14 rfl rfl)
theorem dX8_init_15 : decode cX8_init 15 = .ok (.aload_n 3, 1) := dk_45 (dk_at dksX8_init_0 15 rfl rfl)
theorem dX8_init_16 : decode cX8_init 16 = .ok (.putfield 17, 3) := dk_181 0 17 (dk_at dksX8_init_0 16 rfl rfl)
theorem dX8_init_19 : decode cX8_init 19 = .ok (.return_, 1) := dk_177 (dk_at dksX8_init_0 19 rfl rfl)
abbrev cX8_what : ByteArray := prog_23_method_2_code
def yX8_what : MethodName := ⟨RX8, "what", "()I"⟩
theorem dX8_what_0 : decode cX8_what 0 = .ok (.iconst 4, 1) := by decide +kernel
theorem dX8_what_1 : decode cX8_what 1 = .ok (.ireturn, 1) := by decide +kernel
abbrev cX8_parent : ByteArray := prog_23_method_3_code
def yX8_parent : MethodName := ⟨RX8, "parent", "()LReflectMirror$Type;"⟩
theorem dX8_parent_0 : decode cX8_parent 0 = .ok (.aload_n 0, 1) := by decide +kernel
theorem dX8_parent_1 : decode cX8_parent 1 = .ok (.getfield 17, 3) := by decide +kernel
theorem dX8_parent_4 : decode cX8_parent 4 = .ok (.areturn, 1) := by decide +kernel
abbrev cX8_of : ByteArray := prog_23_method_4_code
def yX8_of : MethodName := ⟨RX8, "of", "()LReflectMirror$Type;"⟩
theorem dX8_of_0 : decode cX8_of 0 = .ok (.aload_n 0, 1) := by decide +kernel
theorem dX8_of_1 : decode cX8_of 1 = .ok (.getfield 11, 3) := by decide +kernel
theorem dX8_of_4 : decode cX8_of 4 = .ok (.areturn, 1) := by decide +kernel
abbrev cX8_is : ByteArray := prog_23_method_6_code
def yX8_is : MethodName := ⟨RX8, "is", "(LReflectMirror$Type;)Z"⟩
def dkwX8_is_2 : List UInt8 := [167, 0, 4, 3, 172]
abbrev dktX8_is_2 : List UInt8 := dkwX8_is_2 ++ []
def dkwX8_is_1 : List UInt8 := [153, 0, 25, 44, 182, 0, 34, 153, 0, 18, 42, 180, 0, 11, 44, 182, 0, 30, 153, 0, 7, 4]
abbrev dktX8_is_1 : List UInt8 := dkwX8_is_1 ++ dktX8_is_2
def dkwX8_is_0 : List UInt8 := [43, 182, 0, 27, 77, 42, 43, 183, 0, 30, 154, 0, 35, 44, 198, 0, 35, 42, 180, 0, 11, 182, 0, 34]
abbrev dktX8_is_0 : List UInt8 := dkwX8_is_0 ++ dktX8_is_1
theorem dksX8_is_0 : cX8_is.data.toList.drop 0 = dktX8_is_0 := by decide +kernel
theorem dksX8_is_1 : cX8_is.data.toList.drop 24 = dktX8_is_1 := dk_seg dksX8_is_0 24 rfl rfl
theorem dksX8_is_2 : cX8_is.data.toList.drop 46 = dktX8_is_2 := dk_seg dksX8_is_1 22 rfl rfl
theorem dX8_is_0 : decode cX8_is 0 = .ok (.aload_n 1, 1) := dk_43 (dk_at dksX8_is_0 0 rfl rfl)
theorem dX8_is_1 : decode cX8_is 1 = .ok (.invokevirtual 27, 3) := dk_182 0 27 (dk_at dksX8_is_0 1 rfl rfl)
theorem dX8_is_4 : decode cX8_is 4 = .ok (.astore_n 2, 1) := dk_77 (dk_at dksX8_is_0 4 rfl rfl)
theorem dX8_is_5 : decode cX8_is 5 = .ok (.aload_n 0, 1) := dk_42 (dk_at dksX8_is_0 5 rfl rfl)
theorem dX8_is_6 : decode cX8_is 6 = .ok (.aload_n 1, 1) := dk_43 (dk_at dksX8_is_0 6 rfl rfl)
theorem dX8_is_7 : decode cX8_is 7 = .ok (.invokespecial 30, 3) := dk_183 0 30 (dk_at dksX8_is_0 7 rfl rfl)
theorem dX8_is_10 : decode cX8_is 10 = .ok (.ifCond .ne 35, 3) := dk_154 0 35 (dk_at dksX8_is_0 10 rfl rfl)
theorem dX8_is_13 : decode cX8_is 13 = .ok (.aload_n 2, 1) := dk_44 (dk_at dksX8_is_0 13 rfl rfl)
theorem dX8_is_14 : decode cX8_is 14 = .ok (.ifnull 35, 3) := dk_198 0 35 (dk_at dksX8_is_0 14 rfl rfl)
theorem dX8_is_17 : decode cX8_is 17 = .ok (.aload_n 0, 1) := dk_42 (dk_at dksX8_is_0 17 rfl rfl)
theorem dX8_is_18 : decode cX8_is 18 = .ok (.getfield 11, 3) := dk_180 0 11 (dk_at dksX8_is_0 18 rfl rfl)
theorem dX8_is_21 : decode cX8_is 21 = .ok (.invokevirtual 34, 3) := dk_182 0 34 (dk_at dksX8_is_0 21 rfl rfl)
theorem dX8_is_24 : decode cX8_is 24 = .ok (.ifCond .eq 25, 3) := dk_153 0 25 (dk_at dksX8_is_1 0 rfl rfl)
theorem dX8_is_27 : decode cX8_is 27 = .ok (.aload_n 2, 1) := dk_44 (dk_at dksX8_is_1 3 rfl rfl)
theorem dX8_is_28 : decode cX8_is 28 = .ok (.invokevirtual 34, 3) := dk_182 0 34 (dk_at dksX8_is_1 4 rfl rfl)
theorem dX8_is_31 : decode cX8_is 31 = .ok (.ifCond .eq 18, 3) := dk_153 0 18 (dk_at dksX8_is_1 7 rfl rfl)
theorem dX8_is_34 : decode cX8_is 34 = .ok (.aload_n 0, 1) := dk_42 (dk_at dksX8_is_1 10 rfl rfl)
theorem dX8_is_35 : decode cX8_is 35 = .ok (.getfield 11, 3) := dk_180 0 11 (dk_at dksX8_is_1 11 rfl rfl)
theorem dX8_is_38 : decode cX8_is 38 = .ok (.aload_n 2, 1) := dk_44 (dk_at dksX8_is_1 14 rfl rfl)
theorem dX8_is_39 : decode cX8_is 39 = .ok (.invokevirtual 30, 3) := dk_182 0 30 (dk_at dksX8_is_1 15 rfl rfl)
theorem dX8_is_42 : decode cX8_is 42 = .ok (.ifCond .eq 7, 3) := dk_153 0 7 (dk_at dksX8_is_1 18 rfl rfl)
theorem dX8_is_45 : decode cX8_is 45 = .ok (.iconst 1, 1) := dk_4 (dk_at dksX8_is_1 21 rfl rfl)
theorem dX8_is_46 : decode cX8_is 46 = .ok (.goto 4, 3) := dk_167 0 4 (dk_at dksX8_is_2 0 rfl rfl)
theorem dX8_is_49 : decode cX8_is 49 = .ok (.iconst 0, 1) := dk_3 (dk_at dksX8_is_2 3 rfl rfl)
theorem dX8_is_50 : decode cX8_is 50 = .ok (.ireturn, 1) := dk_172 (dk_at dksX8_is_2 4 rfl rfl)
abbrev cX8_row : ByteArray := prog_23_method_7_code
def yX8_row : MethodName := ⟨RX8, "row", "(I)Ljava/lang/Object;"⟩
theorem dX8_row_0 : decode cX8_row 0 = .ok (.iload_n 1, 1) := by decide +kernel
theorem dX8_row_1 : decode cX8_row 1 = .ok (.anewarray 38, 3) := by decide +kernel
theorem dX8_row_4 : decode cX8_row 4 = .ok (.areturn, 1) := by decide +kernel
theorem q98 : (Jvm.Cond.initialized "ReflectMirror$Rows") ∈ lw_all := lw_g (lw_at lw_m1 9 rfl) rfl
theorem q176 : (Jvm.Cond.fieldLink "ReflectMirror$Rows" (1 : Nat) "ReflectMirror$Type" "pack" "I") ∈ lw_all := lw_g (lw_at lw_m1 87 rfl) rfl
theorem q281 : (Jvm.Cond.selects "ReflectMirror$Rows" ({ cls := "ReflectMirror$Type", name := "clear", desc := "()V" } : Jvm.MethodName) ({ cls := "ReflectMirror$Type", name := "clear", desc := "()V" } : Jvm.MethodName)) ∈ lw_all := lw_g (lw_at lw_m1 192 rfl) rfl
theorem q289 : (Jvm.Cond.selects "ReflectMirror$Rows" ({ cls := "ReflectMirror$Type", name := "add", desc := "(LReflectMirror$Type;)V" } : Jvm.MethodName) ({ cls := "ReflectMirror$Type", name := "add", desc := "(LReflectMirror$Type;)V" } : Jvm.MethodName)) ∈ lw_all := lw_g (lw_at lw_m1 200 rfl) rfl
theorem q317 : (Jvm.Cond.selects "ReflectMirror$Rows" ({ cls := "ReflectMirror$Type", name := "climb", desc := "(LReflectMirror$Type;)V" } : Jvm.MethodName) ({ cls := "ReflectMirror$Rows", name := "climb", desc := "(LReflectMirror$Type;)V" } : Jvm.MethodName)) ∈ lw_all := lw_g (lw_at lw_m1 228 rfl) rfl
theorem q318 : (Jvm.Cond.instanceMethod ({ cls := "ReflectMirror$Rows", name := "climb", desc := "(LReflectMirror$Type;)V" } : Jvm.MethodName)) ∈ lw_all := lw_g (lw_at lw_m1 229 rfl) rfl
theorem q319 : (Jvm.Cond.code ({ cls := "ReflectMirror$Rows", name := "climb", desc := "(LReflectMirror$Type;)V" } : Jvm.MethodName) prog_23_method_5_code (2 : Nat) (Option.none : Option Jvm.ClassFile.FieldType)) ∈ lw_all := lw_g (lw_at lw_m1 230 rfl) rfl
theorem q320 : (Jvm.Cond.methodLink "ReflectMirror$Rows" (20 : Nat) ({ cls := "ReflectMirror$Type", name := "climb", desc := "(LReflectMirror$Type;)V" } : Jvm.MethodName)) ∈ lw_all := lw_g (lw_at lw_m1 231 rfl) rfl
theorem q321 : (Jvm.Cond.superclass "ReflectMirror$Rows" "ReflectMirror$Type") ∈ lw_all := lw_g (lw_at lw_m1 232 rfl) rfl
theorem q322 : (Jvm.Cond.methodLink "ReflectMirror$Rows" (24 : Nat) ({ cls := "ReflectMirror$Rows", name := "add", desc := "(LReflectMirror$Type;)V" } : Jvm.MethodName)) ∈ lw_all := lw_g (lw_at lw_m1 233 rfl) rfl
theorem q323 : (Jvm.Cond.sameMethod "ReflectMirror$Rows" "ReflectMirror$Type" "add" "(LReflectMirror$Type;)V") ∈ lw_all := lw_g (lw_at lw_m1 234 rfl) rfl
theorem q324 : (Jvm.Cond.selects "ReflectMirror$Rows" ({ cls := "ReflectMirror$Rows", name := "add", desc := "(LReflectMirror$Type;)V" } : Jvm.MethodName) ({ cls := "ReflectMirror$Type", name := "add", desc := "(LReflectMirror$Type;)V" } : Jvm.MethodName)) ∈ lw_all := lw_g (lw_at lw_m1 235 rfl) rfl
theorem q389 : (Jvm.Cond.selects "ReflectMirror$Rows" ({ cls := "ReflectMirror$Type", name := "isClass", desc := "()Z" } : Jvm.MethodName) ({ cls := "ReflectMirror$Type", name := "isClass", desc := "()Z" } : Jvm.MethodName)) ∈ lw_all := lw_g (lw_at lw_m2 60 rfl) rfl
theorem q402 : (Jvm.Cond.selects "ReflectMirror$Rows" ({ cls := "ReflectMirror$Type", name := "number", desc := "()I" } : Jvm.MethodName) ({ cls := "ReflectMirror$Type", name := "number", desc := "()I" } : Jvm.MethodName)) ∈ lw_all := lw_g (lw_at lw_m2 73 rfl) rfl
theorem q424 : (Jvm.Cond.instantiable "ReflectMirror$Rows" (10 : Nat)) ∈ lw_all := lw_g (lw_at lw_m2 95 rfl) rfl
theorem q426 : (Jvm.Cond.instanceMethod ({ cls := "ReflectMirror$Rows", name := "<init>", desc := "(ILReflectMirror$Type;LReflectMirror$Type;)V" } : Jvm.MethodName)) ∈ lw_all := lw_g (lw_at lw_m2 97 rfl) rfl
theorem q427 : (Jvm.Cond.code ({ cls := "ReflectMirror$Rows", name := "<init>", desc := "(ILReflectMirror$Type;LReflectMirror$Type;)V" } : Jvm.MethodName) prog_23_method_1_code (4 : Nat) (Option.none : Option Jvm.ClassFile.FieldType)) ∈ lw_all := lw_g (lw_at lw_m2 98 rfl) rfl
theorem q428 : (Jvm.Cond.methodLink "ReflectMirror$Rows" (7 : Nat) ({ cls := "ReflectMirror$Type", name := "<init>", desc := "(II)V" } : Jvm.MethodName)) ∈ lw_all := lw_g (lw_at lw_m2 99 rfl) rfl
theorem q429 : (Jvm.Cond.fieldLink "ReflectMirror$Rows" (11 : Nat) "ReflectMirror$Rows" "of" "LReflectMirror$Type;") ∈ lw_all := lw_g (lw_at lw_m2 100 rfl) rfl
theorem q430 : (Jvm.Cond.fieldLink "ReflectMirror$Rows" (17 : Nat) "ReflectMirror$Rows" "root" "LReflectMirror$Type;") ∈ lw_all := lw_g (lw_at lw_m2 101 rfl) rfl
theorem q431 : (Jvm.Cond.laysFinal "ReflectMirror$Rows" "ReflectMirror$Rows" "of" "LReflectMirror$Type;") ∈ lw_all := lw_g (lw_at lw_m2 102 rfl) rfl
theorem q432 : (Jvm.Cond.soleField "ReflectMirror$Rows" "of") ∈ lw_all := lw_g (lw_at lw_m2 103 rfl) rfl
theorem q433 : (Jvm.Cond.laysFinal "ReflectMirror$Rows" "ReflectMirror$Rows" "root" "LReflectMirror$Type;") ∈ lw_all := lw_g (lw_at lw_m2 104 rfl) rfl
theorem q434 : (Jvm.Cond.soleField "ReflectMirror$Rows" "root") ∈ lw_all := lw_g (lw_at lw_m2 105 rfl) rfl
theorem q435 : (Jvm.Cond.laysFinal "ReflectMirror$Rows" "ReflectMirror$Type" "number" "I") ∈ lw_all := lw_g (lw_at lw_m2 106 rfl) rfl
theorem q436 : (Jvm.Cond.laysFinal "ReflectMirror$Rows" "ReflectMirror$Type" "pack" "I") ∈ lw_all := lw_g (lw_at lw_m2 107 rfl) rfl
theorem q437 : (Jvm.Cond.laysFinal "ReflectMirror$Rows" "ReflectMirror$Type" "faces" "[LReflectMirror$Type;") ∈ lw_all := lw_g (lw_at lw_m2 108 rfl) rfl
theorem q438 : (Jvm.Cond.lays "ReflectMirror$Rows" "ReflectMirror$Type" "faceMany" "I") ∈ lw_all := lw_g (lw_at lw_m2 109 rfl) rfl
theorem q439 : (Jvm.Cond.laysFinal "ReflectMirror$Rows" "ReflectMirror$Type" "above" "[LReflectMirror$Type;") ∈ lw_all := lw_g (lw_at lw_m2 110 rfl) rfl
theorem q440 : (Jvm.Cond.lays "ReflectMirror$Rows" "ReflectMirror$Type" "aboveMany" "I") ∈ lw_all := lw_g (lw_at lw_m2 111 rfl) rfl
theorem q441 : (Jvm.Cond.laysFinal "ReflectMirror$Rows" "ReflectMirror$Type" "has" "[Z") ∈ lw_all := lw_g (lw_at lw_m2 112 rfl) rfl
theorem q442 : (Jvm.Cond.lays "ReflectMirror$Rows" "ReflectMirror$Type" "rows" "LReflectMirror$Type;") ∈ lw_all := lw_g (lw_at lw_m2 113 rfl) rfl
theorem q457 : (Jvm.Cond.selects "ReflectMirror$Rows" ({ cls := "ReflectMirror$Type", name := "declares", desc := "()Z" } : Jvm.MethodName) ({ cls := "ReflectMirror$Type", name := "declares", desc := "()Z" } : Jvm.MethodName)) ∈ lw_all := lw_g (lw_at lw_m2 128 rfl) rfl
theorem q471 : (Jvm.Cond.selects "ReflectMirror$Rows" ({ cls := "ReflectMirror$Type", name := "what", desc := "()I" } : Jvm.MethodName) ({ cls := "ReflectMirror$Rows", name := "what", desc := "()I" } : Jvm.MethodName)) ∈ lw_all := lw_g (lw_at lw_m2 142 rfl) rfl
theorem q472 : (Jvm.Cond.instanceMethod ({ cls := "ReflectMirror$Rows", name := "what", desc := "()I" } : Jvm.MethodName)) ∈ lw_all := lw_g (lw_at lw_m2 143 rfl) rfl
theorem q473 : (Jvm.Cond.code ({ cls := "ReflectMirror$Rows", name := "what", desc := "()I" } : Jvm.MethodName) prog_23_method_2_code (1 : Nat) (Option.some Jvm.ClassFile.FieldType.int)) ∈ lw_all := lw_g (lw_at lw_m2 144 rfl) rfl
theorem q479 : (Jvm.Cond.unhidden "ReflectMirror$Rows" "isBehind" "(LReflectMirror$Numbered;)Z") ∈ lw_tbl := lw_at lw_m2 150 rfl
theorem q512 : (Jvm.Cond.castable "ReflectMirror$Rows" "ReflectMirror$Numbered") ∈ lw_tbl := lw_at lw_m2 183 rfl
theorem q513 : (Jvm.Cond.selects "ReflectMirror$Rows" ({ cls := "ReflectMirror$Numbered", name := "number", desc := "()I" } : Jvm.MethodName) ({ cls := "ReflectMirror$Type", name := "number", desc := "()I" } : Jvm.MethodName)) ∈ lw_all := lw_g (lw_at lw_m2 184 rfl) rfl
theorem q514 : (Jvm.Cond.unhidden "ReflectMirror$Rows" "number" "()I") ∈ lw_tbl := lw_at lw_m2 185 rfl
theorem q528 : (Jvm.Cond.selects "ReflectMirror$Rows" ({ cls := "ReflectMirror$Type", name := "parent", desc := "()LReflectMirror$Type;" } : Jvm.MethodName) ({ cls := "ReflectMirror$Rows", name := "parent", desc := "()LReflectMirror$Type;" } : Jvm.MethodName)) ∈ lw_all := lw_g (lw_at lw_m2 199 rfl) rfl
theorem q529 : (Jvm.Cond.instanceMethod ({ cls := "ReflectMirror$Rows", name := "parent", desc := "()LReflectMirror$Type;" } : Jvm.MethodName)) ∈ lw_all := lw_g (lw_at lw_m2 200 rfl) rfl
theorem q530 : (Jvm.Cond.code ({ cls := "ReflectMirror$Rows", name := "parent", desc := "()LReflectMirror$Type;" } : Jvm.MethodName) prog_23_method_3_code (1 : Nat) (Option.some (Jvm.ClassFile.FieldType.object "ReflectMirror$Type"))) ∈ lw_all := lw_g (lw_at lw_m2 201 rfl) rfl
theorem q538 : (Jvm.Cond.selects "ReflectMirror$Rows" ({ cls := "ReflectMirror$Type", name := "of", desc := "()LReflectMirror$Type;" } : Jvm.MethodName) ({ cls := "ReflectMirror$Rows", name := "of", desc := "()LReflectMirror$Type;" } : Jvm.MethodName)) ∈ lw_all := lw_g (lw_at lw_m2 209 rfl) rfl
theorem q539 : (Jvm.Cond.instanceMethod ({ cls := "ReflectMirror$Rows", name := "of", desc := "()LReflectMirror$Type;" } : Jvm.MethodName)) ∈ lw_all := lw_g (lw_at lw_m2 210 rfl) rfl
theorem q540 : (Jvm.Cond.code ({ cls := "ReflectMirror$Rows", name := "of", desc := "()LReflectMirror$Type;" } : Jvm.MethodName) prog_23_method_4_code (1 : Nat) (Option.some (Jvm.ClassFile.FieldType.object "ReflectMirror$Type"))) ∈ lw_all := lw_g (lw_at lw_m2 211 rfl) rfl
theorem q550 : (Jvm.Cond.selects "ReflectMirror$Rows" ({ cls := "ReflectMirror$Type", name := "isReference", desc := "()Z" } : Jvm.MethodName) ({ cls := "ReflectMirror$Type", name := "isReference", desc := "()Z" } : Jvm.MethodName)) ∈ lw_all := lw_g (lw_at lw_m2 221 rfl) rfl
theorem q573 : (Jvm.Cond.selects "ReflectMirror$Rows" ({ cls := "ReflectMirror$Type", name := "is", desc := "(LReflectMirror$Type;)Z" } : Jvm.MethodName) ({ cls := "ReflectMirror$Rows", name := "is", desc := "(LReflectMirror$Type;)Z" } : Jvm.MethodName)) ∈ lw_all := lw_g (lw_at lw_m3 4 rfl) rfl
theorem q574 : (Jvm.Cond.instanceMethod ({ cls := "ReflectMirror$Rows", name := "is", desc := "(LReflectMirror$Type;)Z" } : Jvm.MethodName)) ∈ lw_all := lw_g (lw_at lw_m3 5 rfl) rfl
theorem q575 : (Jvm.Cond.code ({ cls := "ReflectMirror$Rows", name := "is", desc := "(LReflectMirror$Type;)Z" } : Jvm.MethodName) prog_23_method_6_code (3 : Nat) (Option.some Jvm.ClassFile.FieldType.boolean)) ∈ lw_all := lw_g (lw_at lw_m3 6 rfl) rfl
theorem q576 : (Jvm.Cond.methodLink "ReflectMirror$Rows" (27 : Nat) ({ cls := "ReflectMirror$Type", name := "of", desc := "()LReflectMirror$Type;" } : Jvm.MethodName)) ∈ lw_all := lw_g (lw_at lw_m3 7 rfl) rfl
theorem q577 : (Jvm.Cond.methodLink "ReflectMirror$Rows" (30 : Nat) ({ cls := "ReflectMirror$Type", name := "is", desc := "(LReflectMirror$Type;)Z" } : Jvm.MethodName)) ∈ lw_all := lw_g (lw_at lw_m3 8 rfl) rfl
theorem q578 : (Jvm.Cond.methodLink "ReflectMirror$Rows" (34 : Nat) ({ cls := "ReflectMirror$Type", name := "isReference", desc := "()Z" } : Jvm.MethodName)) ∈ lw_all := lw_g (lw_at lw_m3 9 rfl) rfl
theorem q731 : (Jvm.Cond.selects "ReflectMirror$Rows" ({ cls := "ReflectMirror$Type", name := "row", desc := "(I)Ljava/lang/Object;" } : Jvm.MethodName) ({ cls := "ReflectMirror$Rows", name := "row", desc := "(I)Ljava/lang/Object;" } : Jvm.MethodName)) ∈ lw_all := lw_g (lw_at lw_m3 162 rfl) rfl
theorem q732 : (Jvm.Cond.instanceMethod ({ cls := "ReflectMirror$Rows", name := "row", desc := "(I)Ljava/lang/Object;" } : Jvm.MethodName)) ∈ lw_all := lw_g (lw_at lw_m3 163 rfl) rfl
theorem q733 : (Jvm.Cond.code ({ cls := "ReflectMirror$Rows", name := "row", desc := "(I)Ljava/lang/Object;" } : Jvm.MethodName) prog_23_method_7_code (2 : Nat) (Option.some (Jvm.ClassFile.FieldType.object "java/lang/Object"))) ∈ lw_all := lw_g (lw_at lw_m3 164 rfl) rfl
theorem q734 : (Jvm.Cond.classLink "ReflectMirror$Rows" (38 : Nat) "ReflectMirror$Many") ∈ lw_all := lw_g (lw_at lw_m3 165 rfl) rfl
theorem q2597 : (Jvm.Cond.castable "ReflectMirror$Rows" "java/lang/Object") ∈ lw_tbl := lw_at lw_m11 108 rfl
theorem q2633 : (Jvm.Cond.castable "ReflectMirror$Rows" "ReflectMirror$Type") ∈ lw_tbl := lw_at lw_m11 144 rfl
theorem in_X8 : ∀ w ∈ wsX80, w ∈ lw_all := lw_in wsX80 [435, 436, 437, 438, 439, 440, 441, 442, 431, 433] (by decide +kernel) (by decide +kernel)

/-! java/lang/String -/
set_option maxRecDepth 100000
def RJ0 : String := "java/lang/String"
def TJ0 : u_T := fun k => match k with
  | 0 => ("java/lang/String", "value", "[B", true)
  | _ => ("java/lang/String", "coder", "B", true)
def tyJ0 : Nat → FieldType := fun k => match k with
  | 0 => .array .byte
  | _ => .byte
abbrev wsJ00 : List Cond := u_ws RJ0 TJ0 2
theorem nmJ0 : ∀ a, a < 2 → ∀ b, b < 2 → a ≠ b → (TJ0 a).2.1 ≠ (TJ0 b).2.1 := by decide +kernel
theorem tyJ0_ok : ∀ k, k < 2 → parseFieldDescriptor (TJ0 k).2.2.1 = some (tyJ0 k) := by decide +kernel
abbrev cJ0_charAt : ByteArray := prog_53_method_56_code
def yJ0_charAt : MethodName := ⟨RJ0, "charAt", "(I)C"⟩
def dkwJ0_charAt_1 : List UInt8 := [172]
abbrev dktJ0_charAt_1 : List UInt8 := dkwJ0_charAt_1 ++ []
def dkwJ0_charAt_0 : List UInt8 := [42, 182, 1, 236, 153, 0, 12, 42, 180, 0, 9, 27, 184, 1, 239, 172, 42, 180, 0, 9, 27, 184, 1, 242]
abbrev dktJ0_charAt_0 : List UInt8 := dkwJ0_charAt_0 ++ dktJ0_charAt_1
theorem dksJ0_charAt_0 : cJ0_charAt.data.toList.drop 0 = dktJ0_charAt_0 := by decide +kernel
theorem dksJ0_charAt_1 : cJ0_charAt.data.toList.drop 24 = dktJ0_charAt_1 := dk_seg dksJ0_charAt_0 24 rfl rfl
theorem dJ0_charAt_0 : decode cJ0_charAt 0 = .ok (.aload_n 0, 1) := dk_42 (dk_at dksJ0_charAt_0 0 rfl rfl)
theorem dJ0_charAt_1 : decode cJ0_charAt 1 = .ok (.invokevirtual 492, 3) := dk_182 1 236 (dk_at dksJ0_charAt_0 1 rfl rfl)
theorem dJ0_charAt_4 : decode cJ0_charAt 4 = .ok (.ifCond .eq 12, 3) := dk_153 0 12 (dk_at dksJ0_charAt_0 4 rfl rfl)
theorem dJ0_charAt_7 : decode cJ0_charAt 7 = .ok (.aload_n 0, 1) := dk_42 (dk_at dksJ0_charAt_0 7 rfl rfl)
theorem dJ0_charAt_8 : decode cJ0_charAt 8 = .ok (.getfield 9, 3) := dk_180 0 9 (dk_at dksJ0_charAt_0 8 rfl rfl)
theorem dJ0_charAt_11 : decode cJ0_charAt 11 = .ok (.iload_n 1, 1) := dk_27 (dk_at dksJ0_charAt_0 11 rfl rfl)
theorem dJ0_charAt_12 : decode cJ0_charAt 12 = .ok (.invokestatic 495, 3) := dk_184 1 239 (dk_at dksJ0_charAt_0 12 rfl rfl)
theorem dJ0_charAt_15 : decode cJ0_charAt 15 = .ok (.ireturn, 1) := dk_172 (dk_at dksJ0_charAt_0 15 rfl rfl)
theorem dJ0_charAt_16 : decode cJ0_charAt 16 = .ok (.aload_n 0, 1) := dk_42 (dk_at dksJ0_charAt_0 16 rfl rfl)
theorem dJ0_charAt_17 : decode cJ0_charAt 17 = .ok (.getfield 9, 3) := dk_180 0 9 (dk_at dksJ0_charAt_0 17 rfl rfl)
theorem dJ0_charAt_20 : decode cJ0_charAt 20 = .ok (.iload_n 1, 1) := dk_27 (dk_at dksJ0_charAt_0 20 rfl rfl)
theorem dJ0_charAt_21 : decode cJ0_charAt 21 = .ok (.invokestatic 498, 3) := dk_184 1 242 (dk_at dksJ0_charAt_0 21 rfl rfl)
theorem dJ0_charAt_24 : decode cJ0_charAt 24 = .ok (.ireturn, 1) := dk_172 (dk_at dksJ0_charAt_1 0 rfl rfl)
abbrev cJ0_isLatin1 : ByteArray := prog_53_method_154_code
def yJ0_isLatin1 : MethodName := ⟨RJ0, "isLatin1", "()Z"⟩
def dkwJ0_isLatin1_0 : List UInt8 := [178, 0, 38, 153, 0, 14, 42, 180, 0, 15, 154, 0, 7, 4, 167, 0, 4, 3, 172]
abbrev dktJ0_isLatin1_0 : List UInt8 := dkwJ0_isLatin1_0 ++ []
theorem dksJ0_isLatin1_0 : cJ0_isLatin1.data.toList.drop 0 = dktJ0_isLatin1_0 := by decide +kernel
theorem dJ0_isLatin1_0 : decode cJ0_isLatin1 0 = .ok (.getstatic 38, 3) := dk_178 0 38 (dk_at dksJ0_isLatin1_0 0 rfl rfl)
theorem dJ0_isLatin1_3 : decode cJ0_isLatin1 3 = .ok (.ifCond .eq 14, 3) := dk_153 0 14 (dk_at dksJ0_isLatin1_0 3 rfl rfl)
theorem dJ0_isLatin1_6 : decode cJ0_isLatin1 6 = .ok (.aload_n 0, 1) := dk_42 (dk_at dksJ0_isLatin1_0 6 rfl rfl)
theorem dJ0_isLatin1_7 : decode cJ0_isLatin1 7 = .ok (.getfield 15, 3) := dk_180 0 15 (dk_at dksJ0_isLatin1_0 7 rfl rfl)
theorem dJ0_isLatin1_10 : decode cJ0_isLatin1 10 = .ok (.ifCond .ne 7, 3) := dk_154 0 7 (dk_at dksJ0_isLatin1_0 10 rfl rfl)
theorem dJ0_isLatin1_13 : decode cJ0_isLatin1 13 = .ok (.iconst 1, 1) := dk_4 (dk_at dksJ0_isLatin1_0 13 rfl rfl)
theorem dJ0_isLatin1_14 : decode cJ0_isLatin1 14 = .ok (.goto 4, 3) := dk_167 0 4 (dk_at dksJ0_isLatin1_0 14 rfl rfl)
theorem dJ0_isLatin1_17 : decode cJ0_isLatin1 17 = .ok (.iconst 0, 1) := dk_3 (dk_at dksJ0_isLatin1_0 17 rfl rfl)
theorem dJ0_isLatin1_18 : decode cJ0_isLatin1 18 = .ok (.ireturn, 1) := dk_172 (dk_at dksJ0_isLatin1_0 18 rfl rfl)
abbrev cJ0_checkIndex : ByteArray := prog_53_method_155_code
def yJ0_checkIndex : MethodName := ⟨RJ0, "checkIndex", "(II)V"⟩
def dkwJ0_checkIndex_0 : List UInt8 := [26, 27, 178, 4, 29, 184, 4, 35, 87, 177]
abbrev dktJ0_checkIndex_0 : List UInt8 := dkwJ0_checkIndex_0 ++ []
theorem dksJ0_checkIndex_0 : cJ0_checkIndex.data.toList.drop 0 = dktJ0_checkIndex_0 := by decide +kernel
theorem dJ0_checkIndex_0 : decode cJ0_checkIndex 0 = .ok (.iload_n 0, 1) := dk_26 (dk_at dksJ0_checkIndex_0 0 rfl rfl)
theorem dJ0_checkIndex_1 : decode cJ0_checkIndex 1 = .ok (.iload_n 1, 1) := dk_27 (dk_at dksJ0_checkIndex_0 1 rfl rfl)
theorem dJ0_checkIndex_2 : decode cJ0_checkIndex 2 = .ok (.getstatic 1053, 3) := dk_178 4 29 (dk_at dksJ0_checkIndex_0 2 rfl rfl)
theorem dJ0_checkIndex_5 : decode cJ0_checkIndex 5 = .ok (.invokestatic 1059, 3) := dk_184 4 35 (dk_at dksJ0_checkIndex_0 5 rfl rfl)
theorem dJ0_checkIndex_8 : decode cJ0_checkIndex 8 = .ok (.pop, 1) := dk_87 (dk_at dksJ0_checkIndex_0 8 rfl rfl)
theorem dJ0_checkIndex_9 : decode cJ0_checkIndex 9 = .ok (.return_, 1) := dk_177 (dk_at dksJ0_checkIndex_0 9 rfl rfl)
theorem q99 : (Jvm.Cond.initialized "java/lang/String") ∈ lw_all := lw_g (lw_at lw_m1 10 rfl) rfl
theorem q597 : (Jvm.Cond.instanceMethod ({ cls := "java/lang/String", name := "charAt", desc := "(I)C" } : Jvm.MethodName)) ∈ lw_all := lw_g (lw_at lw_m3 28 rfl) rfl
theorem q598 : (Jvm.Cond.selects "java/lang/String" ({ cls := "java/lang/String", name := "charAt", desc := "(I)C" } : Jvm.MethodName) ({ cls := "java/lang/String", name := "charAt", desc := "(I)C" } : Jvm.MethodName)) ∈ lw_all := lw_g (lw_at lw_m3 29 rfl) rfl
theorem q599 : (Jvm.Cond.code ({ cls := "java/lang/String", name := "charAt", desc := "(I)C" } : Jvm.MethodName) prog_53_method_56_code (2 : Nat) (Option.some Jvm.ClassFile.FieldType.char)) ∈ lw_all := lw_g (lw_at lw_m3 30 rfl) rfl
theorem q600 : (Jvm.Cond.methodLink "java/lang/String" (492 : Nat) ({ cls := "java/lang/String", name := "isLatin1", desc := "()Z" } : Jvm.MethodName)) ∈ lw_all := lw_g (lw_at lw_m3 31 rfl) rfl
theorem q601 : (Jvm.Cond.instanceMethod ({ cls := "java/lang/String", name := "isLatin1", desc := "()Z" } : Jvm.MethodName)) ∈ lw_all := lw_g (lw_at lw_m3 32 rfl) rfl
theorem q602 : (Jvm.Cond.selects "java/lang/String" ({ cls := "java/lang/String", name := "isLatin1", desc := "()Z" } : Jvm.MethodName) ({ cls := "java/lang/String", name := "isLatin1", desc := "()Z" } : Jvm.MethodName)) ∈ lw_all := lw_g (lw_at lw_m3 33 rfl) rfl
theorem q603 : (Jvm.Cond.code ({ cls := "java/lang/String", name := "isLatin1", desc := "()Z" } : Jvm.MethodName) prog_53_method_154_code (1 : Nat) (Option.some Jvm.ClassFile.FieldType.boolean)) ∈ lw_all := lw_g (lw_at lw_m3 34 rfl) rfl
theorem q604 : (Jvm.Cond.fieldLink "java/lang/String" (38 : Nat) "java/lang/String" "COMPACT_STRINGS" "Z") ∈ lw_all := lw_g (lw_at lw_m3 35 rfl) rfl
theorem q605 : (Jvm.Cond.laysStatic "java/lang/String" "COMPACT_STRINGS" "Z") ∈ lw_tbl := lw_at lw_m3 36 rfl
theorem q606 : (Jvm.Cond.methodLink "java/lang/String" (495 : Nat) ({ cls := "java/lang/StringLatin1", name := "charAt", desc := "([BI)C" } : Jvm.MethodName)) ∈ lw_all := lw_g (lw_at lw_m3 37 rfl) rfl
theorem q610 : (Jvm.Cond.static ({ cls := "java/lang/String", name := "checkIndex", desc := "(II)V" } : Jvm.MethodName)) ∈ lw_all := lw_g (lw_at lw_m3 41 rfl) rfl
theorem q611 : (Jvm.Cond.code ({ cls := "java/lang/String", name := "checkIndex", desc := "(II)V" } : Jvm.MethodName) prog_53_method_155_code (2 : Nat) (Option.none : Option Jvm.ClassFile.FieldType)) ∈ lw_all := lw_g (lw_at lw_m3 42 rfl) rfl
theorem q612 : (Jvm.Cond.fieldLink "java/lang/String" (1053 : Nat) "jdk/internal/util/Preconditions" "SIOOBE_FORMATTER" "Ljava/util/function/BiFunction;") ∈ lw_all := lw_g (lw_at lw_m3 43 rfl) rfl
theorem q614 : (Jvm.Cond.methodLink "java/lang/String" (1059 : Nat) ({ cls := "jdk/internal/util/Preconditions", name := "checkIndex", desc := "(IILjava/util/function/BiFunction;)I" } : Jvm.MethodName)) ∈ lw_all := lw_g (lw_at lw_m3 45 rfl) rfl
theorem q617 : (Jvm.Cond.methodLink "java/lang/String" (498 : Nat) ({ cls := "java/lang/StringUTF16", name := "charAt", desc := "([BI)C" } : Jvm.MethodName)) ∈ lw_all := lw_g (lw_at lw_m3 48 rfl) rfl
theorem q1408 : (Jvm.Cond.instantiable "java/lang/String" (4 : Nat)) ∈ lw_all := lw_g (lw_at lw_m6 119 rfl) rfl
theorem q1409 : (Jvm.Cond.laysFinal "java/lang/String" "java/lang/String" "value" "[B") ∈ lw_all := lw_g (lw_at lw_m6 120 rfl) rfl
theorem q1410 : (Jvm.Cond.soleField "java/lang/String" "value") ∈ lw_all := lw_g (lw_at lw_m6 121 rfl) rfl
theorem q1411 : (Jvm.Cond.laysFinal "java/lang/String" "java/lang/String" "coder" "B") ∈ lw_all := lw_g (lw_at lw_m6 122 rfl) rfl
theorem q1412 : (Jvm.Cond.soleField "java/lang/String" "coder") ∈ lw_all := lw_g (lw_at lw_m6 123 rfl) rfl
theorem q2621 : (Jvm.Cond.castable "java/lang/String" "java/lang/Object") ∈ lw_tbl := lw_at lw_m11 132 rfl
theorem q2649 : (Jvm.Cond.fieldLink "java/lang/String" (15 : Nat) "java/lang/String" "coder" "B") ∈ lw_all := lw_g (lw_at lw_m11 160 rfl) rfl
theorem q2650 : (Jvm.Cond.fieldLink "java/lang/String" (9 : Nat) "java/lang/String" "value" "[B") ∈ lw_all := lw_g (lw_at lw_m11 161 rfl) rfl
theorem in_J0 : ∀ w ∈ wsJ00, w ∈ lw_all := lw_in wsJ00 [1409, 1411] (by decide +kernel) (by decide +kernel)

/-! java/lang/StringLatin1 -/
set_option maxRecDepth 100000
def RJ1 : String := "java/lang/StringLatin1"
abbrev cJ1_charAt : ByteArray := prog_54_method_2_code
def yJ1_charAt : MethodName := ⟨RJ1, "charAt", "([BI)C"⟩
def dkwJ1_charAt_0 : List UInt8 := [27, 42, 190, 184, 0, 9, 42, 27, 51, 17, 0, 255, 126, 146, 172]
abbrev dktJ1_charAt_0 : List UInt8 := dkwJ1_charAt_0 ++ []
theorem dksJ1_charAt_0 : cJ1_charAt.data.toList.drop 0 = dktJ1_charAt_0 := by decide +kernel
theorem dJ1_charAt_0 : decode cJ1_charAt 0 = .ok (.iload_n 1, 1) := dk_27 (dk_at dksJ1_charAt_0 0 rfl rfl)
theorem dJ1_charAt_1 : decode cJ1_charAt 1 = .ok (.aload_n 0, 1) := dk_42 (dk_at dksJ1_charAt_0 1 rfl rfl)
theorem dJ1_charAt_2 : decode cJ1_charAt 2 = .ok (.arraylength, 1) := dk_190 (dk_at dksJ1_charAt_0 2 rfl rfl)
theorem dJ1_charAt_3 : decode cJ1_charAt 3 = .ok (.invokestatic 9, 3) := dk_184 0 9 (dk_at dksJ1_charAt_0 3 rfl rfl)
theorem dJ1_charAt_6 : decode cJ1_charAt 6 = .ok (.aload_n 0, 1) := dk_42 (dk_at dksJ1_charAt_0 6 rfl rfl)
theorem dJ1_charAt_7 : decode cJ1_charAt 7 = .ok (.iload_n 1, 1) := dk_27 (dk_at dksJ1_charAt_0 7 rfl rfl)
theorem dJ1_charAt_8 : decode cJ1_charAt 8 = .ok (.baload, 1) := dk_51 (dk_at dksJ1_charAt_0 8 rfl rfl)
theorem dJ1_charAt_9 : decode cJ1_charAt 9 = .ok (.sipush 255, 3) := dk_17 0 255 (dk_at dksJ1_charAt_0 9 rfl rfl)
theorem dJ1_charAt_12 : decode cJ1_charAt 12 = .ok (.iand, 1) := dk_126 (dk_at dksJ1_charAt_0 12 rfl rfl)
theorem dJ1_charAt_13 : decode cJ1_charAt 13 = .ok (.i2c, 1) := dk_146 (dk_at dksJ1_charAt_0 13 rfl rfl)
theorem dJ1_charAt_14 : decode cJ1_charAt 14 = .ok (.ireturn, 1) := dk_172 (dk_at dksJ1_charAt_0 14 rfl rfl)
theorem q100 : (Jvm.Cond.initialized "java/lang/StringLatin1") ∈ lw_all := lw_g (lw_at lw_m1 11 rfl) rfl
theorem q607 : (Jvm.Cond.static ({ cls := "java/lang/StringLatin1", name := "charAt", desc := "([BI)C" } : Jvm.MethodName)) ∈ lw_all := lw_g (lw_at lw_m3 38 rfl) rfl
theorem q608 : (Jvm.Cond.code ({ cls := "java/lang/StringLatin1", name := "charAt", desc := "([BI)C" } : Jvm.MethodName) prog_54_method_2_code (2 : Nat) (Option.some Jvm.ClassFile.FieldType.char)) ∈ lw_all := lw_g (lw_at lw_m3 39 rfl) rfl
theorem q609 : (Jvm.Cond.methodLink "java/lang/StringLatin1" (9 : Nat) ({ cls := "java/lang/String", name := "checkIndex", desc := "(II)V" } : Jvm.MethodName)) ∈ lw_all := lw_g (lw_at lw_m3 40 rfl) rfl

/-! jdk/internal/util/Preconditions -/
set_option maxRecDepth 100000
def RJ2 : String := "jdk/internal/util/Preconditions"
abbrev cJ2_checkIndex : ByteArray := prog_62_method_11_code
def yJ2_checkIndex : MethodName := ⟨RJ2, "checkIndex", "(IILjava/util/function/BiFunction;)I"⟩
def dkwJ2_checkIndex_0 : List UInt8 := [26, 155, 0, 8, 26, 27, 161, 0, 10, 44, 26, 27, 184, 0, 95, 191, 26, 172]
abbrev dktJ2_checkIndex_0 : List UInt8 := dkwJ2_checkIndex_0 ++ []
theorem dksJ2_checkIndex_0 : cJ2_checkIndex.data.toList.drop 0 = dktJ2_checkIndex_0 := by decide +kernel
theorem dJ2_checkIndex_0 : decode cJ2_checkIndex 0 = .ok (.iload_n 0, 1) := dk_26 (dk_at dksJ2_checkIndex_0 0 rfl rfl)
theorem dJ2_checkIndex_1 : decode cJ2_checkIndex 1 = .ok (.ifCond .lt 8, 3) := dk_155 0 8 (dk_at dksJ2_checkIndex_0 1 rfl rfl)
theorem dJ2_checkIndex_4 : decode cJ2_checkIndex 4 = .ok (.iload_n 0, 1) := dk_26 (dk_at dksJ2_checkIndex_0 4 rfl rfl)
theorem dJ2_checkIndex_5 : decode cJ2_checkIndex 5 = .ok (.iload_n 1, 1) := dk_27 (dk_at dksJ2_checkIndex_0 5 rfl rfl)
theorem dJ2_checkIndex_6 : decode cJ2_checkIndex 6 = .ok (.if_icmp .lt 10, 3) := dk_161 0 10 (dk_at dksJ2_checkIndex_0 6 rfl rfl)
theorem dJ2_checkIndex_9 : decode cJ2_checkIndex 9 = .ok (.aload_n 2, 1) := dk_44 (dk_at dksJ2_checkIndex_0 9 rfl rfl)
theorem dJ2_checkIndex_10 : decode cJ2_checkIndex 10 = .ok (.iload_n 0, 1) := dk_26 (dk_at dksJ2_checkIndex_0 10 rfl rfl)
theorem dJ2_checkIndex_11 : decode cJ2_checkIndex 11 = .ok (.iload_n 1, 1) := dk_27 (dk_at dksJ2_checkIndex_0 11 rfl rfl)
theorem dJ2_checkIndex_12 : decode cJ2_checkIndex 12 = .ok (.invokestatic 95, 3) := dk_184 0 95 (dk_at dksJ2_checkIndex_0 12 rfl rfl)
theorem dJ2_checkIndex_15 : decode cJ2_checkIndex 15 = .ok (.athrow, 1) := dk_191 (dk_at dksJ2_checkIndex_0 15 rfl rfl)
theorem dJ2_checkIndex_16 : decode cJ2_checkIndex 16 = .ok (.iload_n 0, 1) := dk_26 (dk_at dksJ2_checkIndex_0 16 rfl rfl)
theorem dJ2_checkIndex_17 : decode cJ2_checkIndex 17 = .ok (.ireturn, 1) := dk_172 (dk_at dksJ2_checkIndex_0 17 rfl rfl)
theorem q101 : (Jvm.Cond.initialized "jdk/internal/util/Preconditions") ∈ lw_all := lw_g (lw_at lw_m1 12 rfl) rfl
theorem q613 : (Jvm.Cond.laysStatic "jdk/internal/util/Preconditions" "SIOOBE_FORMATTER" "Ljava/util/function/BiFunction;") ∈ lw_tbl := lw_at lw_m3 44 rfl
theorem q615 : (Jvm.Cond.static ({ cls := "jdk/internal/util/Preconditions", name := "checkIndex", desc := "(IILjava/util/function/BiFunction;)I" } : Jvm.MethodName)) ∈ lw_all := lw_g (lw_at lw_m3 46 rfl) rfl
theorem q616 : (Jvm.Cond.code ({ cls := "jdk/internal/util/Preconditions", name := "checkIndex", desc := "(IILjava/util/function/BiFunction;)I" } : Jvm.MethodName) prog_62_method_11_code (3 : Nat) (Option.some Jvm.ClassFile.FieldType.int)) ∈ lw_all := lw_g (lw_at lw_m3 47 rfl) rfl

/-! java/lang/StringUTF16 -/
set_option maxRecDepth 100000
def RJ3 : String := "java/lang/StringUTF16"
abbrev cJ3_charAt : ByteArray := prog_55_method_83_code
def yJ3_charAt : MethodName := ⟨RJ3, "charAt", "([BI)C"⟩
def dkwJ3_charAt_0 : List UInt8 := [27, 42, 184, 0, 67, 42, 27, 184, 0, 71, 172]
abbrev dktJ3_charAt_0 : List UInt8 := dkwJ3_charAt_0 ++ []
theorem dksJ3_charAt_0 : cJ3_charAt.data.toList.drop 0 = dktJ3_charAt_0 := by decide +kernel
theorem dJ3_charAt_0 : decode cJ3_charAt 0 = .ok (.iload_n 1, 1) := dk_27 (dk_at dksJ3_charAt_0 0 rfl rfl)
theorem dJ3_charAt_1 : decode cJ3_charAt 1 = .ok (.aload_n 0, 1) := dk_42 (dk_at dksJ3_charAt_0 1 rfl rfl)
theorem dJ3_charAt_2 : decode cJ3_charAt 2 = .ok (.invokestatic 67, 3) := dk_184 0 67 (dk_at dksJ3_charAt_0 2 rfl rfl)
theorem dJ3_charAt_5 : decode cJ3_charAt 5 = .ok (.aload_n 0, 1) := dk_42 (dk_at dksJ3_charAt_0 5 rfl rfl)
theorem dJ3_charAt_6 : decode cJ3_charAt 6 = .ok (.iload_n 1, 1) := dk_27 (dk_at dksJ3_charAt_0 6 rfl rfl)
theorem dJ3_charAt_7 : decode cJ3_charAt 7 = .ok (.invokestatic 71, 3) := dk_184 0 71 (dk_at dksJ3_charAt_0 7 rfl rfl)
theorem dJ3_charAt_10 : decode cJ3_charAt 10 = .ok (.ireturn, 1) := dk_172 (dk_at dksJ3_charAt_0 10 rfl rfl)
abbrev cJ3_checkIndex : ByteArray := prog_55_method_91_code
def yJ3_checkIndex : MethodName := ⟨RJ3, "checkIndex", "(I[B)V"⟩
def dkwJ3_checkIndex_0 : List UInt8 := [26, 43, 184, 0, 48, 184, 1, 158, 177]
abbrev dktJ3_checkIndex_0 : List UInt8 := dkwJ3_checkIndex_0 ++ []
theorem dksJ3_checkIndex_0 : cJ3_checkIndex.data.toList.drop 0 = dktJ3_checkIndex_0 := by decide +kernel
theorem dJ3_checkIndex_0 : decode cJ3_checkIndex 0 = .ok (.iload_n 0, 1) := dk_26 (dk_at dksJ3_checkIndex_0 0 rfl rfl)
theorem dJ3_checkIndex_1 : decode cJ3_checkIndex 1 = .ok (.aload_n 1, 1) := dk_43 (dk_at dksJ3_checkIndex_0 1 rfl rfl)
theorem dJ3_checkIndex_2 : decode cJ3_checkIndex 2 = .ok (.invokestatic 48, 3) := dk_184 0 48 (dk_at dksJ3_checkIndex_0 2 rfl rfl)
theorem dJ3_checkIndex_5 : decode cJ3_checkIndex 5 = .ok (.invokestatic 414, 3) := dk_184 1 158 (dk_at dksJ3_checkIndex_0 5 rfl rfl)
theorem dJ3_checkIndex_8 : decode cJ3_checkIndex 8 = .ok (.return_, 1) := dk_177 (dk_at dksJ3_checkIndex_0 8 rfl rfl)
abbrev cJ3_length : ByteArray := prog_55_method_6_code
def yJ3_length : MethodName := ⟨RJ3, "length", "([B)I"⟩
def dkwJ3_length_0 : List UInt8 := [42, 190, 4, 122, 172]
abbrev dktJ3_length_0 : List UInt8 := dkwJ3_length_0 ++ []
theorem dksJ3_length_0 : cJ3_length.data.toList.drop 0 = dktJ3_length_0 := by decide +kernel
theorem dJ3_length_0 : decode cJ3_length 0 = .ok (.aload_n 0, 1) := dk_42 (dk_at dksJ3_length_0 0 rfl rfl)
theorem dJ3_length_1 : decode cJ3_length 1 = .ok (.arraylength, 1) := dk_190 (dk_at dksJ3_length_0 1 rfl rfl)
theorem dJ3_length_2 : decode cJ3_length 2 = .ok (.iconst 1, 1) := dk_4 (dk_at dksJ3_length_0 2 rfl rfl)
theorem dJ3_length_3 : decode cJ3_length 3 = .ok (.ishr, 1) := dk_122 (dk_at dksJ3_length_0 3 rfl rfl)
theorem dJ3_length_4 : decode cJ3_length 4 = .ok (.ireturn, 1) := dk_172 (dk_at dksJ3_length_0 4 rfl rfl)
abbrev cJ3_getChar : ByteArray := prog_55_method_5_code
def yJ3_getChar : MethodName := ⟨RJ3, "getChar", "([BI)C"⟩
def dkwJ3_getChar_2 : List UInt8 := [51, 17, 0, 255, 126, 178, 0, 63, 120, 128, 146, 172]
abbrev dktJ3_getChar_2 : List UInt8 := dkwJ3_getChar_2 ++ []
def dkwJ3_getChar_1 : List UInt8 := [183, 0, 56, 191, 27, 4, 120, 60, 42, 27, 132, 1, 1, 51, 17, 0, 255, 126, 178, 0, 59, 120, 42, 27]
abbrev dktJ3_getChar_1 : List UInt8 := dkwJ3_getChar_1 ++ dktJ3_getChar_2
def dkwJ3_getChar_0 : List UInt8 := [178, 0, 44, 154, 0, 25, 27, 155, 0, 11, 27, 42, 184, 0, 48, 161, 0, 13, 187, 0, 52, 89, 18, 54]
abbrev dktJ3_getChar_0 : List UInt8 := dkwJ3_getChar_0 ++ dktJ3_getChar_1
theorem dksJ3_getChar_0 : cJ3_getChar.data.toList.drop 0 = dktJ3_getChar_0 := by decide +kernel
theorem dksJ3_getChar_1 : cJ3_getChar.data.toList.drop 24 = dktJ3_getChar_1 := dk_seg dksJ3_getChar_0 24 rfl rfl
theorem dksJ3_getChar_2 : cJ3_getChar.data.toList.drop 48 = dktJ3_getChar_2 := dk_seg dksJ3_getChar_1 24 rfl rfl
theorem dJ3_getChar_0 : decode cJ3_getChar 0 = .ok (.getstatic 44, 3) := dk_178 0 44 (dk_at dksJ3_getChar_0 0 rfl rfl)
theorem dJ3_getChar_3 : decode cJ3_getChar 3 = .ok (.ifCond .ne 25, 3) := dk_154 0 25 (dk_at dksJ3_getChar_0 3 rfl rfl)
theorem dJ3_getChar_6 : decode cJ3_getChar 6 = .ok (.iload_n 1, 1) := dk_27 (dk_at dksJ3_getChar_0 6 rfl rfl)
theorem dJ3_getChar_7 : decode cJ3_getChar 7 = .ok (.ifCond .lt 11, 3) := dk_155 0 11 (dk_at dksJ3_getChar_0 7 rfl rfl)
theorem dJ3_getChar_10 : decode cJ3_getChar 10 = .ok (.iload_n 1, 1) := dk_27 (dk_at dksJ3_getChar_0 10 rfl rfl)
theorem dJ3_getChar_11 : decode cJ3_getChar 11 = .ok (.aload_n 0, 1) := dk_42 (dk_at dksJ3_getChar_0 11 rfl rfl)
theorem dJ3_getChar_12 : decode cJ3_getChar 12 = .ok (.invokestatic 48, 3) := dk_184 0 48 (dk_at dksJ3_getChar_0 12 rfl rfl)
theorem dJ3_getChar_15 : decode cJ3_getChar 15 = .ok (.if_icmp .lt 13, 3) := dk_161 0 13 (dk_at dksJ3_getChar_0 15 rfl rfl)
theorem dJ3_getChar_18 : decode cJ3_getChar 18 = .ok (.new 52, 3) := dk_187 0 52 (dk_at dksJ3_getChar_0 18 rfl rfl)
theorem dJ3_getChar_21 : decode cJ3_getChar 21 = .ok (.dup, 1) := dk_89 (dk_at dksJ3_getChar_0 21 rfl rfl)
theorem dJ3_getChar_22 : decode cJ3_getChar 22 = .ok (.ldc 54, 2) := dk_18 54 (dk_at dksJ3_getChar_0 22 rfl rfl)
theorem dJ3_getChar_24 : decode cJ3_getChar 24 = .ok (.invokespecial 56, 3) := dk_183 0 56 (dk_at dksJ3_getChar_1 0 rfl rfl)
theorem dJ3_getChar_27 : decode cJ3_getChar 27 = .ok (.athrow, 1) := dk_191 (dk_at dksJ3_getChar_1 3 rfl rfl)
theorem dJ3_getChar_28 : decode cJ3_getChar 28 = .ok (.iload_n 1, 1) := dk_27 (dk_at dksJ3_getChar_1 4 rfl rfl)
theorem dJ3_getChar_29 : decode cJ3_getChar 29 = .ok (.iconst 1, 1) := dk_4 (dk_at dksJ3_getChar_1 5 rfl rfl)
theorem dJ3_getChar_30 : decode cJ3_getChar 30 = .ok (.ishl, 1) := dk_120 (dk_at dksJ3_getChar_1 6 rfl rfl)
theorem dJ3_getChar_31 : decode cJ3_getChar 31 = .ok (.istore_n 1, 1) := dk_60 (dk_at dksJ3_getChar_1 7 rfl rfl)
theorem dJ3_getChar_32 : decode cJ3_getChar 32 = .ok (.aload_n 0, 1) := dk_42 (dk_at dksJ3_getChar_1 8 rfl rfl)
theorem dJ3_getChar_33 : decode cJ3_getChar 33 = .ok (.iload_n 1, 1) := dk_27 (dk_at dksJ3_getChar_1 9 rfl rfl)
theorem dJ3_getChar_34 : decode cJ3_getChar 34 = .ok (.iinc 1 1, 3) := dk_132 1 1 (dk_at dksJ3_getChar_1 10 rfl rfl)
theorem dJ3_getChar_37 : decode cJ3_getChar 37 = .ok (.baload, 1) := dk_51 (dk_at dksJ3_getChar_1 13 rfl rfl)
theorem dJ3_getChar_38 : decode cJ3_getChar 38 = .ok (.sipush 255, 3) := dk_17 0 255 (dk_at dksJ3_getChar_1 14 rfl rfl)
theorem dJ3_getChar_41 : decode cJ3_getChar 41 = .ok (.iand, 1) := dk_126 (dk_at dksJ3_getChar_1 17 rfl rfl)
theorem dJ3_getChar_42 : decode cJ3_getChar 42 = .ok (.getstatic 59, 3) := dk_178 0 59 (dk_at dksJ3_getChar_1 18 rfl rfl)
theorem dJ3_getChar_45 : decode cJ3_getChar 45 = .ok (.ishl, 1) := dk_120 (dk_at dksJ3_getChar_1 21 rfl rfl)
theorem dJ3_getChar_46 : decode cJ3_getChar 46 = .ok (.aload_n 0, 1) := dk_42 (dk_at dksJ3_getChar_1 22 rfl rfl)
theorem dJ3_getChar_47 : decode cJ3_getChar 47 = .ok (.iload_n 1, 1) := dk_27 (dk_at dksJ3_getChar_1 23 rfl rfl)
theorem dJ3_getChar_48 : decode cJ3_getChar 48 = .ok (.baload, 1) := dk_51 (dk_at dksJ3_getChar_2 0 rfl rfl)
theorem dJ3_getChar_49 : decode cJ3_getChar 49 = .ok (.sipush 255, 3) := dk_17 0 255 (dk_at dksJ3_getChar_2 1 rfl rfl)
theorem dJ3_getChar_52 : decode cJ3_getChar 52 = .ok (.iand, 1) := dk_126 (dk_at dksJ3_getChar_2 4 rfl rfl)
theorem dJ3_getChar_53 : decode cJ3_getChar 53 = .ok (.getstatic 63, 3) := dk_178 0 63 (dk_at dksJ3_getChar_2 5 rfl rfl)
theorem dJ3_getChar_56 : decode cJ3_getChar 56 = .ok (.ishl, 1) := dk_120 (dk_at dksJ3_getChar_2 8 rfl rfl)
theorem dJ3_getChar_57 : decode cJ3_getChar 57 = .ok (.ior, 1) := dk_128 (dk_at dksJ3_getChar_2 9 rfl rfl)
theorem dJ3_getChar_58 : decode cJ3_getChar 58 = .ok (.i2c, 1) := dk_146 (dk_at dksJ3_getChar_2 10 rfl rfl)
theorem dJ3_getChar_59 : decode cJ3_getChar 59 = .ok (.ireturn, 1) := dk_172 (dk_at dksJ3_getChar_2 11 rfl rfl)
theorem q102 : (Jvm.Cond.initialized "java/lang/StringUTF16") ∈ lw_all := lw_g (lw_at lw_m1 13 rfl) rfl
theorem q618 : (Jvm.Cond.static ({ cls := "java/lang/StringUTF16", name := "charAt", desc := "([BI)C" } : Jvm.MethodName)) ∈ lw_all := lw_g (lw_at lw_m3 49 rfl) rfl
theorem q619 : (Jvm.Cond.code ({ cls := "java/lang/StringUTF16", name := "charAt", desc := "([BI)C" } : Jvm.MethodName) prog_55_method_83_code (2 : Nat) (Option.some Jvm.ClassFile.FieldType.char)) ∈ lw_all := lw_g (lw_at lw_m3 50 rfl) rfl
theorem q620 : (Jvm.Cond.methodLink "java/lang/StringUTF16" (67 : Nat) ({ cls := "java/lang/StringUTF16", name := "checkIndex", desc := "(I[B)V" } : Jvm.MethodName)) ∈ lw_all := lw_g (lw_at lw_m3 51 rfl) rfl
theorem q621 : (Jvm.Cond.static ({ cls := "java/lang/StringUTF16", name := "checkIndex", desc := "(I[B)V" } : Jvm.MethodName)) ∈ lw_all := lw_g (lw_at lw_m3 52 rfl) rfl
theorem q622 : (Jvm.Cond.code ({ cls := "java/lang/StringUTF16", name := "checkIndex", desc := "(I[B)V" } : Jvm.MethodName) prog_55_method_91_code (2 : Nat) (Option.none : Option Jvm.ClassFile.FieldType)) ∈ lw_all := lw_g (lw_at lw_m3 53 rfl) rfl
theorem q623 : (Jvm.Cond.methodLink "java/lang/StringUTF16" (48 : Nat) ({ cls := "java/lang/StringUTF16", name := "length", desc := "([B)I" } : Jvm.MethodName)) ∈ lw_all := lw_g (lw_at lw_m3 54 rfl) rfl
theorem q624 : (Jvm.Cond.static ({ cls := "java/lang/StringUTF16", name := "length", desc := "([B)I" } : Jvm.MethodName)) ∈ lw_all := lw_g (lw_at lw_m3 55 rfl) rfl
theorem q625 : (Jvm.Cond.code ({ cls := "java/lang/StringUTF16", name := "length", desc := "([B)I" } : Jvm.MethodName) prog_55_method_6_code (1 : Nat) (Option.some Jvm.ClassFile.FieldType.int)) ∈ lw_all := lw_g (lw_at lw_m3 56 rfl) rfl
theorem q626 : (Jvm.Cond.methodLink "java/lang/StringUTF16" (414 : Nat) ({ cls := "java/lang/String", name := "checkIndex", desc := "(II)V" } : Jvm.MethodName)) ∈ lw_all := lw_g (lw_at lw_m3 57 rfl) rfl
theorem q627 : (Jvm.Cond.methodLink "java/lang/StringUTF16" (71 : Nat) ({ cls := "java/lang/StringUTF16", name := "getChar", desc := "([BI)C" } : Jvm.MethodName)) ∈ lw_all := lw_g (lw_at lw_m3 58 rfl) rfl
theorem q628 : (Jvm.Cond.static ({ cls := "java/lang/StringUTF16", name := "getChar", desc := "([BI)C" } : Jvm.MethodName)) ∈ lw_all := lw_g (lw_at lw_m3 59 rfl) rfl
theorem q629 : (Jvm.Cond.code ({ cls := "java/lang/StringUTF16", name := "getChar", desc := "([BI)C" } : Jvm.MethodName) prog_55_method_5_code (2 : Nat) (Option.some Jvm.ClassFile.FieldType.char)) ∈ lw_all := lw_g (lw_at lw_m3 60 rfl) rfl
theorem q630 : (Jvm.Cond.fieldLink "java/lang/StringUTF16" (44 : Nat) "java/lang/StringUTF16" "$assertionsDisabled" "Z") ∈ lw_all := lw_g (lw_at lw_m3 61 rfl) rfl
theorem q631 : (Jvm.Cond.laysStatic "java/lang/StringUTF16" "$assertionsDisabled" "Z") ∈ lw_tbl := lw_at lw_m3 62 rfl
theorem q632 : (Jvm.Cond.fieldLink "java/lang/StringUTF16" (59 : Nat) "java/lang/StringUTF16" "HI_BYTE_SHIFT" "I") ∈ lw_all := lw_g (lw_at lw_m3 63 rfl) rfl
theorem q633 : (Jvm.Cond.laysStatic "java/lang/StringUTF16" "HI_BYTE_SHIFT" "I") ∈ lw_tbl := lw_at lw_m3 64 rfl
theorem q634 : (Jvm.Cond.fieldLink "java/lang/StringUTF16" (63 : Nat) "java/lang/StringUTF16" "LO_BYTE_SHIFT" "I") ∈ lw_all := lw_g (lw_at lw_m3 65 rfl) rfl
theorem q635 : (Jvm.Cond.laysStatic "java/lang/StringUTF16" "LO_BYTE_SHIFT" "I") ∈ lw_tbl := lw_at lw_m3 66 rfl

/-! ReflectMirror$Member -/
set_option maxRecDepth 100000
def RX9 : String := "ReflectMirror$Member"
def TX9 : u_T := fun k => match k with
  | 0 => ("ReflectMirror$Member", "number", "I", true)
  | 1 => ("ReflectMirror$Member", "type", "LReflectMirror$Type;", true)
  | 2 => ("ReflectMirror$Member", "name", "I", true)
  | 3 => ("ReflectMirror$Member", "marks", "I", true)
  | 4 => ("ReflectMirror$Member", "isField", "Z", true)
  | 5 => ("ReflectMirror$Member", "of", "LReflectMirror$Type;", true)
  | 6 => ("ReflectMirror$Member", "params", "[LReflectMirror$Type;", true)
  | 7 => ("ReflectMirror$Member", "many", "I", false)
  | 8 => ("ReflectMirror$Member", "isOpen", "Z", false)
  | 9 => ("ReflectMirror$Member", "isTold", "Z", false)
  | 10 => ("ReflectMirror$Member", "body", "LReflectMirror$Body;", false)
  | _ => ("ReflectMirror$Member", "row", "Ljava/lang/Object;", false)
def tyX9 : Nat → FieldType := fun k => match k with
  | 0 => .int
  | 1 => .object "ReflectMirror$Type"
  | 2 => .int
  | 3 => .int
  | 4 => .boolean
  | 5 => .object "ReflectMirror$Type"
  | 6 => .array (.object "ReflectMirror$Type")
  | 7 => .int
  | 8 => .boolean
  | 9 => .boolean
  | 10 => .object "ReflectMirror$Body"
  | _ => .object "java/lang/Object"
abbrev wsX90 : List Cond := u_ws RX9 TX9 12
theorem nmX9 : ∀ a, a < 12 → ∀ b, b < 12 → a ≠ b → (TX9 a).2.1 ≠ (TX9 b).2.1 := by decide +kernel
theorem tyX9_ok : ∀ k, k < 12 → parseFieldDescriptor (TX9 k).2.2.1 = some (tyX9 k) := by decide +kernel
abbrev cX9_number : ByteArray := prog_13_method_2_code
def yX9_number : MethodName := ⟨RX9, "number", "()I"⟩
theorem dX9_number_0 : decode cX9_number 0 = .ok (.aload_n 0, 1) := by decide +kernel
theorem dX9_number_1 : decode cX9_number 1 = .ok (.getfield 17, 3) := by decide +kernel
theorem dX9_number_4 : decode cX9_number 4 = .ok (.ireturn, 1) := by decide +kernel
abbrev cX9_init : ByteArray := prog_13_method_1_code
def yX9_init : MethodName := ⟨RX9, "<init>", "(ILReflectMirror$Type;IIZLReflectMirror$Type;)V"⟩
def dkwX9_init_1 : List UInt8 := [181, 0, 25, 42, 21, 4, 181, 0, 28, 42, 21, 5, 181, 0, 31, 42, 25, 6, 181, 0, 35, 177]
abbrev dktX9_init_1 : List UInt8 := dkwX9_init_1 ++ []
def dkwX9_init_0 : List UInt8 := [42, 183, 0, 3, 42, 6, 189, 0, 9, 181, 0, 11, 42, 27, 181, 0, 17, 42, 44, 181, 0, 21, 42, 29]
abbrev dktX9_init_0 : List UInt8 := dkwX9_init_0 ++ dktX9_init_1
theorem dksX9_init_0 : cX9_init.data.toList.drop 0 = dktX9_init_0 := by decide +kernel
theorem dksX9_init_1 : cX9_init.data.toList.drop 24 = dktX9_init_1 := dk_seg dksX9_init_0 24 rfl rfl
theorem dX9_init_0 : decode cX9_init 0 = .ok (.aload_n 0, 1) := dk_42 (dk_at dksX9_init_0 0 rfl rfl)
theorem dX9_init_1 : decode cX9_init 1 = .ok (.invokespecial 3, 3) := dk_183 0 3 (dk_at dksX9_init_0 1 rfl rfl)
theorem dX9_init_4 : decode cX9_init 4 = .ok (.aload_n 0, 1) := dk_42 (dk_at dksX9_init_0 4 rfl rfl)
theorem dX9_init_5 : decode cX9_init 5 = .ok (.iconst 3, 1) := dk_6 (dk_at dksX9_init_0 5 rfl rfl)
theorem dX9_init_6 : decode cX9_init 6 = .ok (.anewarray 9, 3) := dk_189 0 9 (dk_at dksX9_init_0 6 rfl rfl)
theorem dX9_init_9 : decode cX9_init 9 = .ok (.putfield 11, 3) := dk_181 0 11 (dk_at dksX9_init_0 9 rfl rfl)
theorem dX9_init_12 : decode cX9_init 12 = .ok (.aload_n 0, 1) := dk_42 (dk_at dksX9_init_0 12 rfl rfl)
theorem dX9_init_13 : decode cX9_init 13 = .ok (.iload_n 1, 1) := dk_27 (dk_at dksX9_init_0 13 rfl rfl)
theorem dX9_init_14 : decode cX9_init 14 = .ok (.putfield 17, 3) := dk_181 0 17 (dk_at dksX9_init_0 14 rfl rfl)
theorem dX9_init_17 : decode cX9_init 17 = .ok (.aload_n 0, 1) := dk_42 (dk_at dksX9_init_0 17 rfl rfl)
theorem dX9_init_18 : decode cX9_init 18 = .ok (.aload_n 2, 1) := dk_44 (dk_at dksX9_init_0 18 rfl rfl)
theorem dX9_init_19 : decode cX9_init 19 = .ok (.putfield 21, 3) := dk_181 0 21 (dk_at dksX9_init_0 19 rfl rfl)
theorem dX9_init_22 : decode cX9_init 22 = .ok (.aload_n 0, 1) := dk_42 (dk_at dksX9_init_0 22 rfl rfl)
theorem dX9_init_23 : decode cX9_init 23 = .ok (.iload_n 3, 1) := dk_29 (dk_at dksX9_init_0 23 rfl rfl)
theorem dX9_init_24 : decode cX9_init 24 = .ok (.putfield 25, 3) := dk_181 0 25 (dk_at dksX9_init_1 0 rfl rfl)
theorem dX9_init_27 : decode cX9_init 27 = .ok (.aload_n 0, 1) := dk_42 (dk_at dksX9_init_1 3 rfl rfl)
theorem dX9_init_28 : decode cX9_init 28 = .ok (.iload 4, 2) := dk_21 4 (dk_at dksX9_init_1 4 rfl rfl)
theorem dX9_init_30 : decode cX9_init 30 = .ok (.putfield 28, 3) := dk_181 0 28 (dk_at dksX9_init_1 6 rfl rfl)
theorem dX9_init_33 : decode cX9_init 33 = .ok (.aload_n 0, 1) := dk_42 (dk_at dksX9_init_1 9 rfl rfl)
theorem dX9_init_34 : decode cX9_init 34 = .ok (.iload 5, 2) := dk_21 5 (dk_at dksX9_init_1 10 rfl rfl)
theorem dX9_init_36 : decode cX9_init 36 = .ok (.putfield 31, 3) := dk_181 0 31 (dk_at dksX9_init_1 12 rfl rfl)
theorem dX9_init_39 : decode cX9_init 39 = .ok (.aload_n 0, 1) := dk_42 (dk_at dksX9_init_1 15 rfl rfl)
theorem dX9_init_40 : decode cX9_init 40 = .ok (.aload 6, 2) := dk_25 6 (dk_at dksX9_init_1 16 rfl rfl)
theorem dX9_init_42 : decode cX9_init 42 = .ok (.putfield 35, 3) := dk_181 0 35 (dk_at dksX9_init_1 18 rfl rfl)
theorem dX9_init_45 : decode cX9_init 45 = .ok (.return_, 1) := dk_177 (dk_at dksX9_init_1 21 rfl rfl)
abbrev cX9_has : ByteArray := prog_13_method_4_code
def yX9_has : MethodName := ⟨RX9, "has", "(I)Z"⟩
def dkwX9_has_0 : List UInt8 := [42, 180, 0, 28, 27, 126, 153, 0, 7, 4, 167, 0, 4, 3, 172]
abbrev dktX9_has_0 : List UInt8 := dkwX9_has_0 ++ []
theorem dksX9_has_0 : cX9_has.data.toList.drop 0 = dktX9_has_0 := by decide +kernel
theorem dX9_has_0 : decode cX9_has 0 = .ok (.aload_n 0, 1) := dk_42 (dk_at dksX9_has_0 0 rfl rfl)
theorem dX9_has_1 : decode cX9_has 1 = .ok (.getfield 28, 3) := dk_180 0 28 (dk_at dksX9_has_0 1 rfl rfl)
theorem dX9_has_4 : decode cX9_has 4 = .ok (.iload_n 1, 1) := dk_27 (dk_at dksX9_has_0 4 rfl rfl)
theorem dX9_has_5 : decode cX9_has 5 = .ok (.iand, 1) := dk_126 (dk_at dksX9_has_0 5 rfl rfl)
theorem dX9_has_6 : decode cX9_has 6 = .ok (.ifCond .eq 7, 3) := dk_153 0 7 (dk_at dksX9_has_0 6 rfl rfl)
theorem dX9_has_9 : decode cX9_has 9 = .ok (.iconst 1, 1) := dk_4 (dk_at dksX9_has_0 9 rfl rfl)
theorem dX9_has_10 : decode cX9_has 10 = .ok (.goto 4, 3) := dk_167 0 4 (dk_at dksX9_has_0 10 rfl rfl)
theorem dX9_has_13 : decode cX9_has 13 = .ok (.iconst 0, 1) := dk_3 (dk_at dksX9_has_0 13 rfl rfl)
theorem dX9_has_14 : decode cX9_has 14 = .ok (.ireturn, 1) := dk_172 (dk_at dksX9_has_0 14 rfl rfl)
abbrev cX9_isLike : ByteArray := prog_13_method_7_code
def yX9_isLike : MethodName := ⟨RX9, "isLike", "(LReflectMirror$Member;)Z"⟩
def dkwX9_isLike_3 : List UInt8 := [167, 0, 4, 3, 61, 132, 3, 1, 167, 255, 220, 28, 172]
abbrev dktX9_isLike_3 : List UInt8 := dkwX9_isLike_3 ++ []
def dkwX9_isLike_2 : List UInt8 := [162, 0, 34, 28, 153, 0, 30, 42, 180, 0, 11, 29, 50, 43, 180, 0, 11, 29, 50, 166, 0, 7, 4]
abbrev dktX9_isLike_2 : List UInt8 := dkwX9_isLike_2 ++ dktX9_isLike_3
def dkwX9_isLike_1 : List UInt8 := [180, 0, 35, 43, 180, 0, 35, 166, 0, 7, 4, 167, 0, 4, 3, 61, 3, 62, 29, 42, 180, 0, 50]
abbrev dktX9_isLike_1 : List UInt8 := dkwX9_isLike_1 ++ dktX9_isLike_2
def dkwX9_isLike_0 : List UInt8 := [42, 180, 0, 25, 43, 180, 0, 25, 160, 0, 29, 42, 180, 0, 50, 43, 180, 0, 50, 160, 0, 18, 42]
abbrev dktX9_isLike_0 : List UInt8 := dkwX9_isLike_0 ++ dktX9_isLike_1
theorem dksX9_isLike_0 : cX9_isLike.data.toList.drop 0 = dktX9_isLike_0 := by decide +kernel
theorem dksX9_isLike_1 : cX9_isLike.data.toList.drop 23 = dktX9_isLike_1 := dk_seg dksX9_isLike_0 23 rfl rfl
theorem dksX9_isLike_2 : cX9_isLike.data.toList.drop 46 = dktX9_isLike_2 := dk_seg dksX9_isLike_1 23 rfl rfl
theorem dksX9_isLike_3 : cX9_isLike.data.toList.drop 69 = dktX9_isLike_3 := dk_seg dksX9_isLike_2 23 rfl rfl
theorem dX9_isLike_0 : decode cX9_isLike 0 = .ok (.aload_n 0, 1) := dk_42 (dk_at dksX9_isLike_0 0 rfl rfl)
theorem dX9_isLike_1 : decode cX9_isLike 1 = .ok (.getfield 25, 3) := dk_180 0 25 (dk_at dksX9_isLike_0 1 rfl rfl)
theorem dX9_isLike_4 : decode cX9_isLike 4 = .ok (.aload_n 1, 1) := dk_43 (dk_at dksX9_isLike_0 4 rfl rfl)
theorem dX9_isLike_5 : decode cX9_isLike 5 = .ok (.getfield 25, 3) := dk_180 0 25 (dk_at dksX9_isLike_0 5 rfl rfl)
theorem dX9_isLike_8 : decode cX9_isLike 8 = .ok (.if_icmp .ne 29, 3) := dk_160 0 29 (dk_at dksX9_isLike_0 8 rfl rfl)
theorem dX9_isLike_11 : decode cX9_isLike 11 = .ok (.aload_n 0, 1) := dk_42 (dk_at dksX9_isLike_0 11 rfl rfl)
theorem dX9_isLike_12 : decode cX9_isLike 12 = .ok (.getfield 50, 3) := dk_180 0 50 (dk_at dksX9_isLike_0 12 rfl rfl)
theorem dX9_isLike_15 : decode cX9_isLike 15 = .ok (.aload_n 1, 1) := dk_43 (dk_at dksX9_isLike_0 15 rfl rfl)
theorem dX9_isLike_16 : decode cX9_isLike 16 = .ok (.getfield 50, 3) := dk_180 0 50 (dk_at dksX9_isLike_0 16 rfl rfl)
theorem dX9_isLike_19 : decode cX9_isLike 19 = .ok (.if_icmp .ne 18, 3) := dk_160 0 18 (dk_at dksX9_isLike_0 19 rfl rfl)
theorem dX9_isLike_22 : decode cX9_isLike 22 = .ok (.aload_n 0, 1) := dk_42 (dk_at dksX9_isLike_0 22 rfl rfl)
theorem dX9_isLike_23 : decode cX9_isLike 23 = .ok (.getfield 35, 3) := dk_180 0 35 (dk_at dksX9_isLike_1 0 rfl rfl)
theorem dX9_isLike_26 : decode cX9_isLike 26 = .ok (.aload_n 1, 1) := dk_43 (dk_at dksX9_isLike_1 3 rfl rfl)
theorem dX9_isLike_27 : decode cX9_isLike 27 = .ok (.getfield 35, 3) := dk_180 0 35 (dk_at dksX9_isLike_1 4 rfl rfl)
theorem dX9_isLike_30 : decode cX9_isLike 30 = .ok (.if_acmp .ne 7, 3) := dk_166 0 7 (dk_at dksX9_isLike_1 7 rfl rfl)
theorem dX9_isLike_33 : decode cX9_isLike 33 = .ok (.iconst 1, 1) := dk_4 (dk_at dksX9_isLike_1 10 rfl rfl)
theorem dX9_isLike_34 : decode cX9_isLike 34 = .ok (.goto 4, 3) := dk_167 0 4 (dk_at dksX9_isLike_1 11 rfl rfl)
theorem dX9_isLike_37 : decode cX9_isLike 37 = .ok (.iconst 0, 1) := dk_3 (dk_at dksX9_isLike_1 14 rfl rfl)
theorem dX9_isLike_38 : decode cX9_isLike 38 = .ok (.istore_n 2, 1) := dk_61 (dk_at dksX9_isLike_1 15 rfl rfl)
theorem dX9_isLike_39 : decode cX9_isLike 39 = .ok (.iconst 0, 1) := dk_3 (dk_at dksX9_isLike_1 16 rfl rfl)
theorem dX9_isLike_40 : decode cX9_isLike 40 = .ok (.istore_n 3, 1) := dk_62 (dk_at dksX9_isLike_1 17 rfl rfl)
theorem dX9_isLike_41 : decode cX9_isLike 41 = .ok (.iload_n 3, 1) := dk_29 (dk_at dksX9_isLike_1 18 rfl rfl)
theorem dX9_isLike_42 : decode cX9_isLike 42 = .ok (.aload_n 0, 1) := dk_42 (dk_at dksX9_isLike_1 19 rfl rfl)
theorem dX9_isLike_43 : decode cX9_isLike 43 = .ok (.getfield 50, 3) := dk_180 0 50 (dk_at dksX9_isLike_1 20 rfl rfl)
theorem dX9_isLike_46 : decode cX9_isLike 46 = .ok (.if_icmp .ge 34, 3) := dk_162 0 34 (dk_at dksX9_isLike_2 0 rfl rfl)
theorem dX9_isLike_49 : decode cX9_isLike 49 = .ok (.iload_n 2, 1) := dk_28 (dk_at dksX9_isLike_2 3 rfl rfl)
theorem dX9_isLike_50 : decode cX9_isLike 50 = .ok (.ifCond .eq 30, 3) := dk_153 0 30 (dk_at dksX9_isLike_2 4 rfl rfl)
theorem dX9_isLike_53 : decode cX9_isLike 53 = .ok (.aload_n 0, 1) := dk_42 (dk_at dksX9_isLike_2 7 rfl rfl)
theorem dX9_isLike_54 : decode cX9_isLike 54 = .ok (.getfield 11, 3) := dk_180 0 11 (dk_at dksX9_isLike_2 8 rfl rfl)
theorem dX9_isLike_57 : decode cX9_isLike 57 = .ok (.iload_n 3, 1) := dk_29 (dk_at dksX9_isLike_2 11 rfl rfl)
theorem dX9_isLike_58 : decode cX9_isLike 58 = .ok (.aaload, 1) := dk_50 (dk_at dksX9_isLike_2 12 rfl rfl)
theorem dX9_isLike_59 : decode cX9_isLike 59 = .ok (.aload_n 1, 1) := dk_43 (dk_at dksX9_isLike_2 13 rfl rfl)
theorem dX9_isLike_60 : decode cX9_isLike 60 = .ok (.getfield 11, 3) := dk_180 0 11 (dk_at dksX9_isLike_2 14 rfl rfl)
theorem dX9_isLike_63 : decode cX9_isLike 63 = .ok (.iload_n 3, 1) := dk_29 (dk_at dksX9_isLike_2 17 rfl rfl)
theorem dX9_isLike_64 : decode cX9_isLike 64 = .ok (.aaload, 1) := dk_50 (dk_at dksX9_isLike_2 18 rfl rfl)
theorem dX9_isLike_65 : decode cX9_isLike 65 = .ok (.if_acmp .ne 7, 3) := dk_166 0 7 (dk_at dksX9_isLike_2 19 rfl rfl)
theorem dX9_isLike_68 : decode cX9_isLike 68 = .ok (.iconst 1, 1) := dk_4 (dk_at dksX9_isLike_2 22 rfl rfl)
theorem dX9_isLike_69 : decode cX9_isLike 69 = .ok (.goto 4, 3) := dk_167 0 4 (dk_at dksX9_isLike_3 0 rfl rfl)
theorem dX9_isLike_72 : decode cX9_isLike 72 = .ok (.iconst 0, 1) := dk_3 (dk_at dksX9_isLike_3 3 rfl rfl)
theorem dX9_isLike_73 : decode cX9_isLike 73 = .ok (.istore_n 2, 1) := dk_61 (dk_at dksX9_isLike_3 4 rfl rfl)
theorem dX9_isLike_74 : decode cX9_isLike 74 = .ok (.iinc 3 1, 3) := dk_132 3 1 (dk_at dksX9_isLike_3 5 rfl rfl)
theorem dX9_isLike_77 : decode cX9_isLike 77 = .ok (.goto (-36), 3) := dk_167 255 220 (dk_at dksX9_isLike_3 8 rfl rfl)
theorem dX9_isLike_80 : decode cX9_isLike 80 = .ok (.iload_n 2, 1) := dk_28 (dk_at dksX9_isLike_3 11 rfl rfl)
theorem dX9_isLike_81 : decode cX9_isLike 81 = .ok (.ireturn, 1) := dk_172 (dk_at dksX9_isLike_3 12 rfl rfl)
abbrev cX9_who : ByteArray := prog_13_method_3_code
def yX9_who : MethodName := ⟨RX9, "who", "()I"⟩
def dkwX9_who_0 : List UInt8 := [42, 180, 0, 28, 6, 126, 172]
abbrev dktX9_who_0 : List UInt8 := dkwX9_who_0 ++ []
theorem dksX9_who_0 : cX9_who.data.toList.drop 0 = dktX9_who_0 := by decide +kernel
theorem dX9_who_0 : decode cX9_who 0 = .ok (.aload_n 0, 1) := dk_42 (dk_at dksX9_who_0 0 rfl rfl)
theorem dX9_who_1 : decode cX9_who 1 = .ok (.getfield 28, 3) := dk_180 0 28 (dk_at dksX9_who_0 1 rfl rfl)
theorem dX9_who_4 : decode cX9_who 4 = .ok (.iconst 3, 1) := dk_6 (dk_at dksX9_who_0 4 rfl rfl)
theorem dX9_who_5 : decode cX9_who 5 = .ok (.iand, 1) := dk_126 (dk_at dksX9_who_0 5 rfl rfl)
theorem dX9_who_6 : decode cX9_who 6 = .ok (.ireturn, 1) := dk_172 (dk_at dksX9_who_0 6 rfl rfl)
abbrev cX9_isMet : ByteArray := prog_13_method_6_code
def yX9_isMet : MethodName := ⟨RX9, "isMet", "()Z"⟩
def dkwX9_isMet_0 : List UInt8 := [42, 7, 182, 0, 42, 154, 0, 14, 42, 182, 0, 46, 154, 0, 7, 4, 167, 0, 4, 3, 172]
abbrev dktX9_isMet_0 : List UInt8 := dkwX9_isMet_0 ++ []
theorem dksX9_isMet_0 : cX9_isMet.data.toList.drop 0 = dktX9_isMet_0 := by decide +kernel
theorem dX9_isMet_0 : decode cX9_isMet 0 = .ok (.aload_n 0, 1) := dk_42 (dk_at dksX9_isMet_0 0 rfl rfl)
theorem dX9_isMet_1 : decode cX9_isMet 1 = .ok (.iconst 4, 1) := dk_7 (dk_at dksX9_isMet_0 1 rfl rfl)
theorem dX9_isMet_2 : decode cX9_isMet 2 = .ok (.invokevirtual 42, 3) := dk_182 0 42 (dk_at dksX9_isMet_0 2 rfl rfl)
theorem dX9_isMet_5 : decode cX9_isMet 5 = .ok (.ifCond .ne 14, 3) := dk_154 0 14 (dk_at dksX9_isMet_0 5 rfl rfl)
theorem dX9_isMet_8 : decode cX9_isMet 8 = .ok (.aload_n 0, 1) := dk_42 (dk_at dksX9_isMet_0 8 rfl rfl)
theorem dX9_isMet_9 : decode cX9_isMet 9 = .ok (.invokevirtual 46, 3) := dk_182 0 46 (dk_at dksX9_isMet_0 9 rfl rfl)
theorem dX9_isMet_12 : decode cX9_isMet 12 = .ok (.ifCond .ne 7, 3) := dk_154 0 7 (dk_at dksX9_isMet_0 12 rfl rfl)
theorem dX9_isMet_15 : decode cX9_isMet 15 = .ok (.iconst 1, 1) := dk_4 (dk_at dksX9_isMet_0 15 rfl rfl)
theorem dX9_isMet_16 : decode cX9_isMet 16 = .ok (.goto 4, 3) := dk_167 0 4 (dk_at dksX9_isMet_0 16 rfl rfl)
theorem dX9_isMet_19 : decode cX9_isMet 19 = .ok (.iconst 0, 1) := dk_3 (dk_at dksX9_isMet_0 19 rfl rfl)
theorem dX9_isMet_20 : decode cX9_isMet 20 = .ok (.ireturn, 1) := dk_172 (dk_at dksX9_isMet_0 20 rfl rfl)
abbrev cX9_isPrivate : ByteArray := prog_13_method_5_code
def yX9_isPrivate : MethodName := ⟨RX9, "isPrivate", "()Z"⟩
def dkwX9_isPrivate_0 : List UInt8 := [42, 182, 0, 38, 5, 160, 0, 7, 4, 167, 0, 4, 3, 172]
abbrev dktX9_isPrivate_0 : List UInt8 := dkwX9_isPrivate_0 ++ []
theorem dksX9_isPrivate_0 : cX9_isPrivate.data.toList.drop 0 = dktX9_isPrivate_0 := by decide +kernel
theorem dX9_isPrivate_0 : decode cX9_isPrivate 0 = .ok (.aload_n 0, 1) := dk_42 (dk_at dksX9_isPrivate_0 0 rfl rfl)
theorem dX9_isPrivate_1 : decode cX9_isPrivate 1 = .ok (.invokevirtual 38, 3) := dk_182 0 38 (dk_at dksX9_isPrivate_0 1 rfl rfl)
theorem dX9_isPrivate_4 : decode cX9_isPrivate 4 = .ok (.iconst 2, 1) := dk_5 (dk_at dksX9_isPrivate_0 4 rfl rfl)
theorem dX9_isPrivate_5 : decode cX9_isPrivate 5 = .ok (.if_icmp .ne 7, 3) := dk_160 0 7 (dk_at dksX9_isPrivate_0 5 rfl rfl)
theorem dX9_isPrivate_8 : decode cX9_isPrivate 8 = .ok (.iconst 1, 1) := dk_4 (dk_at dksX9_isPrivate_0 8 rfl rfl)
theorem dX9_isPrivate_9 : decode cX9_isPrivate 9 = .ok (.goto 4, 3) := dk_167 0 4 (dk_at dksX9_isPrivate_0 9 rfl rfl)
theorem dX9_isPrivate_12 : decode cX9_isPrivate 12 = .ok (.iconst 0, 1) := dk_3 (dk_at dksX9_isPrivate_0 12 rfl rfl)
theorem dX9_isPrivate_13 : decode cX9_isPrivate 13 = .ok (.ireturn, 1) := dk_172 (dk_at dksX9_isPrivate_0 13 rfl rfl)
abbrev cX9_overrides : ByteArray := prog_13_method_8_code
def yX9_overrides : MethodName := ⟨RX9, "overrides", "(LReflectMirror$Member;)Z"⟩
def dkwX9_overrides_3 : List UInt8 := [42, 180, 0, 21, 43, 180, 0, 21, 182, 0, 63, 153, 0, 11, 28, 153, 0, 7, 4, 167, 0, 4, 3, 172]
abbrev dktX9_overrides_3 : List UInt8 := dkwX9_overrides_3 ++ []
def dkwX9_overrides_2 : List UInt8 := [182, 0, 60, 153, 0, 43, 43, 182, 0, 60, 153, 0, 36, 42, 180, 0, 21, 43, 180, 0, 21, 165, 0, 25]
abbrev dktX9_overrides_2 : List UInt8 := dkwX9_overrides_2 ++ dktX9_overrides_3
def dkwX9_overrides_1 : List UInt8 := [180, 0, 21, 180, 0, 53, 160, 0, 7, 4, 167, 0, 4, 3, 61, 42, 43, 182, 0, 56, 153, 0, 50, 42]
abbrev dktX9_overrides_1 : List UInt8 := dkwX9_overrides_1 ++ dktX9_overrides_2
def dkwX9_overrides_0 : List UInt8 := [43, 182, 0, 38, 4, 159, 0, 28, 43, 182, 0, 38, 6, 159, 0, 20, 42, 180, 0, 21, 180, 0, 53, 43]
abbrev dktX9_overrides_0 : List UInt8 := dkwX9_overrides_0 ++ dktX9_overrides_1
theorem dksX9_overrides_0 : cX9_overrides.data.toList.drop 0 = dktX9_overrides_0 := by decide +kernel
theorem dksX9_overrides_1 : cX9_overrides.data.toList.drop 24 = dktX9_overrides_1 := dk_seg dksX9_overrides_0 24 rfl rfl
theorem dksX9_overrides_2 : cX9_overrides.data.toList.drop 48 = dktX9_overrides_2 := dk_seg dksX9_overrides_1 24 rfl rfl
theorem dksX9_overrides_3 : cX9_overrides.data.toList.drop 72 = dktX9_overrides_3 := dk_seg dksX9_overrides_2 24 rfl rfl
theorem dX9_overrides_0 : decode cX9_overrides 0 = .ok (.aload_n 1, 1) := dk_43 (dk_at dksX9_overrides_0 0 rfl rfl)
theorem dX9_overrides_1 : decode cX9_overrides 1 = .ok (.invokevirtual 38, 3) := dk_182 0 38 (dk_at dksX9_overrides_0 1 rfl rfl)
theorem dX9_overrides_4 : decode cX9_overrides 4 = .ok (.iconst 1, 1) := dk_4 (dk_at dksX9_overrides_0 4 rfl rfl)
theorem dX9_overrides_5 : decode cX9_overrides 5 = .ok (.if_icmp .eq 28, 3) := dk_159 0 28 (dk_at dksX9_overrides_0 5 rfl rfl)
theorem dX9_overrides_8 : decode cX9_overrides 8 = .ok (.aload_n 1, 1) := dk_43 (dk_at dksX9_overrides_0 8 rfl rfl)
theorem dX9_overrides_9 : decode cX9_overrides 9 = .ok (.invokevirtual 38, 3) := dk_182 0 38 (dk_at dksX9_overrides_0 9 rfl rfl)
theorem dX9_overrides_12 : decode cX9_overrides 12 = .ok (.iconst 3, 1) := dk_6 (dk_at dksX9_overrides_0 12 rfl rfl)
theorem dX9_overrides_13 : decode cX9_overrides 13 = .ok (.if_icmp .eq 20, 3) := dk_159 0 20 (dk_at dksX9_overrides_0 13 rfl rfl)
theorem dX9_overrides_16 : decode cX9_overrides 16 = .ok (.aload_n 0, 1) := dk_42 (dk_at dksX9_overrides_0 16 rfl rfl)
theorem dX9_overrides_17 : decode cX9_overrides 17 = .ok (.getfield 21, 3) := dk_180 0 21 (dk_at dksX9_overrides_0 17 rfl rfl)
theorem dX9_overrides_20 : decode cX9_overrides 20 = .ok (.getfield 53, 3) := dk_180 0 53 (dk_at dksX9_overrides_0 20 rfl rfl)
theorem dX9_overrides_23 : decode cX9_overrides 23 = .ok (.aload_n 1, 1) := dk_43 (dk_at dksX9_overrides_0 23 rfl rfl)
theorem dX9_overrides_24 : decode cX9_overrides 24 = .ok (.getfield 21, 3) := dk_180 0 21 (dk_at dksX9_overrides_1 0 rfl rfl)
theorem dX9_overrides_27 : decode cX9_overrides 27 = .ok (.getfield 53, 3) := dk_180 0 53 (dk_at dksX9_overrides_1 3 rfl rfl)
theorem dX9_overrides_30 : decode cX9_overrides 30 = .ok (.if_icmp .ne 7, 3) := dk_160 0 7 (dk_at dksX9_overrides_1 6 rfl rfl)
theorem dX9_overrides_33 : decode cX9_overrides 33 = .ok (.iconst 1, 1) := dk_4 (dk_at dksX9_overrides_1 9 rfl rfl)
theorem dX9_overrides_34 : decode cX9_overrides 34 = .ok (.goto 4, 3) := dk_167 0 4 (dk_at dksX9_overrides_1 10 rfl rfl)
theorem dX9_overrides_37 : decode cX9_overrides 37 = .ok (.iconst 0, 1) := dk_3 (dk_at dksX9_overrides_1 13 rfl rfl)
theorem dX9_overrides_38 : decode cX9_overrides 38 = .ok (.istore_n 2, 1) := dk_61 (dk_at dksX9_overrides_1 14 rfl rfl)
theorem dX9_overrides_39 : decode cX9_overrides 39 = .ok (.aload_n 0, 1) := dk_42 (dk_at dksX9_overrides_1 15 rfl rfl)
theorem dX9_overrides_40 : decode cX9_overrides 40 = .ok (.aload_n 1, 1) := dk_43 (dk_at dksX9_overrides_1 16 rfl rfl)
theorem dX9_overrides_41 : decode cX9_overrides 41 = .ok (.invokevirtual 56, 3) := dk_182 0 56 (dk_at dksX9_overrides_1 17 rfl rfl)
theorem dX9_overrides_44 : decode cX9_overrides 44 = .ok (.ifCond .eq 50, 3) := dk_153 0 50 (dk_at dksX9_overrides_1 20 rfl rfl)
theorem dX9_overrides_47 : decode cX9_overrides 47 = .ok (.aload_n 0, 1) := dk_42 (dk_at dksX9_overrides_1 23 rfl rfl)
theorem dX9_overrides_48 : decode cX9_overrides 48 = .ok (.invokevirtual 60, 3) := dk_182 0 60 (dk_at dksX9_overrides_2 0 rfl rfl)
theorem dX9_overrides_51 : decode cX9_overrides 51 = .ok (.ifCond .eq 43, 3) := dk_153 0 43 (dk_at dksX9_overrides_2 3 rfl rfl)
theorem dX9_overrides_54 : decode cX9_overrides 54 = .ok (.aload_n 1, 1) := dk_43 (dk_at dksX9_overrides_2 6 rfl rfl)
theorem dX9_overrides_55 : decode cX9_overrides 55 = .ok (.invokevirtual 60, 3) := dk_182 0 60 (dk_at dksX9_overrides_2 7 rfl rfl)
theorem dX9_overrides_58 : decode cX9_overrides 58 = .ok (.ifCond .eq 36, 3) := dk_153 0 36 (dk_at dksX9_overrides_2 10 rfl rfl)
theorem dX9_overrides_61 : decode cX9_overrides 61 = .ok (.aload_n 0, 1) := dk_42 (dk_at dksX9_overrides_2 13 rfl rfl)
theorem dX9_overrides_62 : decode cX9_overrides 62 = .ok (.getfield 21, 3) := dk_180 0 21 (dk_at dksX9_overrides_2 14 rfl rfl)
theorem dX9_overrides_65 : decode cX9_overrides 65 = .ok (.aload_n 1, 1) := dk_43 (dk_at dksX9_overrides_2 17 rfl rfl)
theorem dX9_overrides_66 : decode cX9_overrides 66 = .ok (.getfield 21, 3) := dk_180 0 21 (dk_at dksX9_overrides_2 18 rfl rfl)
theorem dX9_overrides_69 : decode cX9_overrides 69 = .ok (.if_acmp .eq 25, 3) := dk_165 0 25 (dk_at dksX9_overrides_2 21 rfl rfl)
theorem dX9_overrides_72 : decode cX9_overrides 72 = .ok (.aload_n 0, 1) := dk_42 (dk_at dksX9_overrides_3 0 rfl rfl)
theorem dX9_overrides_73 : decode cX9_overrides 73 = .ok (.getfield 21, 3) := dk_180 0 21 (dk_at dksX9_overrides_3 1 rfl rfl)
theorem dX9_overrides_76 : decode cX9_overrides 76 = .ok (.aload_n 1, 1) := dk_43 (dk_at dksX9_overrides_3 4 rfl rfl)
theorem dX9_overrides_77 : decode cX9_overrides 77 = .ok (.getfield 21, 3) := dk_180 0 21 (dk_at dksX9_overrides_3 5 rfl rfl)
theorem dX9_overrides_80 : decode cX9_overrides 80 = .ok (.invokevirtual 63, 3) := dk_182 0 63 (dk_at dksX9_overrides_3 8 rfl rfl)
theorem dX9_overrides_83 : decode cX9_overrides 83 = .ok (.ifCond .eq 11, 3) := dk_153 0 11 (dk_at dksX9_overrides_3 11 rfl rfl)
theorem dX9_overrides_86 : decode cX9_overrides 86 = .ok (.iload_n 2, 1) := dk_28 (dk_at dksX9_overrides_3 14 rfl rfl)
theorem dX9_overrides_87 : decode cX9_overrides 87 = .ok (.ifCond .eq 7, 3) := dk_153 0 7 (dk_at dksX9_overrides_3 15 rfl rfl)
theorem dX9_overrides_90 : decode cX9_overrides 90 = .ok (.iconst 1, 1) := dk_4 (dk_at dksX9_overrides_3 18 rfl rfl)
theorem dX9_overrides_91 : decode cX9_overrides 91 = .ok (.goto 4, 3) := dk_167 0 4 (dk_at dksX9_overrides_3 19 rfl rfl)
theorem dX9_overrides_94 : decode cX9_overrides 94 = .ok (.iconst 0, 1) := dk_3 (dk_at dksX9_overrides_3 22 rfl rfl)
theorem dX9_overrides_95 : decode cX9_overrides 95 = .ok (.ireturn, 1) := dk_172 (dk_at dksX9_overrides_3 23 rfl rfl)
theorem q103 : (Jvm.Cond.initialized "ReflectMirror$Member") ∈ lw_all := lw_g (lw_at lw_m1 14 rfl) rfl
theorem q178 : (Jvm.Cond.fieldLink "ReflectMirror$Member" (53 : Nat) "ReflectMirror$Type" "pack" "I") ∈ lw_all := lw_g (lw_at lw_m1 89 rfl) rfl
theorem q497 : (Jvm.Cond.castable "ReflectMirror$Member" "ReflectMirror$Numbered") ∈ lw_tbl := lw_at lw_m2 168 rfl
theorem q498 : (Jvm.Cond.selects "ReflectMirror$Member" ({ cls := "ReflectMirror$Numbered", name := "number", desc := "()I" } : Jvm.MethodName) ({ cls := "ReflectMirror$Member", name := "number", desc := "()I" } : Jvm.MethodName)) ∈ lw_all := lw_g (lw_at lw_m2 169 rfl) rfl
theorem q499 : (Jvm.Cond.unhidden "ReflectMirror$Member" "number" "()I") ∈ lw_tbl := lw_at lw_m2 170 rfl
theorem q500 : (Jvm.Cond.instanceMethod ({ cls := "ReflectMirror$Member", name := "number", desc := "()I" } : Jvm.MethodName)) ∈ lw_all := lw_g (lw_at lw_m2 171 rfl) rfl
theorem q501 : (Jvm.Cond.publicMethod ({ cls := "ReflectMirror$Member", name := "number", desc := "()I" } : Jvm.MethodName)) ∈ lw_tbl := lw_at lw_m2 172 rfl
theorem q502 : (Jvm.Cond.code ({ cls := "ReflectMirror$Member", name := "number", desc := "()I" } : Jvm.MethodName) prog_13_method_2_code (1 : Nat) (Option.some Jvm.ClassFile.FieldType.int)) ∈ lw_all := lw_g (lw_at lw_m2 173 rfl) rfl
theorem q647 : (Jvm.Cond.instantiable "ReflectMirror$Member" (12 : Nat)) ∈ lw_all := lw_g (lw_at lw_m3 78 rfl) rfl
theorem q649 : (Jvm.Cond.instanceMethod ({ cls := "ReflectMirror$Member", name := "<init>", desc := "(ILReflectMirror$Type;IIZLReflectMirror$Type;)V" } : Jvm.MethodName)) ∈ lw_all := lw_g (lw_at lw_m3 80 rfl) rfl
theorem q650 : (Jvm.Cond.code ({ cls := "ReflectMirror$Member", name := "<init>", desc := "(ILReflectMirror$Type;IIZLReflectMirror$Type;)V" } : Jvm.MethodName) prog_13_method_1_code (7 : Nat) (Option.none : Option Jvm.ClassFile.FieldType)) ∈ lw_all := lw_g (lw_at lw_m3 81 rfl) rfl
theorem q651 : (Jvm.Cond.methodLink "ReflectMirror$Member" (3 : Nat) ({ cls := "java/lang/Object", name := "<init>", desc := "()V" } : Jvm.MethodName)) ∈ lw_all := lw_g (lw_at lw_m3 82 rfl) rfl
theorem q652 : (Jvm.Cond.classLink "ReflectMirror$Member" (9 : Nat) "ReflectMirror$Type") ∈ lw_all := lw_g (lw_at lw_m3 83 rfl) rfl
theorem q653 : (Jvm.Cond.fieldLink "ReflectMirror$Member" (17 : Nat) "ReflectMirror$Member" "number" "I") ∈ lw_all := lw_g (lw_at lw_m3 84 rfl) rfl
theorem q656 : (Jvm.Cond.fieldLink "ReflectMirror$Member" (21 : Nat) "ReflectMirror$Member" "type" "LReflectMirror$Type;") ∈ lw_all := lw_g (lw_at lw_m3 87 rfl) rfl
theorem q659 : (Jvm.Cond.fieldLink "ReflectMirror$Member" (25 : Nat) "ReflectMirror$Member" "name" "I") ∈ lw_all := lw_g (lw_at lw_m3 90 rfl) rfl
theorem q661 : (Jvm.Cond.fieldLink "ReflectMirror$Member" (28 : Nat) "ReflectMirror$Member" "marks" "I") ∈ lw_all := lw_g (lw_at lw_m3 92 rfl) rfl
theorem q663 : (Jvm.Cond.fieldLink "ReflectMirror$Member" (31 : Nat) "ReflectMirror$Member" "isField" "Z") ∈ lw_all := lw_g (lw_at lw_m3 94 rfl) rfl
theorem q667 : (Jvm.Cond.fieldLink "ReflectMirror$Member" (35 : Nat) "ReflectMirror$Member" "of" "LReflectMirror$Type;") ∈ lw_all := lw_g (lw_at lw_m3 98 rfl) rfl
theorem q673 : (Jvm.Cond.fieldLink "ReflectMirror$Member" (11 : Nat) "ReflectMirror$Member" "params" "[LReflectMirror$Type;") ∈ lw_all := lw_g (lw_at lw_m3 104 rfl) rfl
theorem q678 : (Jvm.Cond.fieldLink "ReflectMirror$Member" (50 : Nat) "ReflectMirror$Member" "many" "I") ∈ lw_all := lw_g (lw_at lw_m3 109 rfl) rfl
theorem q686 : (Jvm.Cond.laysFinal "ReflectMirror$Member" "ReflectMirror$Member" "number" "I") ∈ lw_all := lw_g (lw_at lw_m3 117 rfl) rfl
theorem q687 : (Jvm.Cond.soleField "ReflectMirror$Member" "number") ∈ lw_all := lw_g (lw_at lw_m3 118 rfl) rfl
theorem q688 : (Jvm.Cond.laysFinal "ReflectMirror$Member" "ReflectMirror$Member" "type" "LReflectMirror$Type;") ∈ lw_all := lw_g (lw_at lw_m3 119 rfl) rfl
theorem q689 : (Jvm.Cond.soleField "ReflectMirror$Member" "type") ∈ lw_all := lw_g (lw_at lw_m3 120 rfl) rfl
theorem q690 : (Jvm.Cond.laysFinal "ReflectMirror$Member" "ReflectMirror$Member" "name" "I") ∈ lw_all := lw_g (lw_at lw_m3 121 rfl) rfl
theorem q691 : (Jvm.Cond.soleField "ReflectMirror$Member" "name") ∈ lw_all := lw_g (lw_at lw_m3 122 rfl) rfl
theorem q692 : (Jvm.Cond.laysFinal "ReflectMirror$Member" "ReflectMirror$Member" "marks" "I") ∈ lw_all := lw_g (lw_at lw_m3 123 rfl) rfl
theorem q693 : (Jvm.Cond.soleField "ReflectMirror$Member" "marks") ∈ lw_all := lw_g (lw_at lw_m3 124 rfl) rfl
theorem q694 : (Jvm.Cond.laysFinal "ReflectMirror$Member" "ReflectMirror$Member" "isField" "Z") ∈ lw_all := lw_g (lw_at lw_m3 125 rfl) rfl
theorem q695 : (Jvm.Cond.soleField "ReflectMirror$Member" "isField") ∈ lw_all := lw_g (lw_at lw_m3 126 rfl) rfl
theorem q696 : (Jvm.Cond.laysFinal "ReflectMirror$Member" "ReflectMirror$Member" "of" "LReflectMirror$Type;") ∈ lw_all := lw_g (lw_at lw_m3 127 rfl) rfl
theorem q697 : (Jvm.Cond.soleField "ReflectMirror$Member" "of") ∈ lw_all := lw_g (lw_at lw_m3 128 rfl) rfl
theorem q698 : (Jvm.Cond.laysFinal "ReflectMirror$Member" "ReflectMirror$Member" "params" "[LReflectMirror$Type;") ∈ lw_all := lw_g (lw_at lw_m3 129 rfl) rfl
theorem q699 : (Jvm.Cond.soleField "ReflectMirror$Member" "params") ∈ lw_all := lw_g (lw_at lw_m3 130 rfl) rfl
theorem q700 : (Jvm.Cond.lays "ReflectMirror$Member" "ReflectMirror$Member" "many" "I") ∈ lw_all := lw_g (lw_at lw_m3 131 rfl) rfl
theorem q701 : (Jvm.Cond.soleField "ReflectMirror$Member" "many") ∈ lw_all := lw_g (lw_at lw_m3 132 rfl) rfl
theorem q702 : (Jvm.Cond.lays "ReflectMirror$Member" "ReflectMirror$Member" "isOpen" "Z") ∈ lw_all := lw_g (lw_at lw_m3 133 rfl) rfl
theorem q703 : (Jvm.Cond.soleField "ReflectMirror$Member" "isOpen") ∈ lw_all := lw_g (lw_at lw_m3 134 rfl) rfl
theorem q704 : (Jvm.Cond.lays "ReflectMirror$Member" "ReflectMirror$Member" "isTold" "Z") ∈ lw_all := lw_g (lw_at lw_m3 135 rfl) rfl
theorem q705 : (Jvm.Cond.soleField "ReflectMirror$Member" "isTold") ∈ lw_all := lw_g (lw_at lw_m3 136 rfl) rfl
theorem q706 : (Jvm.Cond.lays "ReflectMirror$Member" "ReflectMirror$Member" "body" "LReflectMirror$Body;") ∈ lw_all := lw_g (lw_at lw_m3 137 rfl) rfl
theorem q707 : (Jvm.Cond.soleField "ReflectMirror$Member" "body") ∈ lw_all := lw_g (lw_at lw_m3 138 rfl) rfl
theorem q708 : (Jvm.Cond.lays "ReflectMirror$Member" "ReflectMirror$Member" "row" "Ljava/lang/Object;") ∈ lw_all := lw_g (lw_at lw_m3 139 rfl) rfl
theorem q709 : (Jvm.Cond.soleField "ReflectMirror$Member" "row") ∈ lw_all := lw_g (lw_at lw_m3 140 rfl) rfl
theorem q710 : (Jvm.Cond.superclass "ReflectMirror$Member" "java/lang/Object") ∈ lw_all := lw_g (lw_at lw_m3 141 rfl) rfl
theorem q712 : (Jvm.Cond.instanceMethod ({ cls := "ReflectMirror$Member", name := "has", desc := "(I)Z" } : Jvm.MethodName)) ∈ lw_all := lw_g (lw_at lw_m3 143 rfl) rfl
theorem q713 : (Jvm.Cond.selects "ReflectMirror$Member" ({ cls := "ReflectMirror$Member", name := "has", desc := "(I)Z" } : Jvm.MethodName) ({ cls := "ReflectMirror$Member", name := "has", desc := "(I)Z" } : Jvm.MethodName)) ∈ lw_all := lw_g (lw_at lw_m3 144 rfl) rfl
theorem q714 : (Jvm.Cond.code ({ cls := "ReflectMirror$Member", name := "has", desc := "(I)Z" } : Jvm.MethodName) prog_13_method_4_code (2 : Nat) (Option.some Jvm.ClassFile.FieldType.boolean)) ∈ lw_all := lw_g (lw_at lw_m3 145 rfl) rfl
theorem q759 : (Jvm.Cond.instanceMethod ({ cls := "ReflectMirror$Member", name := "isLike", desc := "(LReflectMirror$Member;)Z" } : Jvm.MethodName)) ∈ lw_all := lw_g (lw_at lw_m3 190 rfl) rfl
theorem q760 : (Jvm.Cond.selects "ReflectMirror$Member" ({ cls := "ReflectMirror$Member", name := "isLike", desc := "(LReflectMirror$Member;)Z" } : Jvm.MethodName) ({ cls := "ReflectMirror$Member", name := "isLike", desc := "(LReflectMirror$Member;)Z" } : Jvm.MethodName)) ∈ lw_all := lw_g (lw_at lw_m3 191 rfl) rfl
theorem q761 : (Jvm.Cond.code ({ cls := "ReflectMirror$Member", name := "isLike", desc := "(LReflectMirror$Member;)Z" } : Jvm.MethodName) prog_13_method_7_code (4 : Nat) (Option.some Jvm.ClassFile.FieldType.boolean)) ∈ lw_all := lw_g (lw_at lw_m3 192 rfl) rfl
theorem q955 : (Jvm.Cond.instanceMethod ({ cls := "ReflectMirror$Member", name := "who", desc := "()I" } : Jvm.MethodName)) ∈ lw_all := lw_g (lw_at lw_m4 146 rfl) rfl
theorem q956 : (Jvm.Cond.selects "ReflectMirror$Member" ({ cls := "ReflectMirror$Member", name := "who", desc := "()I" } : Jvm.MethodName) ({ cls := "ReflectMirror$Member", name := "who", desc := "()I" } : Jvm.MethodName)) ∈ lw_all := lw_g (lw_at lw_m4 147 rfl) rfl
theorem q957 : (Jvm.Cond.code ({ cls := "ReflectMirror$Member", name := "who", desc := "()I" } : Jvm.MethodName) prog_13_method_3_code (1 : Nat) (Option.some Jvm.ClassFile.FieldType.int)) ∈ lw_all := lw_g (lw_at lw_m4 148 rfl) rfl
theorem q1033 : (Jvm.Cond.instanceMethod ({ cls := "ReflectMirror$Member", name := "isMet", desc := "()Z" } : Jvm.MethodName)) ∈ lw_all := lw_g (lw_at lw_m4 224 rfl) rfl
theorem q1034 : (Jvm.Cond.selects "ReflectMirror$Member" ({ cls := "ReflectMirror$Member", name := "isMet", desc := "()Z" } : Jvm.MethodName) ({ cls := "ReflectMirror$Member", name := "isMet", desc := "()Z" } : Jvm.MethodName)) ∈ lw_all := lw_g (lw_at lw_m4 225 rfl) rfl
theorem q1035 : (Jvm.Cond.code ({ cls := "ReflectMirror$Member", name := "isMet", desc := "()Z" } : Jvm.MethodName) prog_13_method_6_code (1 : Nat) (Option.some Jvm.ClassFile.FieldType.boolean)) ∈ lw_all := lw_g (lw_at lw_m4 226 rfl) rfl
theorem q1036 : (Jvm.Cond.methodLink "ReflectMirror$Member" (42 : Nat) ({ cls := "ReflectMirror$Member", name := "has", desc := "(I)Z" } : Jvm.MethodName)) ∈ lw_all := lw_g (lw_at lw_m4 227 rfl) rfl
theorem q1037 : (Jvm.Cond.methodLink "ReflectMirror$Member" (46 : Nat) ({ cls := "ReflectMirror$Member", name := "isPrivate", desc := "()Z" } : Jvm.MethodName)) ∈ lw_all := lw_g (lw_at lw_m4 228 rfl) rfl
theorem q1038 : (Jvm.Cond.instanceMethod ({ cls := "ReflectMirror$Member", name := "isPrivate", desc := "()Z" } : Jvm.MethodName)) ∈ lw_all := lw_g (lw_at lw_m4 229 rfl) rfl
theorem q1039 : (Jvm.Cond.selects "ReflectMirror$Member" ({ cls := "ReflectMirror$Member", name := "isPrivate", desc := "()Z" } : Jvm.MethodName) ({ cls := "ReflectMirror$Member", name := "isPrivate", desc := "()Z" } : Jvm.MethodName)) ∈ lw_all := lw_g (lw_at lw_m4 230 rfl) rfl
theorem q1040 : (Jvm.Cond.code ({ cls := "ReflectMirror$Member", name := "isPrivate", desc := "()Z" } : Jvm.MethodName) prog_13_method_5_code (1 : Nat) (Option.some Jvm.ClassFile.FieldType.boolean)) ∈ lw_all := lw_g (lw_at lw_m4 231 rfl) rfl
theorem q1041 : (Jvm.Cond.methodLink "ReflectMirror$Member" (38 : Nat) ({ cls := "ReflectMirror$Member", name := "who", desc := "()I" } : Jvm.MethodName)) ∈ lw_all := lw_g (lw_at lw_m4 232 rfl) rfl
theorem q1213 : (Jvm.Cond.instanceMethod ({ cls := "ReflectMirror$Member", name := "overrides", desc := "(LReflectMirror$Member;)Z" } : Jvm.MethodName)) ∈ lw_all := lw_g (lw_at lw_m5 164 rfl) rfl
theorem q1214 : (Jvm.Cond.selects "ReflectMirror$Member" ({ cls := "ReflectMirror$Member", name := "overrides", desc := "(LReflectMirror$Member;)Z" } : Jvm.MethodName) ({ cls := "ReflectMirror$Member", name := "overrides", desc := "(LReflectMirror$Member;)Z" } : Jvm.MethodName)) ∈ lw_all := lw_g (lw_at lw_m5 165 rfl) rfl
theorem q1215 : (Jvm.Cond.code ({ cls := "ReflectMirror$Member", name := "overrides", desc := "(LReflectMirror$Member;)Z" } : Jvm.MethodName) prog_13_method_8_code (3 : Nat) (Option.some Jvm.ClassFile.FieldType.boolean)) ∈ lw_all := lw_g (lw_at lw_m5 166 rfl) rfl
theorem q1216 : (Jvm.Cond.methodLink "ReflectMirror$Member" (56 : Nat) ({ cls := "ReflectMirror$Member", name := "isLike", desc := "(LReflectMirror$Member;)Z" } : Jvm.MethodName)) ∈ lw_all := lw_g (lw_at lw_m5 167 rfl) rfl
theorem q1217 : (Jvm.Cond.methodLink "ReflectMirror$Member" (60 : Nat) ({ cls := "ReflectMirror$Member", name := "isMet", desc := "()Z" } : Jvm.MethodName)) ∈ lw_all := lw_g (lw_at lw_m5 168 rfl) rfl
theorem q1218 : (Jvm.Cond.methodLink "ReflectMirror$Member" (63 : Nat) ({ cls := "ReflectMirror$Type", name := "is", desc := "(LReflectMirror$Type;)Z" } : Jvm.MethodName)) ∈ lw_all := lw_g (lw_at lw_m5 169 rfl) rfl
theorem q2572 : (Jvm.Cond.selects "ReflectMirror$Member" ({ cls := "ReflectMirror$Member", name := "number", desc := "()I" } : Jvm.MethodName) ({ cls := "ReflectMirror$Member", name := "number", desc := "()I" } : Jvm.MethodName)) ∈ lw_all := lw_g (lw_at lw_m11 83 rfl) rfl
theorem q2598 : (Jvm.Cond.castable "ReflectMirror$Member" "java/lang/Object") ∈ lw_tbl := lw_at lw_m11 109 rfl
theorem in_X9 : ∀ w ∈ wsX90, w ∈ lw_all := lw_in wsX90 [686, 688, 690, 692, 694, 696, 698, 700, 702, 704, 706, 708] (by decide +kernel) (by decide +kernel)

/-! ReflectMirror$Body -/
set_option maxRecDepth 100000
def RX10 : String := "ReflectMirror$Body"
abbrev cX10_init : ByteArray := prog_4_method_1_code
def yX10_init : MethodName := ⟨RX10, "<init>", "(LReflectMirror;LReflectMirror$Member;)V"⟩
def dkwX10_init_0 : List UInt8 := [42, 43, 181, 0, 3, 42, 183, 0, 9, 42, 44, 181, 0, 15, 177]
abbrev dktX10_init_0 : List UInt8 := dkwX10_init_0 ++ []
theorem dksX10_init_0 : cX10_init.data.toList.drop 0 = dktX10_init_0 := by decide +kernel
theorem dX10_init_0 : decode cX10_init 0 = .ok (.aload_n 0, 1) := dk_42 (dk_at dksX10_init_0 0 rfl rfl)
theorem dX10_init_1 : decode cX10_init 1 = .ok (.aload_n 1, 1) := dk_43 (dk_at dksX10_init_0 1 rfl rfl)
theorem dX10_init_2 : decode cX10_init 2 = .ok (.putfield 3, 3) := dk_181 0 3 (dk_at dksX10_init_0 2 rfl rfl)
theorem dX10_init_5 : decode cX10_init 5 = .ok (.aload_n 0, 1) := dk_42 (dk_at dksX10_init_0 5 rfl rfl)
theorem dX10_init_6 : decode cX10_init 6 = .ok (.invokespecial 9, 3) := dk_183 0 9 (dk_at dksX10_init_0 6 rfl rfl)
theorem dX10_init_9 : decode cX10_init 9 = .ok (.aload_n 0, 1) := dk_42 (dk_at dksX10_init_0 9 rfl rfl)
theorem dX10_init_10 : decode cX10_init 10 = .ok (.aload_n 2, 1) := dk_44 (dk_at dksX10_init_0 10 rfl rfl)
theorem dX10_init_11 : decode cX10_init 11 = .ok (.putfield 15, 3) := dk_181 0 15 (dk_at dksX10_init_0 11 rfl rfl)
theorem dX10_init_14 : decode cX10_init 14 = .ok (.return_, 1) := dk_177 (dk_at dksX10_init_0 14 rfl rfl)
abbrev cX10_isFit : ByteArray := prog_4_method_7_code
def yX10_isFit : MethodName := ⟨RX10, "isFit", "()Z"⟩
def dkwX10_isFit_1 : List UInt8 := [42, 182, 0, 37, 42, 180, 0, 15, 180, 0, 25, 182, 0, 52, 153, 0, 7, 4, 167, 0, 4, 3, 172]
abbrev dktX10_isFit_1 : List UInt8 := dkwX10_isFit_1 ++ []
def dkwX10_isFit_0 : List UInt8 := [42, 182, 0, 48, 153, 0, 41, 42, 180, 0, 15, 180, 0, 25, 198, 0, 27, 42, 182, 0, 37, 198, 0, 20]
abbrev dktX10_isFit_0 : List UInt8 := dkwX10_isFit_0 ++ dktX10_isFit_1
theorem dksX10_isFit_0 : cX10_isFit.data.toList.drop 0 = dktX10_isFit_0 := by decide +kernel
theorem dksX10_isFit_1 : cX10_isFit.data.toList.drop 24 = dktX10_isFit_1 := dk_seg dksX10_isFit_0 24 rfl rfl
theorem dX10_isFit_0 : decode cX10_isFit 0 = .ok (.aload_n 0, 1) := dk_42 (dk_at dksX10_isFit_0 0 rfl rfl)
theorem dX10_isFit_1 : decode cX10_isFit 1 = .ok (.invokevirtual 48, 3) := dk_182 0 48 (dk_at dksX10_isFit_0 1 rfl rfl)
theorem dX10_isFit_4 : decode cX10_isFit 4 = .ok (.ifCond .eq 41, 3) := dk_153 0 41 (dk_at dksX10_isFit_0 4 rfl rfl)
theorem dX10_isFit_7 : decode cX10_isFit 7 = .ok (.aload_n 0, 1) := dk_42 (dk_at dksX10_isFit_0 7 rfl rfl)
theorem dX10_isFit_8 : decode cX10_isFit 8 = .ok (.getfield 15, 3) := dk_180 0 15 (dk_at dksX10_isFit_0 8 rfl rfl)
theorem dX10_isFit_11 : decode cX10_isFit 11 = .ok (.getfield 25, 3) := dk_180 0 25 (dk_at dksX10_isFit_0 11 rfl rfl)
theorem dX10_isFit_14 : decode cX10_isFit 14 = .ok (.ifnull 27, 3) := dk_198 0 27 (dk_at dksX10_isFit_0 14 rfl rfl)
theorem dX10_isFit_17 : decode cX10_isFit 17 = .ok (.aload_n 0, 1) := dk_42 (dk_at dksX10_isFit_0 17 rfl rfl)
theorem dX10_isFit_18 : decode cX10_isFit 18 = .ok (.invokevirtual 37, 3) := dk_182 0 37 (dk_at dksX10_isFit_0 18 rfl rfl)
theorem dX10_isFit_21 : decode cX10_isFit 21 = .ok (.ifnull 20, 3) := dk_198 0 20 (dk_at dksX10_isFit_0 21 rfl rfl)
theorem dX10_isFit_24 : decode cX10_isFit 24 = .ok (.aload_n 0, 1) := dk_42 (dk_at dksX10_isFit_1 0 rfl rfl)
theorem dX10_isFit_25 : decode cX10_isFit 25 = .ok (.invokevirtual 37, 3) := dk_182 0 37 (dk_at dksX10_isFit_1 1 rfl rfl)
theorem dX10_isFit_28 : decode cX10_isFit 28 = .ok (.aload_n 0, 1) := dk_42 (dk_at dksX10_isFit_1 4 rfl rfl)
theorem dX10_isFit_29 : decode cX10_isFit 29 = .ok (.getfield 15, 3) := dk_180 0 15 (dk_at dksX10_isFit_1 5 rfl rfl)
theorem dX10_isFit_32 : decode cX10_isFit 32 = .ok (.getfield 25, 3) := dk_180 0 25 (dk_at dksX10_isFit_1 8 rfl rfl)
theorem dX10_isFit_35 : decode cX10_isFit 35 = .ok (.invokevirtual 52, 3) := dk_182 0 52 (dk_at dksX10_isFit_1 11 rfl rfl)
theorem dX10_isFit_38 : decode cX10_isFit 38 = .ok (.ifCond .eq 7, 3) := dk_153 0 7 (dk_at dksX10_isFit_1 14 rfl rfl)
theorem dX10_isFit_41 : decode cX10_isFit 41 = .ok (.iconst 1, 1) := dk_4 (dk_at dksX10_isFit_1 17 rfl rfl)
theorem dX10_isFit_42 : decode cX10_isFit 42 = .ok (.goto 4, 3) := dk_167 0 4 (dk_at dksX10_isFit_1 18 rfl rfl)
theorem dX10_isFit_45 : decode cX10_isFit 45 = .ok (.iconst 0, 1) := dk_3 (dk_at dksX10_isFit_1 21 rfl rfl)
theorem dX10_isFit_46 : decode cX10_isFit 46 = .ok (.ireturn, 1) := dk_172 (dk_at dksX10_isFit_1 22 rfl rfl)
abbrev cX10_param : ByteArray := prog_4_method_8_code
def yX10_param : MethodName := ⟨RX10, "param", "(I)LReflectMirror$Type;"⟩
def dkwX10_param_1 : List UInt8 := [180, 0, 66, 27, 50, 167, 0, 4, 1, 176]
abbrev dktX10_param_1 : List UInt8 := dkwX10_param_1 ++ []
def dkwX10_param_0 : List UInt8 := [27, 133, 9, 42, 180, 0, 15, 180, 0, 58, 4, 100, 133, 184, 0, 62, 153, 0, 15, 42, 180, 0, 15]
abbrev dktX10_param_0 : List UInt8 := dkwX10_param_0 ++ dktX10_param_1
theorem dksX10_param_0 : cX10_param.data.toList.drop 0 = dktX10_param_0 := by decide +kernel
theorem dksX10_param_1 : cX10_param.data.toList.drop 23 = dktX10_param_1 := dk_seg dksX10_param_0 23 rfl rfl
theorem dX10_param_0 : decode cX10_param 0 = .ok (.iload_n 1, 1) := dk_27 (dk_at dksX10_param_0 0 rfl rfl)
theorem dX10_param_1 : decode cX10_param 1 = .ok (.i2l, 1) := dk_133 (dk_at dksX10_param_0 1 rfl rfl)
theorem dX10_param_2 : decode cX10_param 2 = .ok (.lconst 0, 1) := dk_9 (dk_at dksX10_param_0 2 rfl rfl)
theorem dX10_param_3 : decode cX10_param 3 = .ok (.aload_n 0, 1) := dk_42 (dk_at dksX10_param_0 3 rfl rfl)
theorem dX10_param_4 : decode cX10_param 4 = .ok (.getfield 15, 3) := dk_180 0 15 (dk_at dksX10_param_0 4 rfl rfl)
theorem dX10_param_7 : decode cX10_param 7 = .ok (.getfield 58, 3) := dk_180 0 58 (dk_at dksX10_param_0 7 rfl rfl)
theorem dX10_param_10 : decode cX10_param 10 = .ok (.iconst 1, 1) := dk_4 (dk_at dksX10_param_0 10 rfl rfl)
theorem dX10_param_11 : decode cX10_param 11 = .ok (.isub, 1) := dk_100 (dk_at dksX10_param_0 11 rfl rfl)
theorem dX10_param_12 : decode cX10_param 12 = .ok (.i2l, 1) := dk_133 (dk_at dksX10_param_0 12 rfl rfl)
theorem dX10_param_13 : decode cX10_param 13 = .ok (.invokestatic 62, 3) := dk_184 0 62 (dk_at dksX10_param_0 13 rfl rfl)
theorem dX10_param_16 : decode cX10_param 16 = .ok (.ifCond .eq 15, 3) := dk_153 0 15 (dk_at dksX10_param_0 16 rfl rfl)
theorem dX10_param_19 : decode cX10_param 19 = .ok (.aload_n 0, 1) := dk_42 (dk_at dksX10_param_0 19 rfl rfl)
theorem dX10_param_20 : decode cX10_param 20 = .ok (.getfield 15, 3) := dk_180 0 15 (dk_at dksX10_param_0 20 rfl rfl)
theorem dX10_param_23 : decode cX10_param 23 = .ok (.getfield 66, 3) := dk_180 0 66 (dk_at dksX10_param_1 0 rfl rfl)
theorem dX10_param_26 : decode cX10_param 26 = .ok (.iload_n 1, 1) := dk_27 (dk_at dksX10_param_1 3 rfl rfl)
theorem dX10_param_27 : decode cX10_param 27 = .ok (.aaload, 1) := dk_50 (dk_at dksX10_param_1 4 rfl rfl)
theorem dX10_param_28 : decode cX10_param 28 = .ok (.goto 4, 3) := dk_167 0 4 (dk_at dksX10_param_1 5 rfl rfl)
theorem dX10_param_31 : decode cX10_param 31 = .ok (.aconst_null, 1) := dk_1 (dk_at dksX10_param_1 8 rfl rfl)
theorem dX10_param_32 : decode cX10_param 32 = .ok (.areturn, 1) := dk_176 (dk_at dksX10_param_1 9 rfl rfl)
abbrev cX10_isNear : ByteArray := prog_4_method_9_code
def yX10_isNear : MethodName := ⟨RX10, "isNear", "(LReflectMirror$Member;)Z"⟩
def dkwX10_isNear_1 : List UInt8 := [180, 0, 74, 43, 180, 0, 74, 182, 0, 52, 153, 0, 7, 4, 167, 0, 4, 3, 172]
abbrev dktX10_isNear_1 : List UInt8 := dkwX10_isNear_1 ++ []
def dkwX10_isNear_0 : List UInt8 := [43, 7, 182, 0, 70, 154, 0, 31, 42, 180, 0, 15, 7, 182, 0, 70, 154, 0, 24, 42, 180, 0, 15]
abbrev dktX10_isNear_0 : List UInt8 := dkwX10_isNear_0 ++ dktX10_isNear_1
theorem dksX10_isNear_0 : cX10_isNear.data.toList.drop 0 = dktX10_isNear_0 := by decide +kernel
theorem dksX10_isNear_1 : cX10_isNear.data.toList.drop 23 = dktX10_isNear_1 := dk_seg dksX10_isNear_0 23 rfl rfl
theorem dX10_isNear_0 : decode cX10_isNear 0 = .ok (.aload_n 1, 1) := dk_43 (dk_at dksX10_isNear_0 0 rfl rfl)
theorem dX10_isNear_1 : decode cX10_isNear 1 = .ok (.iconst 4, 1) := dk_7 (dk_at dksX10_isNear_0 1 rfl rfl)
theorem dX10_isNear_2 : decode cX10_isNear 2 = .ok (.invokevirtual 70, 3) := dk_182 0 70 (dk_at dksX10_isNear_0 2 rfl rfl)
theorem dX10_isNear_5 : decode cX10_isNear 5 = .ok (.ifCond .ne 31, 3) := dk_154 0 31 (dk_at dksX10_isNear_0 5 rfl rfl)
theorem dX10_isNear_8 : decode cX10_isNear 8 = .ok (.aload_n 0, 1) := dk_42 (dk_at dksX10_isNear_0 8 rfl rfl)
theorem dX10_isNear_9 : decode cX10_isNear 9 = .ok (.getfield 15, 3) := dk_180 0 15 (dk_at dksX10_isNear_0 9 rfl rfl)
theorem dX10_isNear_12 : decode cX10_isNear 12 = .ok (.iconst 4, 1) := dk_7 (dk_at dksX10_isNear_0 12 rfl rfl)
theorem dX10_isNear_13 : decode cX10_isNear 13 = .ok (.invokevirtual 70, 3) := dk_182 0 70 (dk_at dksX10_isNear_0 13 rfl rfl)
theorem dX10_isNear_16 : decode cX10_isNear 16 = .ok (.ifCond .ne 24, 3) := dk_154 0 24 (dk_at dksX10_isNear_0 16 rfl rfl)
theorem dX10_isNear_19 : decode cX10_isNear 19 = .ok (.aload_n 0, 1) := dk_42 (dk_at dksX10_isNear_0 19 rfl rfl)
theorem dX10_isNear_20 : decode cX10_isNear 20 = .ok (.getfield 15, 3) := dk_180 0 15 (dk_at dksX10_isNear_0 20 rfl rfl)
theorem dX10_isNear_23 : decode cX10_isNear 23 = .ok (.getfield 74, 3) := dk_180 0 74 (dk_at dksX10_isNear_1 0 rfl rfl)
theorem dX10_isNear_26 : decode cX10_isNear 26 = .ok (.aload_n 1, 1) := dk_43 (dk_at dksX10_isNear_1 3 rfl rfl)
theorem dX10_isNear_27 : decode cX10_isNear 27 = .ok (.getfield 74, 3) := dk_180 0 74 (dk_at dksX10_isNear_1 4 rfl rfl)
theorem dX10_isNear_30 : decode cX10_isNear 30 = .ok (.invokevirtual 52, 3) := dk_182 0 52 (dk_at dksX10_isNear_1 7 rfl rfl)
theorem dX10_isNear_33 : decode cX10_isNear 33 = .ok (.ifCond .eq 7, 3) := dk_153 0 7 (dk_at dksX10_isNear_1 10 rfl rfl)
theorem dX10_isNear_36 : decode cX10_isNear 36 = .ok (.iconst 1, 1) := dk_4 (dk_at dksX10_isNear_1 13 rfl rfl)
theorem dX10_isNear_37 : decode cX10_isNear 37 = .ok (.goto 4, 3) := dk_167 0 4 (dk_at dksX10_isNear_1 14 rfl rfl)
theorem dX10_isNear_40 : decode cX10_isNear 40 = .ok (.iconst 0, 1) := dk_3 (dk_at dksX10_isNear_1 17 rfl rfl)
theorem dX10_isNear_41 : decode cX10_isNear 41 = .ok (.ireturn, 1) := dk_172 (dk_at dksX10_isNear_1 18 rfl rfl)
abbrev cX10_isWell : ByteArray := prog_4_method_4_code
def yX10_isWell : MethodName := ⟨RX10, "isWell", "()Z"⟩
theorem dX10_isWell_0 : decode cX10_isWell 0 = .ok (.iconst 1, 1) := by decide +kernel
theorem dX10_isWell_1 : decode cX10_isWell 1 = .ok (.ireturn, 1) := by decide +kernel
abbrev cX10_type : ByteArray := prog_4_method_3_code
def yX10_type : MethodName := ⟨RX10, "type", "()LReflectMirror$Type;"⟩
theorem dX10_type_0 : decode cX10_type 0 = .ok (.aconst_null, 1) := by decide +kernel
theorem dX10_type_1 : decode cX10_type 1 = .ok (.areturn, 1) := by decide +kernel
abbrev cX10_kind : ByteArray := prog_4_method_2_code
def yX10_kind : MethodName := ⟨RX10, "kind", "()I"⟩
theorem dX10_kind_0 : decode cX10_kind 0 = .ok (.iconst 0, 1) := by decide +kernel
theorem dX10_kind_1 : decode cX10_kind 1 = .ok (.ireturn, 1) := by decide +kernel
abbrev cX10_gives : ByteArray := prog_4_method_6_code
def yX10_gives : MethodName := ⟨RX10, "gives", "(LReflectMirror$Frame;LReflectMirror$Cell;)V"⟩
def dkwX10_gives_2 : List UInt8 := [42, 180, 0, 15, 180, 0, 25, 182, 0, 45, 177]
abbrev dktX10_gives_2 : List UInt8 := dkwX10_gives_2 ++ []
def dkwX10_gives_1 : List UInt8 := [180, 0, 15, 180, 0, 25, 182, 0, 31, 167, 0, 25, 43, 180, 0, 19, 44, 182, 0, 41, 43, 180, 0, 19]
abbrev dktX10_gives_1 : List UInt8 := dkwX10_gives_1 ++ dktX10_gives_2
def dkwX10_gives_0 : List UInt8 := [42, 180, 0, 15, 180, 0, 25, 198, 0, 10, 42, 182, 0, 37, 199, 0, 20, 43, 180, 0, 19, 42]
abbrev dktX10_gives_0 : List UInt8 := dkwX10_gives_0 ++ dktX10_gives_1
theorem dksX10_gives_0 : cX10_gives.data.toList.drop 0 = dktX10_gives_0 := by decide +kernel
theorem dksX10_gives_1 : cX10_gives.data.toList.drop 22 = dktX10_gives_1 := dk_seg dksX10_gives_0 22 rfl rfl
theorem dksX10_gives_2 : cX10_gives.data.toList.drop 46 = dktX10_gives_2 := dk_seg dksX10_gives_1 24 rfl rfl
theorem dX10_gives_0 : decode cX10_gives 0 = .ok (.aload_n 0, 1) := dk_42 (dk_at dksX10_gives_0 0 rfl rfl)
theorem dX10_gives_1 : decode cX10_gives 1 = .ok (.getfield 15, 3) := dk_180 0 15 (dk_at dksX10_gives_0 1 rfl rfl)
theorem dX10_gives_4 : decode cX10_gives 4 = .ok (.getfield 25, 3) := dk_180 0 25 (dk_at dksX10_gives_0 4 rfl rfl)
theorem dX10_gives_7 : decode cX10_gives 7 = .ok (.ifnull 10, 3) := dk_198 0 10 (dk_at dksX10_gives_0 7 rfl rfl)
theorem dX10_gives_10 : decode cX10_gives 10 = .ok (.aload_n 0, 1) := dk_42 (dk_at dksX10_gives_0 10 rfl rfl)
theorem dX10_gives_11 : decode cX10_gives 11 = .ok (.invokevirtual 37, 3) := dk_182 0 37 (dk_at dksX10_gives_0 11 rfl rfl)
theorem dX10_gives_14 : decode cX10_gives 14 = .ok (.ifnonnull 20, 3) := dk_199 0 20 (dk_at dksX10_gives_0 14 rfl rfl)
theorem dX10_gives_17 : decode cX10_gives 17 = .ok (.aload_n 1, 1) := dk_43 (dk_at dksX10_gives_0 17 rfl rfl)
theorem dX10_gives_18 : decode cX10_gives 18 = .ok (.getfield 19, 3) := dk_180 0 19 (dk_at dksX10_gives_0 18 rfl rfl)
theorem dX10_gives_21 : decode cX10_gives 21 = .ok (.aload_n 0, 1) := dk_42 (dk_at dksX10_gives_0 21 rfl rfl)
theorem dX10_gives_22 : decode cX10_gives 22 = .ok (.getfield 15, 3) := dk_180 0 15 (dk_at dksX10_gives_1 0 rfl rfl)
theorem dX10_gives_25 : decode cX10_gives 25 = .ok (.getfield 25, 3) := dk_180 0 25 (dk_at dksX10_gives_1 3 rfl rfl)
theorem dX10_gives_28 : decode cX10_gives 28 = .ok (.invokevirtual 31, 3) := dk_182 0 31 (dk_at dksX10_gives_1 6 rfl rfl)
theorem dX10_gives_31 : decode cX10_gives 31 = .ok (.goto 25, 3) := dk_167 0 25 (dk_at dksX10_gives_1 9 rfl rfl)
theorem dX10_gives_34 : decode cX10_gives 34 = .ok (.aload_n 1, 1) := dk_43 (dk_at dksX10_gives_1 12 rfl rfl)
theorem dX10_gives_35 : decode cX10_gives 35 = .ok (.getfield 19, 3) := dk_180 0 19 (dk_at dksX10_gives_1 13 rfl rfl)
theorem dX10_gives_38 : decode cX10_gives 38 = .ok (.aload_n 2, 1) := dk_44 (dk_at dksX10_gives_1 16 rfl rfl)
theorem dX10_gives_39 : decode cX10_gives 39 = .ok (.invokevirtual 41, 3) := dk_182 0 41 (dk_at dksX10_gives_1 17 rfl rfl)
theorem dX10_gives_42 : decode cX10_gives 42 = .ok (.aload_n 1, 1) := dk_43 (dk_at dksX10_gives_1 20 rfl rfl)
theorem dX10_gives_43 : decode cX10_gives 43 = .ok (.getfield 19, 3) := dk_180 0 19 (dk_at dksX10_gives_1 21 rfl rfl)
theorem dX10_gives_46 : decode cX10_gives 46 = .ok (.aload_n 0, 1) := dk_42 (dk_at dksX10_gives_2 0 rfl rfl)
theorem dX10_gives_47 : decode cX10_gives 47 = .ok (.getfield 15, 3) := dk_180 0 15 (dk_at dksX10_gives_2 1 rfl rfl)
theorem dX10_gives_50 : decode cX10_gives 50 = .ok (.getfield 25, 3) := dk_180 0 25 (dk_at dksX10_gives_2 4 rfl rfl)
theorem dX10_gives_53 : decode cX10_gives 53 = .ok (.invokevirtual 45, 3) := dk_182 0 45 (dk_at dksX10_gives_2 7 rfl rfl)
theorem dX10_gives_56 : decode cX10_gives 56 = .ok (.return_, 1) := dk_177 (dk_at dksX10_gives_2 10 rfl rfl)
abbrev cX10_work : ByteArray := prog_4_method_5_code
def yX10_work : MethodName := ⟨RX10, "work", "(LReflectMirror$Frame;)V"⟩
def dkwX10_work_0 : List UInt8 := [43, 180, 0, 19, 42, 180, 0, 15, 180, 0, 25, 182, 0, 31, 177]
abbrev dktX10_work_0 : List UInt8 := dkwX10_work_0 ++ []
theorem dksX10_work_0 : cX10_work.data.toList.drop 0 = dktX10_work_0 := by decide +kernel
theorem dX10_work_0 : decode cX10_work 0 = .ok (.aload_n 1, 1) := dk_43 (dk_at dksX10_work_0 0 rfl rfl)
theorem dX10_work_1 : decode cX10_work 1 = .ok (.getfield 19, 3) := dk_180 0 19 (dk_at dksX10_work_0 1 rfl rfl)
theorem dX10_work_4 : decode cX10_work 4 = .ok (.aload_n 0, 1) := dk_42 (dk_at dksX10_work_0 4 rfl rfl)
theorem dX10_work_5 : decode cX10_work 5 = .ok (.getfield 15, 3) := dk_180 0 15 (dk_at dksX10_work_0 5 rfl rfl)
theorem dX10_work_8 : decode cX10_work 8 = .ok (.getfield 25, 3) := dk_180 0 25 (dk_at dksX10_work_0 8 rfl rfl)
theorem dX10_work_11 : decode cX10_work 11 = .ok (.invokevirtual 31, 3) := dk_182 0 31 (dk_at dksX10_work_0 11 rfl rfl)
theorem dX10_work_14 : decode cX10_work 14 = .ok (.return_, 1) := dk_177 (dk_at dksX10_work_0 14 rfl rfl)
theorem q104 : (Jvm.Cond.initialized "ReflectMirror$Body") ∈ lw_all := lw_g (lw_at lw_m1 15 rfl) rfl
theorem q658 : (Jvm.Cond.fieldLink "ReflectMirror$Body" (74 : Nat) "ReflectMirror$Member" "type" "LReflectMirror$Type;") ∈ lw_all := lw_g (lw_at lw_m3 89 rfl) rfl
theorem q671 : (Jvm.Cond.fieldLink "ReflectMirror$Body" (25 : Nat) "ReflectMirror$Member" "of" "LReflectMirror$Type;") ∈ lw_all := lw_g (lw_at lw_m3 102 rfl) rfl
theorem q675 : (Jvm.Cond.fieldLink "ReflectMirror$Body" (66 : Nat) "ReflectMirror$Member" "params" "[LReflectMirror$Type;") ∈ lw_all := lw_g (lw_at lw_m3 106 rfl) rfl
theorem q679 : (Jvm.Cond.fieldLink "ReflectMirror$Body" (58 : Nat) "ReflectMirror$Member" "many" "I") ∈ lw_all := lw_g (lw_at lw_m3 110 rfl) rfl
theorem q768 : (Jvm.Cond.instanceMethod ({ cls := "ReflectMirror$Body", name := "<init>", desc := "(LReflectMirror;LReflectMirror$Member;)V" } : Jvm.MethodName)) ∈ lw_all := lw_g (lw_at lw_m3 199 rfl) rfl
theorem q769 : (Jvm.Cond.code ({ cls := "ReflectMirror$Body", name := "<init>", desc := "(LReflectMirror;LReflectMirror$Member;)V" } : Jvm.MethodName) prog_4_method_1_code (3 : Nat) (Option.none : Option Jvm.ClassFile.FieldType)) ∈ lw_all := lw_g (lw_at lw_m3 200 rfl) rfl
theorem q770 : (Jvm.Cond.methodLink "ReflectMirror$Body" (9 : Nat) ({ cls := "java/lang/Object", name := "<init>", desc := "()V" } : Jvm.MethodName)) ∈ lw_all := lw_g (lw_at lw_m3 201 rfl) rfl
theorem q772 : (Jvm.Cond.fieldLink "ReflectMirror$Body" (15 : Nat) "ReflectMirror$Body" "m" "LReflectMirror$Member;") ∈ lw_all := lw_g (lw_at lw_m3 203 rfl) rfl
theorem q779 : (Jvm.Cond.fieldLink "ReflectMirror$Body" (3 : Nat) "ReflectMirror$Body" "this$0" "LReflectMirror;") ∈ lw_all := lw_g (lw_at lw_m3 210 rfl) rfl
theorem q783 : (Jvm.Cond.soleField "ReflectMirror$Body" "m") ∈ lw_all := lw_g (lw_at lw_m3 214 rfl) rfl
theorem q785 : (Jvm.Cond.soleField "ReflectMirror$Body" "this$0") ∈ lw_all := lw_g (lw_at lw_m3 216 rfl) rfl
theorem q1013 : (Jvm.Cond.instanceMethod ({ cls := "ReflectMirror$Body", name := "isFit", desc := "()Z" } : Jvm.MethodName)) ∈ lw_all := lw_g (lw_at lw_m4 204 rfl) rfl
theorem q1014 : (Jvm.Cond.sameMethod "ReflectMirror$Body" "ReflectMirror$Body" "isFit" "()Z") ∈ lw_all := lw_g (lw_at lw_m4 205 rfl) rfl
theorem q1024 : (Jvm.Cond.code ({ cls := "ReflectMirror$Body", name := "isFit", desc := "()Z" } : Jvm.MethodName) prog_4_method_7_code (1 : Nat) (Option.some Jvm.ClassFile.FieldType.boolean)) ∈ lw_all := lw_g (lw_at lw_m4 215 rfl) rfl
theorem q1025 : (Jvm.Cond.methodLink "ReflectMirror$Body" (48 : Nat) ({ cls := "ReflectMirror$Body", name := "isWell", desc := "()Z" } : Jvm.MethodName)) ∈ lw_all := lw_g (lw_at lw_m4 216 rfl) rfl
theorem q1026 : (Jvm.Cond.instanceMethod ({ cls := "ReflectMirror$Body", name := "isWell", desc := "()Z" } : Jvm.MethodName)) ∈ lw_all := lw_g (lw_at lw_m4 217 rfl) rfl
theorem q1027 : (Jvm.Cond.sameMethod "ReflectMirror$Body" "ReflectMirror$Body" "isWell" "()Z") ∈ lw_all := lw_g (lw_at lw_m4 218 rfl) rfl
theorem q1047 : (Jvm.Cond.declares ({ cls := "ReflectMirror$Body", name := "param", desc := "(I)LReflectMirror$Type;" } : Jvm.MethodName)) ∈ lw_tbl := lw_at lw_m4 238 rfl
theorem q1049 : (Jvm.Cond.instanceMethod ({ cls := "ReflectMirror$Body", name := "param", desc := "(I)LReflectMirror$Type;" } : Jvm.MethodName)) ∈ lw_all := lw_g (lw_at lw_m5 0 rfl) rfl
theorem q1050 : (Jvm.Cond.code ({ cls := "ReflectMirror$Body", name := "param", desc := "(I)LReflectMirror$Type;" } : Jvm.MethodName) prog_4_method_8_code (2 : Nat) (Option.some (Jvm.ClassFile.FieldType.object "ReflectMirror$Type"))) ∈ lw_all := lw_g (lw_at lw_m5 1 rfl) rfl
theorem q1051 : (Jvm.Cond.methodLinkNest "ReflectMirror$Body" (62 : Nat) ({ cls := "ReflectMirror", name := "isIn", desc := "(JJJ)Z" } : Jvm.MethodName) "ReflectMirror") ∈ lw_tbl := lw_at lw_m5 2 rfl
theorem q1063 : (Jvm.Cond.declares ({ cls := "ReflectMirror$Body", name := "isNear", desc := "(LReflectMirror$Member;)Z" } : Jvm.MethodName)) ∈ lw_tbl := lw_at lw_m5 14 rfl
theorem q1066 : (Jvm.Cond.instanceMethod ({ cls := "ReflectMirror$Body", name := "isNear", desc := "(LReflectMirror$Member;)Z" } : Jvm.MethodName)) ∈ lw_all := lw_g (lw_at lw_m5 17 rfl) rfl
theorem q1067 : (Jvm.Cond.code ({ cls := "ReflectMirror$Body", name := "isNear", desc := "(LReflectMirror$Member;)Z" } : Jvm.MethodName) prog_4_method_9_code (2 : Nat) (Option.some Jvm.ClassFile.FieldType.boolean)) ∈ lw_all := lw_g (lw_at lw_m5 18 rfl) rfl
theorem q1068 : (Jvm.Cond.methodLink "ReflectMirror$Body" (70 : Nat) ({ cls := "ReflectMirror$Member", name := "has", desc := "(I)Z" } : Jvm.MethodName)) ∈ lw_all := lw_g (lw_at lw_m5 19 rfl) rfl
theorem q1069 : (Jvm.Cond.methodLink "ReflectMirror$Body" (52 : Nat) ({ cls := "ReflectMirror$Type", name := "is", desc := "(LReflectMirror$Type;)Z" } : Jvm.MethodName)) ∈ lw_all := lw_g (lw_at lw_m5 20 rfl) rfl
theorem q1109 : (Jvm.Cond.code ({ cls := "ReflectMirror$Body", name := "isWell", desc := "()Z" } : Jvm.MethodName) prog_4_method_4_code (1 : Nat) (Option.some Jvm.ClassFile.FieldType.boolean)) ∈ lw_all := lw_g (lw_at lw_m5 60 rfl) rfl
theorem q1110 : (Jvm.Cond.methodLink "ReflectMirror$Body" (37 : Nat) ({ cls := "ReflectMirror$Body", name := "type", desc := "()LReflectMirror$Type;" } : Jvm.MethodName)) ∈ lw_all := lw_g (lw_at lw_m5 61 rfl) rfl
theorem q1111 : (Jvm.Cond.instanceMethod ({ cls := "ReflectMirror$Body", name := "type", desc := "()LReflectMirror$Type;" } : Jvm.MethodName)) ∈ lw_all := lw_g (lw_at lw_m5 62 rfl) rfl
theorem q1112 : (Jvm.Cond.sameMethod "ReflectMirror$Body" "ReflectMirror$Body" "type" "()LReflectMirror$Type;") ∈ lw_all := lw_g (lw_at lw_m5 63 rfl) rfl
theorem q1138 : (Jvm.Cond.code ({ cls := "ReflectMirror$Body", name := "type", desc := "()LReflectMirror$Type;" } : Jvm.MethodName) prog_4_method_3_code (1 : Nat) (Option.some (Jvm.ClassFile.FieldType.object "ReflectMirror$Type"))) ∈ lw_all := lw_g (lw_at lw_m5 89 rfl) rfl
theorem q1145 : (Jvm.Cond.instanceMethod ({ cls := "ReflectMirror$Body", name := "kind", desc := "()I" } : Jvm.MethodName)) ∈ lw_all := lw_g (lw_at lw_m5 96 rfl) rfl
theorem q1146 : (Jvm.Cond.sameMethod "ReflectMirror$Body" "ReflectMirror$Body" "kind" "()I") ∈ lw_all := lw_g (lw_at lw_m5 97 rfl) rfl
theorem q1172 : (Jvm.Cond.code ({ cls := "ReflectMirror$Body", name := "kind", desc := "()I" } : Jvm.MethodName) prog_4_method_2_code (1 : Nat) (Option.some Jvm.ClassFile.FieldType.int)) ∈ lw_all := lw_g (lw_at lw_m5 123 rfl) rfl
theorem q1750 : (Jvm.Cond.fieldLink "ReflectMirror$Body" (19 : Nat) "ReflectMirror$Frame" "out" "LReflectMirror$Cell;") ∈ lw_all := lw_g (lw_at lw_m7 221 rfl) rfl
theorem q1765 : (Jvm.Cond.instanceMethod ({ cls := "ReflectMirror$Body", name := "work", desc := "(LReflectMirror$Frame;)V" } : Jvm.MethodName)) ∈ lw_all := lw_g (lw_at lw_m7 236 rfl) rfl
theorem q1766 : (Jvm.Cond.sameMethod "ReflectMirror$Body" "ReflectMirror$Body" "work" "(LReflectMirror$Frame;)V") ∈ lw_all := lw_g (lw_at lw_m7 237 rfl) rfl
theorem q1783 : (Jvm.Cond.declares ({ cls := "ReflectMirror$Body", name := "gives", desc := "(LReflectMirror$Frame;LReflectMirror$Cell;)V" } : Jvm.MethodName)) ∈ lw_tbl := lw_at lw_m8 14 rfl
theorem q1786 : (Jvm.Cond.instanceMethod ({ cls := "ReflectMirror$Body", name := "gives", desc := "(LReflectMirror$Frame;LReflectMirror$Cell;)V" } : Jvm.MethodName)) ∈ lw_all := lw_g (lw_at lw_m8 17 rfl) rfl
theorem q1787 : (Jvm.Cond.code ({ cls := "ReflectMirror$Body", name := "gives", desc := "(LReflectMirror$Frame;LReflectMirror$Cell;)V" } : Jvm.MethodName) prog_4_method_6_code (3 : Nat) (Option.none : Option Jvm.ClassFile.FieldType)) ∈ lw_all := lw_g (lw_at lw_m8 18 rfl) rfl
theorem q1788 : (Jvm.Cond.methodLink "ReflectMirror$Body" (31 : Nat) ({ cls := "ReflectMirror$Cell", name := "clear", desc := "(LReflectMirror$Type;)V" } : Jvm.MethodName)) ∈ lw_all := lw_g (lw_at lw_m8 19 rfl) rfl
theorem q1792 : (Jvm.Cond.methodLink "ReflectMirror$Body" (41 : Nat) ({ cls := "ReflectMirror$Cell", name := "become", desc := "(LReflectMirror$Cell;)V" } : Jvm.MethodName)) ∈ lw_all := lw_g (lw_at lw_m8 23 rfl) rfl
theorem q1793 : (Jvm.Cond.methodLink "ReflectMirror$Body" (45 : Nat) ({ cls := "ReflectMirror$Cell", name := "widenTo", desc := "(LReflectMirror$Type;)V" } : Jvm.MethodName)) ∈ lw_all := lw_g (lw_at lw_m8 24 rfl) rfl
theorem q1871 : (Jvm.Cond.code ({ cls := "ReflectMirror$Body", name := "work", desc := "(LReflectMirror$Frame;)V" } : Jvm.MethodName) prog_4_method_5_code (2 : Nat) (Option.none : Option Jvm.ClassFile.FieldType)) ∈ lw_all := lw_g (lw_at lw_m8 102 rfl) rfl

/-! ReflectMirror$Plainly -/
set_option maxRecDepth 100000
def RX11 : String := "ReflectMirror$Plainly"
def TX11 : u_T := fun k => match k with
  | 0 => ("ReflectMirror$Body", "m", "LReflectMirror$Member;", true)
  | 1 => ("ReflectMirror$Body", "this$0", "LReflectMirror;", true)
  | _ => ("ReflectMirror$Plainly", "this$0", "LReflectMirror;", true)
def tyX11 : Nat → FieldType := fun k => match k with
  | 0 => .object "ReflectMirror$Member"
  | 1 => .object "ReflectMirror"
  | _ => .object "ReflectMirror"
abbrev wsX110 : List Cond := u_ws RX11 TX11 3
-- two fields of one name: no nmX11
theorem tyX11_ok : ∀ k, k < 3 → parseFieldDescriptor (TX11 k).2.2.1 = some (tyX11 k) := by decide +kernel
abbrev cX11_init : ByteArray := prog_19_method_1_code
def yX11_init : MethodName := ⟨RX11, "<init>", "(LReflectMirror;LReflectMirror$Member;)V"⟩
def dkwX11_init_0 : List UInt8 := [42, 43, 181, 0, 1, 42, 43, 44, 183, 0, 7, 177]
abbrev dktX11_init_0 : List UInt8 := dkwX11_init_0 ++ []
theorem dksX11_init_0 : cX11_init.data.toList.drop 0 = dktX11_init_0 := by decide +kernel
theorem dX11_init_0 : decode cX11_init 0 = .ok (.aload_n 0, 1) := dk_42 (dk_at dksX11_init_0 0 rfl rfl)
theorem dX11_init_1 : decode cX11_init 1 = .ok (.aload_n 1, 1) := dk_43 (dk_at dksX11_init_0 1 rfl rfl)
theorem dX11_init_2 : decode cX11_init 2 = .ok (.putfield 1, 3) := dk_181 0 1 (dk_at dksX11_init_0 2 rfl rfl)
theorem dX11_init_5 : decode cX11_init 5 = .ok (.aload_n 0, 1) := dk_42 (dk_at dksX11_init_0 5 rfl rfl)
theorem dX11_init_6 : decode cX11_init 6 = .ok (.aload_n 1, 1) := dk_43 (dk_at dksX11_init_0 6 rfl rfl)
theorem dX11_init_7 : decode cX11_init 7 = .ok (.aload_n 2, 1) := dk_44 (dk_at dksX11_init_0 7 rfl rfl)
theorem dX11_init_8 : decode cX11_init 8 = .ok (.invokespecial 7, 3) := dk_183 0 7 (dk_at dksX11_init_0 8 rfl rfl)
theorem dX11_init_11 : decode cX11_init 11 = .ok (.return_, 1) := dk_177 (dk_at dksX11_init_0 11 rfl rfl)
theorem q105 : (Jvm.Cond.initialized "ReflectMirror$Plainly") ∈ lw_all := lw_g (lw_at lw_m1 16 rfl) rfl
theorem q763 : (Jvm.Cond.instantiable "ReflectMirror$Plainly" (3 : Nat)) ∈ lw_all := lw_g (lw_at lw_m3 194 rfl) rfl
theorem q765 : (Jvm.Cond.instanceMethod ({ cls := "ReflectMirror$Plainly", name := "<init>", desc := "(LReflectMirror;LReflectMirror$Member;)V" } : Jvm.MethodName)) ∈ lw_all := lw_g (lw_at lw_m3 196 rfl) rfl
theorem q766 : (Jvm.Cond.code ({ cls := "ReflectMirror$Plainly", name := "<init>", desc := "(LReflectMirror;LReflectMirror$Member;)V" } : Jvm.MethodName) prog_19_method_1_code (3 : Nat) (Option.none : Option Jvm.ClassFile.FieldType)) ∈ lw_all := lw_g (lw_at lw_m3 197 rfl) rfl
theorem q767 : (Jvm.Cond.methodLink "ReflectMirror$Plainly" (7 : Nat) ({ cls := "ReflectMirror$Body", name := "<init>", desc := "(LReflectMirror;LReflectMirror$Member;)V" } : Jvm.MethodName)) ∈ lw_all := lw_g (lw_at lw_m3 198 rfl) rfl
theorem q771 : (Jvm.Cond.fieldLink "ReflectMirror$Plainly" (1 : Nat) "ReflectMirror$Plainly" "this$0" "LReflectMirror;") ∈ lw_all := lw_g (lw_at lw_m3 202 rfl) rfl
theorem q780 : (Jvm.Cond.laysFinal "ReflectMirror$Plainly" "ReflectMirror$Plainly" "this$0" "LReflectMirror;") ∈ lw_all := lw_g (lw_at lw_m3 211 rfl) rfl
theorem q781 : (Jvm.Cond.soleField "ReflectMirror$Plainly" "this$0") ∈ lw_all := lw_g (lw_at lw_m3 212 rfl) rfl
theorem q782 : (Jvm.Cond.laysFinal "ReflectMirror$Plainly" "ReflectMirror$Body" "m" "LReflectMirror$Member;") ∈ lw_all := lw_g (lw_at lw_m3 213 rfl) rfl
theorem q784 : (Jvm.Cond.laysFinal "ReflectMirror$Plainly" "ReflectMirror$Body" "this$0" "LReflectMirror;") ∈ lw_all := lw_g (lw_at lw_m3 215 rfl) rfl
theorem q786 : (Jvm.Cond.superclass "ReflectMirror$Plainly" "ReflectMirror$Body") ∈ lw_all := lw_g (lw_at lw_m3 217 rfl) rfl
theorem q1021 : (Jvm.Cond.selects "ReflectMirror$Plainly" ({ cls := "ReflectMirror$Body", name := "isFit", desc := "()Z" } : Jvm.MethodName) ({ cls := "ReflectMirror$Body", name := "isFit", desc := "()Z" } : Jvm.MethodName)) ∈ lw_all := lw_g (lw_at lw_m4 212 rfl) rfl
theorem q1093 : (Jvm.Cond.selects "ReflectMirror$Plainly" ({ cls := "ReflectMirror$Body", name := "isWell", desc := "()Z" } : Jvm.MethodName) ({ cls := "ReflectMirror$Body", name := "isWell", desc := "()Z" } : Jvm.MethodName)) ∈ lw_all := lw_g (lw_at lw_m5 44 rfl) rfl
theorem q1131 : (Jvm.Cond.selects "ReflectMirror$Plainly" ({ cls := "ReflectMirror$Body", name := "type", desc := "()LReflectMirror$Type;" } : Jvm.MethodName) ({ cls := "ReflectMirror$Body", name := "type", desc := "()LReflectMirror$Type;" } : Jvm.MethodName)) ∈ lw_all := lw_g (lw_at lw_m5 82 rfl) rfl
theorem q1165 : (Jvm.Cond.selects "ReflectMirror$Plainly" ({ cls := "ReflectMirror$Body", name := "kind", desc := "()I" } : Jvm.MethodName) ({ cls := "ReflectMirror$Body", name := "kind", desc := "()I" } : Jvm.MethodName)) ∈ lw_all := lw_g (lw_at lw_m5 116 rfl) rfl
theorem q1842 : (Jvm.Cond.selects "ReflectMirror$Plainly" ({ cls := "ReflectMirror$Body", name := "work", desc := "(LReflectMirror$Frame;)V" } : Jvm.MethodName) ({ cls := "ReflectMirror$Body", name := "work", desc := "(LReflectMirror$Frame;)V" } : Jvm.MethodName)) ∈ lw_all := lw_g (lw_at lw_m8 73 rfl) rfl
theorem q2599 : (Jvm.Cond.castable "ReflectMirror$Plainly" "java/lang/Object") ∈ lw_tbl := lw_at lw_m11 110 rfl
theorem in_X11 : ∀ w ∈ wsX110, w ∈ lw_all := lw_in wsX110 [782, 784, 780] (by decide +kernel) (by decide +kernel)

/-! ReflectMirror$Param -/
set_option maxRecDepth 100000
def RX12 : String := "ReflectMirror$Param"
def TX12 : u_T := fun k => match k with
  | 0 => ("ReflectMirror$Body", "m", "LReflectMirror$Member;", true)
  | 1 => ("ReflectMirror$Body", "this$0", "LReflectMirror;", true)
  | 2 => ("ReflectMirror$Param", "i", "I", true)
  | _ => ("ReflectMirror$Param", "this$0", "LReflectMirror;", true)
def tyX12 : Nat → FieldType := fun k => match k with
  | 0 => .object "ReflectMirror$Member"
  | 1 => .object "ReflectMirror"
  | 2 => .int
  | _ => .object "ReflectMirror"
abbrev wsX120 : List Cond := u_ws RX12 TX12 4
-- two fields of one name: no nmX12
theorem tyX12_ok : ∀ k, k < 4 → parseFieldDescriptor (TX12 k).2.2.1 = some (tyX12 k) := by decide +kernel
abbrev cX12_init : ByteArray := prog_17_method_1_code
def yX12_init : MethodName := ⟨RX12, "<init>", "(LReflectMirror;LReflectMirror$Member;I)V"⟩
def dkwX12_init_0 : List UInt8 := [42, 43, 181, 0, 1, 42, 43, 44, 183, 0, 7, 42, 29, 181, 0, 13, 177]
abbrev dktX12_init_0 : List UInt8 := dkwX12_init_0 ++ []
theorem dksX12_init_0 : cX12_init.data.toList.drop 0 = dktX12_init_0 := by decide +kernel
theorem dX12_init_0 : decode cX12_init 0 = .ok (.aload_n 0, 1) := dk_42 (dk_at dksX12_init_0 0 rfl rfl)
theorem dX12_init_1 : decode cX12_init 1 = .ok (.aload_n 1, 1) := dk_43 (dk_at dksX12_init_0 1 rfl rfl)
theorem dX12_init_2 : decode cX12_init 2 = .ok (.putfield 1, 3) := dk_181 0 1 (dk_at dksX12_init_0 2 rfl rfl)
theorem dX12_init_5 : decode cX12_init 5 = .ok (.aload_n 0, 1) := dk_42 (dk_at dksX12_init_0 5 rfl rfl)
theorem dX12_init_6 : decode cX12_init 6 = .ok (.aload_n 1, 1) := dk_43 (dk_at dksX12_init_0 6 rfl rfl)
theorem dX12_init_7 : decode cX12_init 7 = .ok (.aload_n 2, 1) := dk_44 (dk_at dksX12_init_0 7 rfl rfl)
theorem dX12_init_8 : decode cX12_init 8 = .ok (.invokespecial 7, 3) := dk_183 0 7 (dk_at dksX12_init_0 8 rfl rfl)
theorem dX12_init_11 : decode cX12_init 11 = .ok (.aload_n 0, 1) := dk_42 (dk_at dksX12_init_0 11 rfl rfl)
theorem dX12_init_12 : decode cX12_init 12 = .ok (.iload_n 3, 1) := dk_29 (dk_at dksX12_init_0 12 rfl rfl)
theorem dX12_init_13 : decode cX12_init 13 = .ok (.putfield 13, 3) := dk_181 0 13 (dk_at dksX12_init_0 13 rfl rfl)
theorem dX12_init_16 : decode cX12_init 16 = .ok (.return_, 1) := dk_177 (dk_at dksX12_init_0 16 rfl rfl)
abbrev cX12_isWell : ByteArray := prog_17_method_4_code
def yX12_isWell : MethodName := ⟨RX12, "isWell", "()Z"⟩
def dkwX12_isWell_0 : List UInt8 := [42, 42, 180, 0, 13, 182, 0, 17, 198, 0, 7, 4, 167, 0, 4, 3, 172]
abbrev dktX12_isWell_0 : List UInt8 := dkwX12_isWell_0 ++ []
theorem dksX12_isWell_0 : cX12_isWell.data.toList.drop 0 = dktX12_isWell_0 := by decide +kernel
theorem dX12_isWell_0 : decode cX12_isWell 0 = .ok (.aload_n 0, 1) := dk_42 (dk_at dksX12_isWell_0 0 rfl rfl)
theorem dX12_isWell_1 : decode cX12_isWell 1 = .ok (.aload_n 0, 1) := dk_42 (dk_at dksX12_isWell_0 1 rfl rfl)
theorem dX12_isWell_2 : decode cX12_isWell 2 = .ok (.getfield 13, 3) := dk_180 0 13 (dk_at dksX12_isWell_0 2 rfl rfl)
theorem dX12_isWell_5 : decode cX12_isWell 5 = .ok (.invokevirtual 17, 3) := dk_182 0 17 (dk_at dksX12_isWell_0 5 rfl rfl)
theorem dX12_isWell_8 : decode cX12_isWell 8 = .ok (.ifnull 7, 3) := dk_198 0 7 (dk_at dksX12_isWell_0 8 rfl rfl)
theorem dX12_isWell_11 : decode cX12_isWell 11 = .ok (.iconst 1, 1) := dk_4 (dk_at dksX12_isWell_0 11 rfl rfl)
theorem dX12_isWell_12 : decode cX12_isWell 12 = .ok (.goto 4, 3) := dk_167 0 4 (dk_at dksX12_isWell_0 12 rfl rfl)
theorem dX12_isWell_15 : decode cX12_isWell 15 = .ok (.iconst 0, 1) := dk_3 (dk_at dksX12_isWell_0 15 rfl rfl)
theorem dX12_isWell_16 : decode cX12_isWell 16 = .ok (.ireturn, 1) := dk_172 (dk_at dksX12_isWell_0 16 rfl rfl)
abbrev cX12_type : ByteArray := prog_17_method_3_code
def yX12_type : MethodName := ⟨RX12, "type", "()LReflectMirror$Type;"⟩
def dkwX12_type_0 : List UInt8 := [42, 42, 180, 0, 13, 182, 0, 17, 176]
abbrev dktX12_type_0 : List UInt8 := dkwX12_type_0 ++ []
theorem dksX12_type_0 : cX12_type.data.toList.drop 0 = dktX12_type_0 := by decide +kernel
theorem dX12_type_0 : decode cX12_type 0 = .ok (.aload_n 0, 1) := dk_42 (dk_at dksX12_type_0 0 rfl rfl)
theorem dX12_type_1 : decode cX12_type 1 = .ok (.aload_n 0, 1) := dk_42 (dk_at dksX12_type_0 1 rfl rfl)
theorem dX12_type_2 : decode cX12_type 2 = .ok (.getfield 13, 3) := dk_180 0 13 (dk_at dksX12_type_0 2 rfl rfl)
theorem dX12_type_5 : decode cX12_type 5 = .ok (.invokevirtual 17, 3) := dk_182 0 17 (dk_at dksX12_type_0 5 rfl rfl)
theorem dX12_type_8 : decode cX12_type 8 = .ok (.areturn, 1) := dk_176 (dk_at dksX12_type_0 8 rfl rfl)
abbrev cX12_kind : ByteArray := prog_17_method_2_code
def yX12_kind : MethodName := ⟨RX12, "kind", "()I"⟩
theorem dX12_kind_0 : decode cX12_kind 0 = .ok (.iconst 1, 1) := by decide +kernel
theorem dX12_kind_1 : decode cX12_kind 1 = .ok (.ireturn, 1) := by decide +kernel
abbrev cX12_work : ByteArray := prog_17_method_5_code
def yX12_work : MethodName := ⟨RX12, "work", "(LReflectMirror$Frame;)V"⟩
def dkwX12_work_0 : List UInt8 := [42, 43, 43, 180, 0, 21, 42, 180, 0, 13, 50, 182, 0, 27, 177]
abbrev dktX12_work_0 : List UInt8 := dkwX12_work_0 ++ []
theorem dksX12_work_0 : cX12_work.data.toList.drop 0 = dktX12_work_0 := by decide +kernel
theorem dX12_work_0 : decode cX12_work 0 = .ok (.aload_n 0, 1) := dk_42 (dk_at dksX12_work_0 0 rfl rfl)
theorem dX12_work_1 : decode cX12_work 1 = .ok (.aload_n 1, 1) := dk_43 (dk_at dksX12_work_0 1 rfl rfl)
theorem dX12_work_2 : decode cX12_work 2 = .ok (.aload_n 1, 1) := dk_43 (dk_at dksX12_work_0 2 rfl rfl)
theorem dX12_work_3 : decode cX12_work 3 = .ok (.getfield 21, 3) := dk_180 0 21 (dk_at dksX12_work_0 3 rfl rfl)
theorem dX12_work_6 : decode cX12_work 6 = .ok (.aload_n 0, 1) := dk_42 (dk_at dksX12_work_0 6 rfl rfl)
theorem dX12_work_7 : decode cX12_work 7 = .ok (.getfield 13, 3) := dk_180 0 13 (dk_at dksX12_work_0 7 rfl rfl)
theorem dX12_work_10 : decode cX12_work 10 = .ok (.aaload, 1) := dk_50 (dk_at dksX12_work_0 10 rfl rfl)
theorem dX12_work_11 : decode cX12_work 11 = .ok (.invokevirtual 27, 3) := dk_182 0 27 (dk_at dksX12_work_0 11 rfl rfl)
theorem dX12_work_14 : decode cX12_work 14 = .ok (.return_, 1) := dk_177 (dk_at dksX12_work_0 14 rfl rfl)
theorem q106 : (Jvm.Cond.initialized "ReflectMirror$Param") ∈ lw_all := lw_g (lw_at lw_m1 17 rfl) rfl
theorem q805 : (Jvm.Cond.instantiable "ReflectMirror$Param" (4 : Nat)) ∈ lw_all := lw_g (lw_at lw_m3 236 rfl) rfl
theorem q807 : (Jvm.Cond.instanceMethod ({ cls := "ReflectMirror$Param", name := "<init>", desc := "(LReflectMirror;LReflectMirror$Member;I)V" } : Jvm.MethodName)) ∈ lw_all := lw_g (lw_at lw_m3 238 rfl) rfl
theorem q808 : (Jvm.Cond.code ({ cls := "ReflectMirror$Param", name := "<init>", desc := "(LReflectMirror;LReflectMirror$Member;I)V" } : Jvm.MethodName) prog_17_method_1_code (4 : Nat) (Option.none : Option Jvm.ClassFile.FieldType)) ∈ lw_all := lw_g (lw_at lw_m3 239 rfl) rfl
theorem q809 : (Jvm.Cond.methodLink "ReflectMirror$Param" (7 : Nat) ({ cls := "ReflectMirror$Body", name := "<init>", desc := "(LReflectMirror;LReflectMirror$Member;)V" } : Jvm.MethodName)) ∈ lw_all := lw_g (lw_at lw_m4 0 rfl) rfl
theorem q810 : (Jvm.Cond.fieldLink "ReflectMirror$Param" (13 : Nat) "ReflectMirror$Param" "i" "I") ∈ lw_all := lw_g (lw_at lw_m4 1 rfl) rfl
theorem q815 : (Jvm.Cond.fieldLink "ReflectMirror$Param" (1 : Nat) "ReflectMirror$Param" "this$0" "LReflectMirror;") ∈ lw_all := lw_g (lw_at lw_m4 6 rfl) rfl
theorem q816 : (Jvm.Cond.laysFinal "ReflectMirror$Param" "ReflectMirror$Param" "i" "I") ∈ lw_all := lw_g (lw_at lw_m4 7 rfl) rfl
theorem q817 : (Jvm.Cond.soleField "ReflectMirror$Param" "i") ∈ lw_all := lw_g (lw_at lw_m4 8 rfl) rfl
theorem q818 : (Jvm.Cond.laysFinal "ReflectMirror$Param" "ReflectMirror$Param" "this$0" "LReflectMirror;") ∈ lw_all := lw_g (lw_at lw_m4 9 rfl) rfl
theorem q819 : (Jvm.Cond.soleField "ReflectMirror$Param" "this$0") ∈ lw_all := lw_g (lw_at lw_m4 10 rfl) rfl
theorem q820 : (Jvm.Cond.laysFinal "ReflectMirror$Param" "ReflectMirror$Body" "m" "LReflectMirror$Member;") ∈ lw_all := lw_g (lw_at lw_m4 11 rfl) rfl
theorem q821 : (Jvm.Cond.laysFinal "ReflectMirror$Param" "ReflectMirror$Body" "this$0" "LReflectMirror;") ∈ lw_all := lw_g (lw_at lw_m4 12 rfl) rfl
theorem q822 : (Jvm.Cond.superclass "ReflectMirror$Param" "ReflectMirror$Body") ∈ lw_all := lw_g (lw_at lw_m4 13 rfl) rfl
theorem q1020 : (Jvm.Cond.selects "ReflectMirror$Param" ({ cls := "ReflectMirror$Body", name := "isFit", desc := "()Z" } : Jvm.MethodName) ({ cls := "ReflectMirror$Body", name := "isFit", desc := "()Z" } : Jvm.MethodName)) ∈ lw_all := lw_g (lw_at lw_m4 211 rfl) rfl
theorem q1080 : (Jvm.Cond.instanceMethod ({ cls := "ReflectMirror$Param", name := "isWell", desc := "()Z" } : Jvm.MethodName)) ∈ lw_all := lw_g (lw_at lw_m5 31 rfl) rfl
theorem q1081 : (Jvm.Cond.code ({ cls := "ReflectMirror$Param", name := "isWell", desc := "()Z" } : Jvm.MethodName) prog_17_method_4_code (1 : Nat) (Option.some Jvm.ClassFile.FieldType.boolean)) ∈ lw_all := lw_g (lw_at lw_m5 32 rfl) rfl
theorem q1082 : (Jvm.Cond.methodLink "ReflectMirror$Param" (17 : Nat) ({ cls := "ReflectMirror$Param", name := "param", desc := "(I)LReflectMirror$Type;" } : Jvm.MethodName)) ∈ lw_all := lw_g (lw_at lw_m5 33 rfl) rfl
theorem q1083 : (Jvm.Cond.sameMethod "ReflectMirror$Param" "ReflectMirror$Body" "param" "(I)LReflectMirror$Type;") ∈ lw_all := lw_g (lw_at lw_m5 34 rfl) rfl
theorem q1086 : (Jvm.Cond.selects "ReflectMirror$Param" ({ cls := "ReflectMirror$Param", name := "param", desc := "(I)LReflectMirror$Type;" } : Jvm.MethodName) ({ cls := "ReflectMirror$Body", name := "param", desc := "(I)LReflectMirror$Type;" } : Jvm.MethodName)) ∈ lw_all := lw_g (lw_at lw_m5 37 rfl) rfl
theorem q1092 : (Jvm.Cond.selects "ReflectMirror$Param" ({ cls := "ReflectMirror$Body", name := "isWell", desc := "()Z" } : Jvm.MethodName) ({ cls := "ReflectMirror$Param", name := "isWell", desc := "()Z" } : Jvm.MethodName)) ∈ lw_all := lw_g (lw_at lw_m5 43 rfl) rfl
theorem q1128 : (Jvm.Cond.instanceMethod ({ cls := "ReflectMirror$Param", name := "type", desc := "()LReflectMirror$Type;" } : Jvm.MethodName)) ∈ lw_all := lw_g (lw_at lw_m5 79 rfl) rfl
theorem q1129 : (Jvm.Cond.code ({ cls := "ReflectMirror$Param", name := "type", desc := "()LReflectMirror$Type;" } : Jvm.MethodName) prog_17_method_3_code (1 : Nat) (Option.some (Jvm.ClassFile.FieldType.object "ReflectMirror$Type"))) ∈ lw_all := lw_g (lw_at lw_m5 80 rfl) rfl
theorem q1130 : (Jvm.Cond.selects "ReflectMirror$Param" ({ cls := "ReflectMirror$Body", name := "type", desc := "()LReflectMirror$Type;" } : Jvm.MethodName) ({ cls := "ReflectMirror$Param", name := "type", desc := "()LReflectMirror$Type;" } : Jvm.MethodName)) ∈ lw_all := lw_g (lw_at lw_m5 81 rfl) rfl
theorem q1162 : (Jvm.Cond.selects "ReflectMirror$Param" ({ cls := "ReflectMirror$Body", name := "kind", desc := "()I" } : Jvm.MethodName) ({ cls := "ReflectMirror$Param", name := "kind", desc := "()I" } : Jvm.MethodName)) ∈ lw_all := lw_g (lw_at lw_m5 113 rfl) rfl
theorem q1163 : (Jvm.Cond.instanceMethod ({ cls := "ReflectMirror$Param", name := "kind", desc := "()I" } : Jvm.MethodName)) ∈ lw_all := lw_g (lw_at lw_m5 114 rfl) rfl
theorem q1164 : (Jvm.Cond.code ({ cls := "ReflectMirror$Param", name := "kind", desc := "()I" } : Jvm.MethodName) prog_17_method_2_code (1 : Nat) (Option.some Jvm.ClassFile.FieldType.int)) ∈ lw_all := lw_g (lw_at lw_m5 115 rfl) rfl
theorem q1745 : (Jvm.Cond.fieldLink "ReflectMirror$Param" (21 : Nat) "ReflectMirror$Frame" "args" "[LReflectMirror$Cell;") ∈ lw_all := lw_g (lw_at lw_m7 216 rfl) rfl
theorem q1834 : (Jvm.Cond.selects "ReflectMirror$Param" ({ cls := "ReflectMirror$Body", name := "work", desc := "(LReflectMirror$Frame;)V" } : Jvm.MethodName) ({ cls := "ReflectMirror$Param", name := "work", desc := "(LReflectMirror$Frame;)V" } : Jvm.MethodName)) ∈ lw_all := lw_g (lw_at lw_m8 65 rfl) rfl
theorem q1835 : (Jvm.Cond.instanceMethod ({ cls := "ReflectMirror$Param", name := "work", desc := "(LReflectMirror$Frame;)V" } : Jvm.MethodName)) ∈ lw_all := lw_g (lw_at lw_m8 66 rfl) rfl
theorem q1836 : (Jvm.Cond.code ({ cls := "ReflectMirror$Param", name := "work", desc := "(LReflectMirror$Frame;)V" } : Jvm.MethodName) prog_17_method_5_code (2 : Nat) (Option.none : Option Jvm.ClassFile.FieldType)) ∈ lw_all := lw_g (lw_at lw_m8 67 rfl) rfl
theorem q1837 : (Jvm.Cond.methodLink "ReflectMirror$Param" (27 : Nat) ({ cls := "ReflectMirror$Param", name := "gives", desc := "(LReflectMirror$Frame;LReflectMirror$Cell;)V" } : Jvm.MethodName)) ∈ lw_all := lw_g (lw_at lw_m8 68 rfl) rfl
theorem q1838 : (Jvm.Cond.sameMethod "ReflectMirror$Param" "ReflectMirror$Body" "gives" "(LReflectMirror$Frame;LReflectMirror$Cell;)V") ∈ lw_all := lw_g (lw_at lw_m8 69 rfl) rfl
theorem q1841 : (Jvm.Cond.selects "ReflectMirror$Param" ({ cls := "ReflectMirror$Param", name := "gives", desc := "(LReflectMirror$Frame;LReflectMirror$Cell;)V" } : Jvm.MethodName) ({ cls := "ReflectMirror$Body", name := "gives", desc := "(LReflectMirror$Frame;LReflectMirror$Cell;)V" } : Jvm.MethodName)) ∈ lw_all := lw_g (lw_at lw_m8 72 rfl) rfl
theorem q2578 : (Jvm.Cond.sameMethod "ReflectMirror$Param" "ReflectMirror$Param" "isWell" "()Z") ∈ lw_all := lw_g (lw_at lw_m11 89 rfl) rfl
theorem q2580 : (Jvm.Cond.sameMethod "ReflectMirror$Param" "ReflectMirror$Param" "type" "()LReflectMirror$Type;") ∈ lw_all := lw_g (lw_at lw_m11 91 rfl) rfl
theorem q2600 : (Jvm.Cond.castable "ReflectMirror$Param" "java/lang/Object") ∈ lw_tbl := lw_at lw_m11 111 rfl
theorem in_X12 : ∀ w ∈ wsX120, w ∈ lw_all := lw_in wsX120 [820, 821, 816, 818] (by decide +kernel) (by decide +kernel)

/-! ReflectMirror$Reading -/
set_option maxRecDepth 100000
def RX13 : String := "ReflectMirror$Reading"
def TX13 : u_T := fun k => match k with
  | 0 => ("ReflectMirror$Body", "m", "LReflectMirror$Member;", true)
  | 1 => ("ReflectMirror$Body", "this$0", "LReflectMirror;", true)
  | 2 => ("ReflectMirror$Reading", "field", "LReflectMirror$Member;", true)
  | _ => ("ReflectMirror$Reading", "this$0", "LReflectMirror;", true)
def tyX13 : Nat → FieldType := fun k => match k with
  | 0 => .object "ReflectMirror$Member"
  | 1 => .object "ReflectMirror"
  | 2 => .object "ReflectMirror$Member"
  | _ => .object "ReflectMirror"
abbrev wsX130 : List Cond := u_ws RX13 TX13 4
-- two fields of one name: no nmX13
theorem tyX13_ok : ∀ k, k < 4 → parseFieldDescriptor (TX13 k).2.2.1 = some (tyX13 k) := by decide +kernel
abbrev cX13_init : ByteArray := prog_21_method_1_code
def yX13_init : MethodName := ⟨RX13, "<init>", "(LReflectMirror;LReflectMirror$Member;LReflectMirror$Member;)V"⟩
def dkwX13_init_0 : List UInt8 := [42, 43, 181, 0, 3, 42, 43, 44, 183, 0, 9, 42, 45, 181, 0, 15, 177]
abbrev dktX13_init_0 : List UInt8 := dkwX13_init_0 ++ []
theorem dksX13_init_0 : cX13_init.data.toList.drop 0 = dktX13_init_0 := by decide +kernel
theorem dX13_init_0 : decode cX13_init 0 = .ok (.aload_n 0, 1) := dk_42 (dk_at dksX13_init_0 0 rfl rfl)
theorem dX13_init_1 : decode cX13_init 1 = .ok (.aload_n 1, 1) := dk_43 (dk_at dksX13_init_0 1 rfl rfl)
theorem dX13_init_2 : decode cX13_init 2 = .ok (.putfield 3, 3) := dk_181 0 3 (dk_at dksX13_init_0 2 rfl rfl)
theorem dX13_init_5 : decode cX13_init 5 = .ok (.aload_n 0, 1) := dk_42 (dk_at dksX13_init_0 5 rfl rfl)
theorem dX13_init_6 : decode cX13_init 6 = .ok (.aload_n 1, 1) := dk_43 (dk_at dksX13_init_0 6 rfl rfl)
theorem dX13_init_7 : decode cX13_init 7 = .ok (.aload_n 2, 1) := dk_44 (dk_at dksX13_init_0 7 rfl rfl)
theorem dX13_init_8 : decode cX13_init 8 = .ok (.invokespecial 9, 3) := dk_183 0 9 (dk_at dksX13_init_0 8 rfl rfl)
theorem dX13_init_11 : decode cX13_init 11 = .ok (.aload_n 0, 1) := dk_42 (dk_at dksX13_init_0 11 rfl rfl)
theorem dX13_init_12 : decode cX13_init 12 = .ok (.aload_n 3, 1) := dk_45 (dk_at dksX13_init_0 12 rfl rfl)
theorem dX13_init_13 : decode cX13_init 13 = .ok (.putfield 15, 3) := dk_181 0 15 (dk_at dksX13_init_0 13 rfl rfl)
theorem dX13_init_16 : decode cX13_init 16 = .ok (.return_, 1) := dk_177 (dk_at dksX13_init_0 16 rfl rfl)
abbrev cX13_isWell : ByteArray := prog_21_method_4_code
def yX13_isWell : MethodName := ⟨RX13, "isWell", "()Z"⟩
def dkwX13_isWell_1 : List UInt8 := [182, 0, 29, 153, 0, 7, 4, 167, 0, 4, 3, 172]
abbrev dktX13_isWell_1 : List UInt8 := dkwX13_isWell_1 ++ []
def dkwX13_isWell_0 : List UInt8 := [42, 180, 0, 15, 198, 0, 28, 42, 180, 0, 15, 180, 0, 25, 153, 0, 18, 42, 42, 180, 0, 15]
abbrev dktX13_isWell_0 : List UInt8 := dkwX13_isWell_0 ++ dktX13_isWell_1
theorem dksX13_isWell_0 : cX13_isWell.data.toList.drop 0 = dktX13_isWell_0 := by decide +kernel
theorem dksX13_isWell_1 : cX13_isWell.data.toList.drop 22 = dktX13_isWell_1 := dk_seg dksX13_isWell_0 22 rfl rfl
theorem dX13_isWell_0 : decode cX13_isWell 0 = .ok (.aload_n 0, 1) := dk_42 (dk_at dksX13_isWell_0 0 rfl rfl)
theorem dX13_isWell_1 : decode cX13_isWell 1 = .ok (.getfield 15, 3) := dk_180 0 15 (dk_at dksX13_isWell_0 1 rfl rfl)
theorem dX13_isWell_4 : decode cX13_isWell 4 = .ok (.ifnull 28, 3) := dk_198 0 28 (dk_at dksX13_isWell_0 4 rfl rfl)
theorem dX13_isWell_7 : decode cX13_isWell 7 = .ok (.aload_n 0, 1) := dk_42 (dk_at dksX13_isWell_0 7 rfl rfl)
theorem dX13_isWell_8 : decode cX13_isWell 8 = .ok (.getfield 15, 3) := dk_180 0 15 (dk_at dksX13_isWell_0 8 rfl rfl)
theorem dX13_isWell_11 : decode cX13_isWell 11 = .ok (.getfield 25, 3) := dk_180 0 25 (dk_at dksX13_isWell_0 11 rfl rfl)
theorem dX13_isWell_14 : decode cX13_isWell 14 = .ok (.ifCond .eq 18, 3) := dk_153 0 18 (dk_at dksX13_isWell_0 14 rfl rfl)
theorem dX13_isWell_17 : decode cX13_isWell 17 = .ok (.aload_n 0, 1) := dk_42 (dk_at dksX13_isWell_0 17 rfl rfl)
theorem dX13_isWell_18 : decode cX13_isWell 18 = .ok (.aload_n 0, 1) := dk_42 (dk_at dksX13_isWell_0 18 rfl rfl)
theorem dX13_isWell_19 : decode cX13_isWell 19 = .ok (.getfield 15, 3) := dk_180 0 15 (dk_at dksX13_isWell_0 19 rfl rfl)
theorem dX13_isWell_22 : decode cX13_isWell 22 = .ok (.invokevirtual 29, 3) := dk_182 0 29 (dk_at dksX13_isWell_1 0 rfl rfl)
theorem dX13_isWell_25 : decode cX13_isWell 25 = .ok (.ifCond .eq 7, 3) := dk_153 0 7 (dk_at dksX13_isWell_1 3 rfl rfl)
theorem dX13_isWell_28 : decode cX13_isWell 28 = .ok (.iconst 1, 1) := dk_4 (dk_at dksX13_isWell_1 6 rfl rfl)
theorem dX13_isWell_29 : decode cX13_isWell 29 = .ok (.goto 4, 3) := dk_167 0 4 (dk_at dksX13_isWell_1 7 rfl rfl)
theorem dX13_isWell_32 : decode cX13_isWell 32 = .ok (.iconst 0, 1) := dk_3 (dk_at dksX13_isWell_1 10 rfl rfl)
theorem dX13_isWell_33 : decode cX13_isWell 33 = .ok (.ireturn, 1) := dk_172 (dk_at dksX13_isWell_1 11 rfl rfl)
abbrev cX13_type : ByteArray := prog_21_method_3_code
def yX13_type : MethodName := ⟨RX13, "type", "()LReflectMirror$Type;"⟩
def dkwX13_type_0 : List UInt8 := [42, 180, 0, 15, 180, 0, 19, 176]
abbrev dktX13_type_0 : List UInt8 := dkwX13_type_0 ++ []
theorem dksX13_type_0 : cX13_type.data.toList.drop 0 = dktX13_type_0 := by decide +kernel
theorem dX13_type_0 : decode cX13_type 0 = .ok (.aload_n 0, 1) := dk_42 (dk_at dksX13_type_0 0 rfl rfl)
theorem dX13_type_1 : decode cX13_type 1 = .ok (.getfield 15, 3) := dk_180 0 15 (dk_at dksX13_type_0 1 rfl rfl)
theorem dX13_type_4 : decode cX13_type 4 = .ok (.getfield 19, 3) := dk_180 0 19 (dk_at dksX13_type_0 4 rfl rfl)
theorem dX13_type_7 : decode cX13_type 7 = .ok (.areturn, 1) := dk_176 (dk_at dksX13_type_0 7 rfl rfl)
abbrev cX13_kind : ByteArray := prog_21_method_2_code
def yX13_kind : MethodName := ⟨RX13, "kind", "()I"⟩
theorem dX13_kind_0 : decode cX13_kind 0 = .ok (.iconst 2, 1) := by decide +kernel
theorem dX13_kind_1 : decode cX13_kind 1 = .ok (.ireturn, 1) := by decide +kernel
abbrev cX13_work : ByteArray := prog_21_method_6_code
def yX13_work : MethodName := ⟨RX13, "work", "(LReflectMirror$Frame;)V"⟩
def dkwX13_work_2 : List UInt8 := [44, 182, 0, 79, 177]
abbrev dktX13_work_2 : List UInt8 := dkwX13_work_2 ++ []
def dkwX13_work_1 : List UInt8 := [153, 0, 8, 16, 8, 167, 0, 13, 42, 180, 0, 15, 180, 0, 19, 182, 0, 72, 44, 184, 0, 75, 42, 43]
abbrev dktX13_work_1 : List UInt8 := dkwX13_work_1 ++ dktX13_work_2
def dkwX13_work_0 : List UInt8 := [187, 0, 57, 89, 183, 0, 59, 77, 42, 43, 182, 0, 62, 3, 42, 180, 0, 15, 180, 0, 19, 182, 0, 66]
abbrev dktX13_work_0 : List UInt8 := dkwX13_work_0 ++ dktX13_work_1
theorem dksX13_work_0 : cX13_work.data.toList.drop 0 = dktX13_work_0 := by decide +kernel
theorem dksX13_work_1 : cX13_work.data.toList.drop 24 = dktX13_work_1 := dk_seg dksX13_work_0 24 rfl rfl
theorem dksX13_work_2 : cX13_work.data.toList.drop 48 = dktX13_work_2 := dk_seg dksX13_work_1 24 rfl rfl
theorem dX13_work_0 : decode cX13_work 0 = .ok (.new 57, 3) := dk_187 0 57 (dk_at dksX13_work_0 0 rfl rfl)
theorem dX13_work_3 : decode cX13_work 3 = .ok (.dup, 1) := dk_89 (dk_at dksX13_work_0 3 rfl rfl)
theorem dX13_work_4 : decode cX13_work 4 = .ok (.invokespecial 59, 3) := dk_183 0 59 (dk_at dksX13_work_0 4 rfl rfl)
theorem dX13_work_7 : decode cX13_work 7 = .ok (.astore_n 2, 1) := dk_77 (dk_at dksX13_work_0 7 rfl rfl)
theorem dX13_work_8 : decode cX13_work 8 = .ok (.aload_n 0, 1) := dk_42 (dk_at dksX13_work_0 8 rfl rfl)
theorem dX13_work_9 : decode cX13_work 9 = .ok (.aload_n 1, 1) := dk_43 (dk_at dksX13_work_0 9 rfl rfl)
theorem dX13_work_10 : decode cX13_work 10 = .ok (.invokevirtual 62, 3) := dk_182 0 62 (dk_at dksX13_work_0 10 rfl rfl)
theorem dX13_work_13 : decode cX13_work 13 = .ok (.iconst 0, 1) := dk_3 (dk_at dksX13_work_0 13 rfl rfl)
theorem dX13_work_14 : decode cX13_work 14 = .ok (.aload_n 0, 1) := dk_42 (dk_at dksX13_work_0 14 rfl rfl)
theorem dX13_work_15 : decode cX13_work 15 = .ok (.getfield 15, 3) := dk_180 0 15 (dk_at dksX13_work_0 15 rfl rfl)
theorem dX13_work_18 : decode cX13_work 18 = .ok (.getfield 19, 3) := dk_180 0 19 (dk_at dksX13_work_0 18 rfl rfl)
theorem dX13_work_21 : decode cX13_work 21 = .ok (.invokevirtual 66, 3) := dk_182 0 66 (dk_at dksX13_work_0 21 rfl rfl)
theorem dX13_work_24 : decode cX13_work 24 = .ok (.ifCond .eq 8, 3) := dk_153 0 8 (dk_at dksX13_work_1 0 rfl rfl)
theorem dX13_work_27 : decode cX13_work 27 = .ok (.bipush 8, 2) := dk_16 8 (dk_at dksX13_work_1 3 rfl rfl)
theorem dX13_work_29 : decode cX13_work 29 = .ok (.goto 13, 3) := dk_167 0 13 (dk_at dksX13_work_1 5 rfl rfl)
theorem dX13_work_32 : decode cX13_work 32 = .ok (.aload_n 0, 1) := dk_42 (dk_at dksX13_work_1 8 rfl rfl)
theorem dX13_work_33 : decode cX13_work 33 = .ok (.getfield 15, 3) := dk_180 0 15 (dk_at dksX13_work_1 9 rfl rfl)
theorem dX13_work_36 : decode cX13_work 36 = .ok (.getfield 19, 3) := dk_180 0 19 (dk_at dksX13_work_1 12 rfl rfl)
theorem dX13_work_39 : decode cX13_work 39 = .ok (.invokevirtual 72, 3) := dk_182 0 72 (dk_at dksX13_work_1 15 rfl rfl)
theorem dX13_work_42 : decode cX13_work 42 = .ok (.aload_n 2, 1) := dk_44 (dk_at dksX13_work_1 18 rfl rfl)
theorem dX13_work_43 : decode cX13_work 43 = .ok (.invokestatic 75, 3) := dk_184 0 75 (dk_at dksX13_work_1 19 rfl rfl)
theorem dX13_work_46 : decode cX13_work 46 = .ok (.aload_n 0, 1) := dk_42 (dk_at dksX13_work_1 22 rfl rfl)
theorem dX13_work_47 : decode cX13_work 47 = .ok (.aload_n 1, 1) := dk_43 (dk_at dksX13_work_1 23 rfl rfl)
theorem dX13_work_48 : decode cX13_work 48 = .ok (.aload_n 2, 1) := dk_44 (dk_at dksX13_work_2 0 rfl rfl)
theorem dX13_work_49 : decode cX13_work 49 = .ok (.invokevirtual 79, 3) := dk_182 0 79 (dk_at dksX13_work_2 1 rfl rfl)
theorem dX13_work_52 : decode cX13_work 52 = .ok (.return_, 1) := dk_177 (dk_at dksX13_work_2 4 rfl rfl)
abbrev cX13_place : ByteArray := prog_21_method_5_code
def yX13_place : MethodName := ⟨RX13, "place", "(LReflectMirror$Frame;)Ljava/lang/Object;"⟩
def dkwX13_place_1 : List UInt8 := [180, 0, 41, 180, 0, 47, 42, 180, 0, 15, 180, 0, 53, 50, 176]
abbrev dktX13_place_1 : List UInt8 := dkwX13_place_1 ++ []
def dkwX13_place_0 : List UInt8 := [42, 180, 0, 15, 7, 182, 0, 33, 153, 0, 13, 42, 180, 0, 15, 180, 0, 37, 167, 0, 18, 43]
abbrev dktX13_place_0 : List UInt8 := dkwX13_place_0 ++ dktX13_place_1
theorem dksX13_place_0 : cX13_place.data.toList.drop 0 = dktX13_place_0 := by decide +kernel
theorem dksX13_place_1 : cX13_place.data.toList.drop 22 = dktX13_place_1 := dk_seg dksX13_place_0 22 rfl rfl
theorem dX13_place_0 : decode cX13_place 0 = .ok (.aload_n 0, 1) := dk_42 (dk_at dksX13_place_0 0 rfl rfl)
theorem dX13_place_1 : decode cX13_place 1 = .ok (.getfield 15, 3) := dk_180 0 15 (dk_at dksX13_place_0 1 rfl rfl)
theorem dX13_place_4 : decode cX13_place 4 = .ok (.iconst 4, 1) := dk_7 (dk_at dksX13_place_0 4 rfl rfl)
theorem dX13_place_5 : decode cX13_place 5 = .ok (.invokevirtual 33, 3) := dk_182 0 33 (dk_at dksX13_place_0 5 rfl rfl)
theorem dX13_place_8 : decode cX13_place 8 = .ok (.ifCond .eq 13, 3) := dk_153 0 13 (dk_at dksX13_place_0 8 rfl rfl)
theorem dX13_place_11 : decode cX13_place 11 = .ok (.aload_n 0, 1) := dk_42 (dk_at dksX13_place_0 11 rfl rfl)
theorem dX13_place_12 : decode cX13_place 12 = .ok (.getfield 15, 3) := dk_180 0 15 (dk_at dksX13_place_0 12 rfl rfl)
theorem dX13_place_15 : decode cX13_place 15 = .ok (.getfield 37, 3) := dk_180 0 37 (dk_at dksX13_place_0 15 rfl rfl)
theorem dX13_place_18 : decode cX13_place 18 = .ok (.goto 18, 3) := dk_167 0 18 (dk_at dksX13_place_0 18 rfl rfl)
theorem dX13_place_21 : decode cX13_place 21 = .ok (.aload_n 1, 1) := dk_43 (dk_at dksX13_place_0 21 rfl rfl)
theorem dX13_place_22 : decode cX13_place 22 = .ok (.getfield 41, 3) := dk_180 0 41 (dk_at dksX13_place_1 0 rfl rfl)
theorem dX13_place_25 : decode cX13_place 25 = .ok (.getfield 47, 3) := dk_180 0 47 (dk_at dksX13_place_1 3 rfl rfl)
theorem dX13_place_28 : decode cX13_place 28 = .ok (.aload_n 0, 1) := dk_42 (dk_at dksX13_place_1 6 rfl rfl)
theorem dX13_place_29 : decode cX13_place 29 = .ok (.getfield 15, 3) := dk_180 0 15 (dk_at dksX13_place_1 7 rfl rfl)
theorem dX13_place_32 : decode cX13_place 32 = .ok (.getfield 53, 3) := dk_180 0 53 (dk_at dksX13_place_1 10 rfl rfl)
theorem dX13_place_35 : decode cX13_place 35 = .ok (.aaload, 1) := dk_50 (dk_at dksX13_place_1 13 rfl rfl)
theorem dX13_place_36 : decode cX13_place 36 = .ok (.areturn, 1) := dk_176 (dk_at dksX13_place_1 14 rfl rfl)
theorem q107 : (Jvm.Cond.initialized "ReflectMirror$Reading") ∈ lw_all := lw_g (lw_at lw_m1 18 rfl) rfl
theorem q654 : (Jvm.Cond.fieldLinkNest "ReflectMirror$Reading" (53 : Nat) "ReflectMirror$Member" "number" "I" "ReflectMirror") ∈ lw_tbl := lw_at lw_m3 85 rfl
theorem q666 : (Jvm.Cond.fieldLink "ReflectMirror$Reading" (25 : Nat) "ReflectMirror$Member" "isField" "Z") ∈ lw_all := lw_g (lw_at lw_m3 97 rfl) rfl
theorem q669 : (Jvm.Cond.fieldLink "ReflectMirror$Reading" (19 : Nat) "ReflectMirror$Member" "of" "LReflectMirror$Type;") ∈ lw_all := lw_g (lw_at lw_m3 100 rfl) rfl
theorem q684 : (Jvm.Cond.fieldLink "ReflectMirror$Reading" (37 : Nat) "ReflectMirror$Member" "row" "Ljava/lang/Object;") ∈ lw_all := lw_g (lw_at lw_m3 115 rfl) rfl
theorem q824 : (Jvm.Cond.instantiable "ReflectMirror$Reading" (4 : Nat)) ∈ lw_all := lw_g (lw_at lw_m4 15 rfl) rfl
theorem q826 : (Jvm.Cond.instanceMethod ({ cls := "ReflectMirror$Reading", name := "<init>", desc := "(LReflectMirror;LReflectMirror$Member;LReflectMirror$Member;)V" } : Jvm.MethodName)) ∈ lw_all := lw_g (lw_at lw_m4 17 rfl) rfl
theorem q827 : (Jvm.Cond.code ({ cls := "ReflectMirror$Reading", name := "<init>", desc := "(LReflectMirror;LReflectMirror$Member;LReflectMirror$Member;)V" } : Jvm.MethodName) prog_21_method_1_code (4 : Nat) (Option.none : Option Jvm.ClassFile.FieldType)) ∈ lw_all := lw_g (lw_at lw_m4 18 rfl) rfl
theorem q828 : (Jvm.Cond.methodLink "ReflectMirror$Reading" (9 : Nat) ({ cls := "ReflectMirror$Body", name := "<init>", desc := "(LReflectMirror;LReflectMirror$Member;)V" } : Jvm.MethodName)) ∈ lw_all := lw_g (lw_at lw_m4 19 rfl) rfl
theorem q829 : (Jvm.Cond.fieldLink "ReflectMirror$Reading" (15 : Nat) "ReflectMirror$Reading" "field" "LReflectMirror$Member;") ∈ lw_all := lw_g (lw_at lw_m4 20 rfl) rfl
theorem q832 : (Jvm.Cond.fieldLink "ReflectMirror$Reading" (3 : Nat) "ReflectMirror$Reading" "this$0" "LReflectMirror;") ∈ lw_all := lw_g (lw_at lw_m4 23 rfl) rfl
theorem q833 : (Jvm.Cond.laysFinal "ReflectMirror$Reading" "ReflectMirror$Reading" "field" "LReflectMirror$Member;") ∈ lw_all := lw_g (lw_at lw_m4 24 rfl) rfl
theorem q834 : (Jvm.Cond.soleField "ReflectMirror$Reading" "field") ∈ lw_all := lw_g (lw_at lw_m4 25 rfl) rfl
theorem q835 : (Jvm.Cond.laysFinal "ReflectMirror$Reading" "ReflectMirror$Reading" "this$0" "LReflectMirror;") ∈ lw_all := lw_g (lw_at lw_m4 26 rfl) rfl
theorem q836 : (Jvm.Cond.soleField "ReflectMirror$Reading" "this$0") ∈ lw_all := lw_g (lw_at lw_m4 27 rfl) rfl
theorem q837 : (Jvm.Cond.laysFinal "ReflectMirror$Reading" "ReflectMirror$Body" "m" "LReflectMirror$Member;") ∈ lw_all := lw_g (lw_at lw_m4 28 rfl) rfl
theorem q838 : (Jvm.Cond.laysFinal "ReflectMirror$Reading" "ReflectMirror$Body" "this$0" "LReflectMirror;") ∈ lw_all := lw_g (lw_at lw_m4 29 rfl) rfl
theorem q839 : (Jvm.Cond.superclass "ReflectMirror$Reading" "ReflectMirror$Body") ∈ lw_all := lw_g (lw_at lw_m4 30 rfl) rfl
theorem q1022 : (Jvm.Cond.selects "ReflectMirror$Reading" ({ cls := "ReflectMirror$Body", name := "isFit", desc := "()Z" } : Jvm.MethodName) ({ cls := "ReflectMirror$Body", name := "isFit", desc := "()Z" } : Jvm.MethodName)) ∈ lw_all := lw_g (lw_at lw_m4 213 rfl) rfl
theorem q1094 : (Jvm.Cond.selects "ReflectMirror$Reading" ({ cls := "ReflectMirror$Body", name := "isWell", desc := "()Z" } : Jvm.MethodName) ({ cls := "ReflectMirror$Reading", name := "isWell", desc := "()Z" } : Jvm.MethodName)) ∈ lw_all := lw_g (lw_at lw_m5 45 rfl) rfl
theorem q1095 : (Jvm.Cond.instanceMethod ({ cls := "ReflectMirror$Reading", name := "isWell", desc := "()Z" } : Jvm.MethodName)) ∈ lw_all := lw_g (lw_at lw_m5 46 rfl) rfl
theorem q1096 : (Jvm.Cond.code ({ cls := "ReflectMirror$Reading", name := "isWell", desc := "()Z" } : Jvm.MethodName) prog_21_method_4_code (1 : Nat) (Option.some Jvm.ClassFile.FieldType.boolean)) ∈ lw_all := lw_g (lw_at lw_m5 47 rfl) rfl
theorem q1097 : (Jvm.Cond.methodLink "ReflectMirror$Reading" (29 : Nat) ({ cls := "ReflectMirror$Reading", name := "isNear", desc := "(LReflectMirror$Member;)Z" } : Jvm.MethodName)) ∈ lw_all := lw_g (lw_at lw_m5 48 rfl) rfl
theorem q1098 : (Jvm.Cond.sameMethod "ReflectMirror$Reading" "ReflectMirror$Body" "isNear" "(LReflectMirror$Member;)Z") ∈ lw_all := lw_g (lw_at lw_m5 49 rfl) rfl
theorem q1099 : (Jvm.Cond.selects "ReflectMirror$Reading" ({ cls := "ReflectMirror$Reading", name := "isNear", desc := "(LReflectMirror$Member;)Z" } : Jvm.MethodName) ({ cls := "ReflectMirror$Body", name := "isNear", desc := "(LReflectMirror$Member;)Z" } : Jvm.MethodName)) ∈ lw_all := lw_g (lw_at lw_m5 50 rfl) rfl
theorem q1132 : (Jvm.Cond.selects "ReflectMirror$Reading" ({ cls := "ReflectMirror$Body", name := "type", desc := "()LReflectMirror$Type;" } : Jvm.MethodName) ({ cls := "ReflectMirror$Reading", name := "type", desc := "()LReflectMirror$Type;" } : Jvm.MethodName)) ∈ lw_all := lw_g (lw_at lw_m5 83 rfl) rfl
theorem q1133 : (Jvm.Cond.instanceMethod ({ cls := "ReflectMirror$Reading", name := "type", desc := "()LReflectMirror$Type;" } : Jvm.MethodName)) ∈ lw_all := lw_g (lw_at lw_m5 84 rfl) rfl
theorem q1134 : (Jvm.Cond.code ({ cls := "ReflectMirror$Reading", name := "type", desc := "()LReflectMirror$Type;" } : Jvm.MethodName) prog_21_method_3_code (1 : Nat) (Option.some (Jvm.ClassFile.FieldType.object "ReflectMirror$Type"))) ∈ lw_all := lw_g (lw_at lw_m5 85 rfl) rfl
theorem q1166 : (Jvm.Cond.selects "ReflectMirror$Reading" ({ cls := "ReflectMirror$Body", name := "kind", desc := "()I" } : Jvm.MethodName) ({ cls := "ReflectMirror$Reading", name := "kind", desc := "()I" } : Jvm.MethodName)) ∈ lw_all := lw_g (lw_at lw_m5 117 rfl) rfl
theorem q1167 : (Jvm.Cond.instanceMethod ({ cls := "ReflectMirror$Reading", name := "kind", desc := "()I" } : Jvm.MethodName)) ∈ lw_all := lw_g (lw_at lw_m5 118 rfl) rfl
theorem q1168 : (Jvm.Cond.code ({ cls := "ReflectMirror$Reading", name := "kind", desc := "()I" } : Jvm.MethodName) prog_21_method_2_code (1 : Nat) (Option.some Jvm.ClassFile.FieldType.int)) ∈ lw_all := lw_g (lw_at lw_m5 119 rfl) rfl
theorem q1269 : (Jvm.Cond.fieldLink "ReflectMirror$Reading" (47 : Nat) "ReflectMirror$One" "values" "[Ljava/lang/Object;") ∈ lw_all := lw_g (lw_at lw_m5 220 rfl) rfl
theorem q1741 : (Jvm.Cond.fieldLink "ReflectMirror$Reading" (41 : Nat) "ReflectMirror$Frame" "self" "LReflectMirror$One;") ∈ lw_all := lw_g (lw_at lw_m7 212 rfl) rfl
theorem q1843 : (Jvm.Cond.selects "ReflectMirror$Reading" ({ cls := "ReflectMirror$Body", name := "work", desc := "(LReflectMirror$Frame;)V" } : Jvm.MethodName) ({ cls := "ReflectMirror$Reading", name := "work", desc := "(LReflectMirror$Frame;)V" } : Jvm.MethodName)) ∈ lw_all := lw_g (lw_at lw_m8 74 rfl) rfl
theorem q1844 : (Jvm.Cond.instanceMethod ({ cls := "ReflectMirror$Reading", name := "work", desc := "(LReflectMirror$Frame;)V" } : Jvm.MethodName)) ∈ lw_all := lw_g (lw_at lw_m8 75 rfl) rfl
theorem q1845 : (Jvm.Cond.code ({ cls := "ReflectMirror$Reading", name := "work", desc := "(LReflectMirror$Frame;)V" } : Jvm.MethodName) prog_21_method_6_code (3 : Nat) (Option.none : Option Jvm.ClassFile.FieldType)) ∈ lw_all := lw_g (lw_at lw_m8 76 rfl) rfl
theorem q1846 : (Jvm.Cond.classLink "ReflectMirror$Reading" (57 : Nat) "ReflectMirror$Cell") ∈ lw_all := lw_g (lw_at lw_m8 77 rfl) rfl
theorem q1847 : (Jvm.Cond.methodLinkNest "ReflectMirror$Reading" (59 : Nat) ({ cls := "ReflectMirror$Cell", name := "<init>", desc := "()V" } : Jvm.MethodName) "ReflectMirror") ∈ lw_tbl := lw_at lw_m8 78 rfl
theorem q1848 : (Jvm.Cond.methodLink "ReflectMirror$Reading" (62 : Nat) ({ cls := "ReflectMirror$Reading", name := "place", desc := "(LReflectMirror$Frame;)Ljava/lang/Object;" } : Jvm.MethodName)) ∈ lw_all := lw_g (lw_at lw_m8 79 rfl) rfl
theorem q1849 : (Jvm.Cond.instanceMethod ({ cls := "ReflectMirror$Reading", name := "place", desc := "(LReflectMirror$Frame;)Ljava/lang/Object;" } : Jvm.MethodName)) ∈ lw_all := lw_g (lw_at lw_m8 80 rfl) rfl
theorem q1850 : (Jvm.Cond.selects "ReflectMirror$Reading" ({ cls := "ReflectMirror$Reading", name := "place", desc := "(LReflectMirror$Frame;)Ljava/lang/Object;" } : Jvm.MethodName) ({ cls := "ReflectMirror$Reading", name := "place", desc := "(LReflectMirror$Frame;)Ljava/lang/Object;" } : Jvm.MethodName)) ∈ lw_all := lw_g (lw_at lw_m8 81 rfl) rfl
theorem q1851 : (Jvm.Cond.sameMethod "ReflectMirror$Reading" "ReflectMirror$Reading" "place" "(LReflectMirror$Frame;)Ljava/lang/Object;") ∈ lw_all := lw_g (lw_at lw_m8 82 rfl) rfl
theorem q1853 : (Jvm.Cond.code ({ cls := "ReflectMirror$Reading", name := "place", desc := "(LReflectMirror$Frame;)Ljava/lang/Object;" } : Jvm.MethodName) prog_21_method_5_code (2 : Nat) (Option.some (Jvm.ClassFile.FieldType.object "java/lang/Object"))) ∈ lw_all := lw_g (lw_at lw_m8 84 rfl) rfl
theorem q1854 : (Jvm.Cond.methodLink "ReflectMirror$Reading" (33 : Nat) ({ cls := "ReflectMirror$Member", name := "has", desc := "(I)Z" } : Jvm.MethodName)) ∈ lw_all := lw_g (lw_at lw_m8 85 rfl) rfl
theorem q1855 : (Jvm.Cond.methodLink "ReflectMirror$Reading" (66 : Nat) ({ cls := "ReflectMirror$Type", name := "isReference", desc := "()Z" } : Jvm.MethodName)) ∈ lw_all := lw_g (lw_at lw_m8 86 rfl) rfl
theorem q1856 : (Jvm.Cond.methodLink "ReflectMirror$Reading" (72 : Nat) ({ cls := "ReflectMirror$Type", name := "number", desc := "()I" } : Jvm.MethodName)) ∈ lw_all := lw_g (lw_at lw_m8 87 rfl) rfl
theorem q1857 : (Jvm.Cond.methodLinkNest "ReflectMirror$Reading" (75 : Nat) ({ cls := "ReflectMirror", name := "load", desc := "(Ljava/lang/Object;IILReflectMirror$Cell;)V" } : Jvm.MethodName) "ReflectMirror") ∈ lw_tbl := lw_at lw_m8 88 rfl
theorem q1858 : (Jvm.Cond.methodLink "ReflectMirror$Reading" (79 : Nat) ({ cls := "ReflectMirror$Reading", name := "gives", desc := "(LReflectMirror$Frame;LReflectMirror$Cell;)V" } : Jvm.MethodName)) ∈ lw_all := lw_g (lw_at lw_m8 89 rfl) rfl
theorem q1859 : (Jvm.Cond.sameMethod "ReflectMirror$Reading" "ReflectMirror$Body" "gives" "(LReflectMirror$Frame;LReflectMirror$Cell;)V") ∈ lw_all := lw_g (lw_at lw_m8 90 rfl) rfl
theorem q1860 : (Jvm.Cond.selects "ReflectMirror$Reading" ({ cls := "ReflectMirror$Reading", name := "gives", desc := "(LReflectMirror$Frame;LReflectMirror$Cell;)V" } : Jvm.MethodName) ({ cls := "ReflectMirror$Body", name := "gives", desc := "(LReflectMirror$Frame;LReflectMirror$Cell;)V" } : Jvm.MethodName)) ∈ lw_all := lw_g (lw_at lw_m8 91 rfl) rfl
theorem q1867 : (Jvm.Cond.declares ({ cls := "ReflectMirror$Reading", name := "place", desc := "(LReflectMirror$Frame;)Ljava/lang/Object;" } : Jvm.MethodName)) ∈ lw_tbl := lw_at lw_m8 98 rfl
theorem q2579 : (Jvm.Cond.sameMethod "ReflectMirror$Reading" "ReflectMirror$Reading" "isWell" "()Z") ∈ lw_all := lw_g (lw_at lw_m11 90 rfl) rfl
theorem q2601 : (Jvm.Cond.castable "ReflectMirror$Reading" "java/lang/Object") ∈ lw_tbl := lw_at lw_m11 112 rfl
theorem in_X13 : ∀ w ∈ wsX130, w ∈ lw_all := lw_in wsX130 [837, 838, 833, 835] (by decide +kernel) (by decide +kernel)

/-! ReflectMirror$Writing -/
set_option maxRecDepth 100000
def RX14 : String := "ReflectMirror$Writing"
def TX14 : u_T := fun k => match k with
  | 0 => ("ReflectMirror$Body", "m", "LReflectMirror$Member;", true)
  | 1 => ("ReflectMirror$Body", "this$0", "LReflectMirror;", true)
  | 2 => ("ReflectMirror$Reading", "field", "LReflectMirror$Member;", true)
  | 3 => ("ReflectMirror$Reading", "this$0", "LReflectMirror;", true)
  | 4 => ("ReflectMirror$Writing", "i", "I", true)
  | _ => ("ReflectMirror$Writing", "this$0", "LReflectMirror;", true)
def tyX14 : Nat → FieldType := fun k => match k with
  | 0 => .object "ReflectMirror$Member"
  | 1 => .object "ReflectMirror"
  | 2 => .object "ReflectMirror$Member"
  | 3 => .object "ReflectMirror"
  | 4 => .int
  | _ => .object "ReflectMirror"
abbrev wsX140 : List Cond := u_ws RX14 TX14 6
-- two fields of one name: no nmX14
theorem tyX14_ok : ∀ k, k < 6 → parseFieldDescriptor (TX14 k).2.2.1 = some (tyX14 k) := by decide +kernel
abbrev cX14_init : ByteArray := prog_28_method_1_code
def yX14_init : MethodName := ⟨RX14, "<init>", "(LReflectMirror;LReflectMirror$Member;LReflectMirror$Member;I)V"⟩
def dkwX14_init_0 : List UInt8 := [42, 43, 181, 0, 1, 42, 43, 44, 45, 183, 0, 7, 42, 21, 4, 181, 0, 13, 177]
abbrev dktX14_init_0 : List UInt8 := dkwX14_init_0 ++ []
theorem dksX14_init_0 : cX14_init.data.toList.drop 0 = dktX14_init_0 := by decide +kernel
theorem dX14_init_0 : decode cX14_init 0 = .ok (.aload_n 0, 1) := dk_42 (dk_at dksX14_init_0 0 rfl rfl)
theorem dX14_init_1 : decode cX14_init 1 = .ok (.aload_n 1, 1) := dk_43 (dk_at dksX14_init_0 1 rfl rfl)
theorem dX14_init_2 : decode cX14_init 2 = .ok (.putfield 1, 3) := dk_181 0 1 (dk_at dksX14_init_0 2 rfl rfl)
theorem dX14_init_5 : decode cX14_init 5 = .ok (.aload_n 0, 1) := dk_42 (dk_at dksX14_init_0 5 rfl rfl)
theorem dX14_init_6 : decode cX14_init 6 = .ok (.aload_n 1, 1) := dk_43 (dk_at dksX14_init_0 6 rfl rfl)
theorem dX14_init_7 : decode cX14_init 7 = .ok (.aload_n 2, 1) := dk_44 (dk_at dksX14_init_0 7 rfl rfl)
theorem dX14_init_8 : decode cX14_init 8 = .ok (.aload_n 3, 1) := dk_45 (dk_at dksX14_init_0 8 rfl rfl)
theorem dX14_init_9 : decode cX14_init 9 = .ok (.invokespecial 7, 3) := dk_183 0 7 (dk_at dksX14_init_0 9 rfl rfl)
theorem dX14_init_12 : decode cX14_init 12 = .ok (.aload_n 0, 1) := dk_42 (dk_at dksX14_init_0 12 rfl rfl)
theorem dX14_init_13 : decode cX14_init 13 = .ok (.iload 4, 2) := dk_21 4 (dk_at dksX14_init_0 13 rfl rfl)
theorem dX14_init_15 : decode cX14_init 15 = .ok (.putfield 13, 3) := dk_181 0 13 (dk_at dksX14_init_0 15 rfl rfl)
theorem dX14_init_18 : decode cX14_init 18 = .ok (.return_, 1) := dk_177 (dk_at dksX14_init_0 18 rfl rfl)
abbrev cX14_isWell : ByteArray := prog_28_method_4_code
def yX14_isWell : MethodName := ⟨RX14, "isWell", "()Z"⟩
def dkwX14_isWell_1 : List UInt8 := [182, 0, 21, 42, 180, 0, 25, 180, 0, 29, 182, 0, 35, 153, 0, 7, 4, 167, 0, 4, 3, 172]
abbrev dktX14_isWell_1 : List UInt8 := dkwX14_isWell_1 ++ []
def dkwX14_isWell_0 : List UInt8 := [42, 183, 0, 17, 153, 0, 39, 42, 42, 180, 0, 13, 182, 0, 21, 198, 0, 28, 42, 42, 180, 0, 13]
abbrev dktX14_isWell_0 : List UInt8 := dkwX14_isWell_0 ++ dktX14_isWell_1
theorem dksX14_isWell_0 : cX14_isWell.data.toList.drop 0 = dktX14_isWell_0 := by decide +kernel
theorem dksX14_isWell_1 : cX14_isWell.data.toList.drop 23 = dktX14_isWell_1 := dk_seg dksX14_isWell_0 23 rfl rfl
theorem dX14_isWell_0 : decode cX14_isWell 0 = .ok (.aload_n 0, 1) := dk_42 (dk_at dksX14_isWell_0 0 rfl rfl)
theorem dX14_isWell_1 : decode cX14_isWell 1 = .ok (.invokespecial 17, 3) := dk_183 0 17 (dk_at dksX14_isWell_0 1 rfl rfl)
theorem dX14_isWell_4 : decode cX14_isWell 4 = .ok (.ifCond .eq 39, 3) := dk_153 0 39 (dk_at dksX14_isWell_0 4 rfl rfl)
theorem dX14_isWell_7 : decode cX14_isWell 7 = .ok (.aload_n 0, 1) := dk_42 (dk_at dksX14_isWell_0 7 rfl rfl)
theorem dX14_isWell_8 : decode cX14_isWell 8 = .ok (.aload_n 0, 1) := dk_42 (dk_at dksX14_isWell_0 8 rfl rfl)
theorem dX14_isWell_9 : decode cX14_isWell 9 = .ok (.getfield 13, 3) := dk_180 0 13 (dk_at dksX14_isWell_0 9 rfl rfl)
theorem dX14_isWell_12 : decode cX14_isWell 12 = .ok (.invokevirtual 21, 3) := dk_182 0 21 (dk_at dksX14_isWell_0 12 rfl rfl)
theorem dX14_isWell_15 : decode cX14_isWell 15 = .ok (.ifnull 28, 3) := dk_198 0 28 (dk_at dksX14_isWell_0 15 rfl rfl)
theorem dX14_isWell_18 : decode cX14_isWell 18 = .ok (.aload_n 0, 1) := dk_42 (dk_at dksX14_isWell_0 18 rfl rfl)
theorem dX14_isWell_19 : decode cX14_isWell 19 = .ok (.aload_n 0, 1) := dk_42 (dk_at dksX14_isWell_0 19 rfl rfl)
theorem dX14_isWell_20 : decode cX14_isWell 20 = .ok (.getfield 13, 3) := dk_180 0 13 (dk_at dksX14_isWell_0 20 rfl rfl)
theorem dX14_isWell_23 : decode cX14_isWell 23 = .ok (.invokevirtual 21, 3) := dk_182 0 21 (dk_at dksX14_isWell_1 0 rfl rfl)
theorem dX14_isWell_26 : decode cX14_isWell 26 = .ok (.aload_n 0, 1) := dk_42 (dk_at dksX14_isWell_1 3 rfl rfl)
theorem dX14_isWell_27 : decode cX14_isWell 27 = .ok (.getfield 25, 3) := dk_180 0 25 (dk_at dksX14_isWell_1 4 rfl rfl)
theorem dX14_isWell_30 : decode cX14_isWell 30 = .ok (.getfield 29, 3) := dk_180 0 29 (dk_at dksX14_isWell_1 7 rfl rfl)
theorem dX14_isWell_33 : decode cX14_isWell 33 = .ok (.invokevirtual 35, 3) := dk_182 0 35 (dk_at dksX14_isWell_1 10 rfl rfl)
theorem dX14_isWell_36 : decode cX14_isWell 36 = .ok (.ifCond .eq 7, 3) := dk_153 0 7 (dk_at dksX14_isWell_1 13 rfl rfl)
theorem dX14_isWell_39 : decode cX14_isWell 39 = .ok (.iconst 1, 1) := dk_4 (dk_at dksX14_isWell_1 16 rfl rfl)
theorem dX14_isWell_40 : decode cX14_isWell 40 = .ok (.goto 4, 3) := dk_167 0 4 (dk_at dksX14_isWell_1 17 rfl rfl)
theorem dX14_isWell_43 : decode cX14_isWell 43 = .ok (.iconst 0, 1) := dk_3 (dk_at dksX14_isWell_1 20 rfl rfl)
theorem dX14_isWell_44 : decode cX14_isWell 44 = .ok (.ireturn, 1) := dk_172 (dk_at dksX14_isWell_1 21 rfl rfl)
abbrev cX14_type : ByteArray := prog_28_method_3_code
def yX14_type : MethodName := ⟨RX14, "type", "()LReflectMirror$Type;"⟩
theorem dX14_type_0 : decode cX14_type 0 = .ok (.aconst_null, 1) := by decide +kernel
theorem dX14_type_1 : decode cX14_type 1 = .ok (.areturn, 1) := by decide +kernel
abbrev cX14_kind : ByteArray := prog_28_method_2_code
def yX14_kind : MethodName := ⟨RX14, "kind", "()I"⟩
theorem dX14_kind_0 : decode cX14_kind 0 = .ok (.iconst 3, 1) := by decide +kernel
theorem dX14_kind_1 : decode cX14_kind 1 = .ok (.ireturn, 1) := by decide +kernel
abbrev cX14_work : ByteArray := prog_28_method_5_code
def yX14_work : MethodName := ⟨RX14, "work", "(LReflectMirror$Frame;)V"⟩
def dkwX14_work_1 : List UInt8 := [180, 0, 61, 180, 0, 29, 182, 0, 64, 177]
abbrev dktX14_work_1 : List UInt8 := dkwX14_work_1 ++ []
def dkwX14_work_0 : List UInt8 := [42, 43, 182, 0, 41, 3, 43, 180, 0, 45, 42, 180, 0, 13, 50, 184, 0, 51, 43, 180, 0, 57, 42]
abbrev dktX14_work_0 : List UInt8 := dkwX14_work_0 ++ dktX14_work_1
theorem dksX14_work_0 : cX14_work.data.toList.drop 0 = dktX14_work_0 := by decide +kernel
theorem dksX14_work_1 : cX14_work.data.toList.drop 23 = dktX14_work_1 := dk_seg dksX14_work_0 23 rfl rfl
theorem dX14_work_0 : decode cX14_work 0 = .ok (.aload_n 0, 1) := dk_42 (dk_at dksX14_work_0 0 rfl rfl)
theorem dX14_work_1 : decode cX14_work 1 = .ok (.aload_n 1, 1) := dk_43 (dk_at dksX14_work_0 1 rfl rfl)
theorem dX14_work_2 : decode cX14_work 2 = .ok (.invokevirtual 41, 3) := dk_182 0 41 (dk_at dksX14_work_0 2 rfl rfl)
theorem dX14_work_5 : decode cX14_work 5 = .ok (.iconst 0, 1) := dk_3 (dk_at dksX14_work_0 5 rfl rfl)
theorem dX14_work_6 : decode cX14_work 6 = .ok (.aload_n 1, 1) := dk_43 (dk_at dksX14_work_0 6 rfl rfl)
theorem dX14_work_7 : decode cX14_work 7 = .ok (.getfield 45, 3) := dk_180 0 45 (dk_at dksX14_work_0 7 rfl rfl)
theorem dX14_work_10 : decode cX14_work 10 = .ok (.aload_n 0, 1) := dk_42 (dk_at dksX14_work_0 10 rfl rfl)
theorem dX14_work_11 : decode cX14_work 11 = .ok (.getfield 13, 3) := dk_180 0 13 (dk_at dksX14_work_0 11 rfl rfl)
theorem dX14_work_14 : decode cX14_work 14 = .ok (.aaload, 1) := dk_50 (dk_at dksX14_work_0 14 rfl rfl)
theorem dX14_work_15 : decode cX14_work 15 = .ok (.invokestatic 51, 3) := dk_184 0 51 (dk_at dksX14_work_0 15 rfl rfl)
theorem dX14_work_18 : decode cX14_work 18 = .ok (.aload_n 1, 1) := dk_43 (dk_at dksX14_work_0 18 rfl rfl)
theorem dX14_work_19 : decode cX14_work 19 = .ok (.getfield 57, 3) := dk_180 0 57 (dk_at dksX14_work_0 19 rfl rfl)
theorem dX14_work_22 : decode cX14_work 22 = .ok (.aload_n 0, 1) := dk_42 (dk_at dksX14_work_0 22 rfl rfl)
theorem dX14_work_23 : decode cX14_work 23 = .ok (.getfield 61, 3) := dk_180 0 61 (dk_at dksX14_work_1 0 rfl rfl)
theorem dX14_work_26 : decode cX14_work 26 = .ok (.getfield 29, 3) := dk_180 0 29 (dk_at dksX14_work_1 3 rfl rfl)
theorem dX14_work_29 : decode cX14_work 29 = .ok (.invokevirtual 64, 3) := dk_182 0 64 (dk_at dksX14_work_1 6 rfl rfl)
theorem dX14_work_32 : decode cX14_work 32 = .ok (.return_, 1) := dk_177 (dk_at dksX14_work_1 9 rfl rfl)
theorem q108 : (Jvm.Cond.initialized "ReflectMirror$Writing") ∈ lw_all := lw_g (lw_at lw_m1 19 rfl) rfl
theorem q670 : (Jvm.Cond.fieldLink "ReflectMirror$Writing" (29 : Nat) "ReflectMirror$Member" "of" "LReflectMirror$Type;") ∈ lw_all := lw_g (lw_at lw_m3 101 rfl) rfl
theorem q777 : (Jvm.Cond.fieldLink "ReflectMirror$Writing" (61 : Nat) "ReflectMirror$Writing" "m" "LReflectMirror$Member;") ∈ lw_all := lw_g (lw_at lw_m3 208 rfl) rfl
theorem q778 : (Jvm.Cond.sameField "ReflectMirror$Writing" "ReflectMirror$Body" "m" "LReflectMirror$Member;") ∈ lw_all := lw_g (lw_at lw_m3 209 rfl) rfl
theorem q830 : (Jvm.Cond.fieldLink "ReflectMirror$Writing" (25 : Nat) "ReflectMirror$Writing" "field" "LReflectMirror$Member;") ∈ lw_all := lw_g (lw_at lw_m4 21 rfl) rfl
theorem q831 : (Jvm.Cond.sameField "ReflectMirror$Writing" "ReflectMirror$Reading" "field" "LReflectMirror$Member;") ∈ lw_all := lw_g (lw_at lw_m4 22 rfl) rfl
theorem q841 : (Jvm.Cond.instantiable "ReflectMirror$Writing" (6 : Nat)) ∈ lw_all := lw_g (lw_at lw_m4 32 rfl) rfl
theorem q843 : (Jvm.Cond.instanceMethod ({ cls := "ReflectMirror$Writing", name := "<init>", desc := "(LReflectMirror;LReflectMirror$Member;LReflectMirror$Member;I)V" } : Jvm.MethodName)) ∈ lw_all := lw_g (lw_at lw_m4 34 rfl) rfl
theorem q844 : (Jvm.Cond.code ({ cls := "ReflectMirror$Writing", name := "<init>", desc := "(LReflectMirror;LReflectMirror$Member;LReflectMirror$Member;I)V" } : Jvm.MethodName) prog_28_method_1_code (5 : Nat) (Option.none : Option Jvm.ClassFile.FieldType)) ∈ lw_all := lw_g (lw_at lw_m4 35 rfl) rfl
theorem q845 : (Jvm.Cond.methodLink "ReflectMirror$Writing" (7 : Nat) ({ cls := "ReflectMirror$Reading", name := "<init>", desc := "(LReflectMirror;LReflectMirror$Member;LReflectMirror$Member;)V" } : Jvm.MethodName)) ∈ lw_all := lw_g (lw_at lw_m4 36 rfl) rfl
theorem q846 : (Jvm.Cond.fieldLink "ReflectMirror$Writing" (13 : Nat) "ReflectMirror$Writing" "i" "I") ∈ lw_all := lw_g (lw_at lw_m4 37 rfl) rfl
theorem q847 : (Jvm.Cond.fieldLink "ReflectMirror$Writing" (1 : Nat) "ReflectMirror$Writing" "this$0" "LReflectMirror;") ∈ lw_all := lw_g (lw_at lw_m4 38 rfl) rfl
theorem q848 : (Jvm.Cond.laysFinal "ReflectMirror$Writing" "ReflectMirror$Writing" "i" "I") ∈ lw_all := lw_g (lw_at lw_m4 39 rfl) rfl
theorem q849 : (Jvm.Cond.soleField "ReflectMirror$Writing" "i") ∈ lw_all := lw_g (lw_at lw_m4 40 rfl) rfl
theorem q850 : (Jvm.Cond.laysFinal "ReflectMirror$Writing" "ReflectMirror$Writing" "this$0" "LReflectMirror;") ∈ lw_all := lw_g (lw_at lw_m4 41 rfl) rfl
theorem q851 : (Jvm.Cond.soleField "ReflectMirror$Writing" "this$0") ∈ lw_all := lw_g (lw_at lw_m4 42 rfl) rfl
theorem q852 : (Jvm.Cond.laysFinal "ReflectMirror$Writing" "ReflectMirror$Reading" "field" "LReflectMirror$Member;") ∈ lw_all := lw_g (lw_at lw_m4 43 rfl) rfl
theorem q853 : (Jvm.Cond.laysFinal "ReflectMirror$Writing" "ReflectMirror$Reading" "this$0" "LReflectMirror;") ∈ lw_all := lw_g (lw_at lw_m4 44 rfl) rfl
theorem q854 : (Jvm.Cond.laysFinal "ReflectMirror$Writing" "ReflectMirror$Body" "m" "LReflectMirror$Member;") ∈ lw_all := lw_g (lw_at lw_m4 45 rfl) rfl
theorem q855 : (Jvm.Cond.laysFinal "ReflectMirror$Writing" "ReflectMirror$Body" "this$0" "LReflectMirror;") ∈ lw_all := lw_g (lw_at lw_m4 46 rfl) rfl
theorem q856 : (Jvm.Cond.superclass "ReflectMirror$Writing" "ReflectMirror$Reading") ∈ lw_all := lw_g (lw_at lw_m4 47 rfl) rfl
theorem q1023 : (Jvm.Cond.selects "ReflectMirror$Writing" ({ cls := "ReflectMirror$Body", name := "isFit", desc := "()Z" } : Jvm.MethodName) ({ cls := "ReflectMirror$Body", name := "isFit", desc := "()Z" } : Jvm.MethodName)) ∈ lw_all := lw_g (lw_at lw_m4 214 rfl) rfl
theorem q1100 : (Jvm.Cond.selects "ReflectMirror$Writing" ({ cls := "ReflectMirror$Reading", name := "isNear", desc := "(LReflectMirror$Member;)Z" } : Jvm.MethodName) ({ cls := "ReflectMirror$Body", name := "isNear", desc := "(LReflectMirror$Member;)Z" } : Jvm.MethodName)) ∈ lw_all := lw_g (lw_at lw_m5 51 rfl) rfl
theorem q1101 : (Jvm.Cond.selects "ReflectMirror$Writing" ({ cls := "ReflectMirror$Body", name := "isWell", desc := "()Z" } : Jvm.MethodName) ({ cls := "ReflectMirror$Writing", name := "isWell", desc := "()Z" } : Jvm.MethodName)) ∈ lw_all := lw_g (lw_at lw_m5 52 rfl) rfl
theorem q1102 : (Jvm.Cond.instanceMethod ({ cls := "ReflectMirror$Writing", name := "isWell", desc := "()Z" } : Jvm.MethodName)) ∈ lw_all := lw_g (lw_at lw_m5 53 rfl) rfl
theorem q1103 : (Jvm.Cond.code ({ cls := "ReflectMirror$Writing", name := "isWell", desc := "()Z" } : Jvm.MethodName) prog_28_method_4_code (1 : Nat) (Option.some Jvm.ClassFile.FieldType.boolean)) ∈ lw_all := lw_g (lw_at lw_m5 54 rfl) rfl
theorem q1104 : (Jvm.Cond.methodLink "ReflectMirror$Writing" (17 : Nat) ({ cls := "ReflectMirror$Reading", name := "isWell", desc := "()Z" } : Jvm.MethodName)) ∈ lw_all := lw_g (lw_at lw_m5 55 rfl) rfl
theorem q1105 : (Jvm.Cond.methodLink "ReflectMirror$Writing" (21 : Nat) ({ cls := "ReflectMirror$Writing", name := "param", desc := "(I)LReflectMirror$Type;" } : Jvm.MethodName)) ∈ lw_all := lw_g (lw_at lw_m5 56 rfl) rfl
theorem q1106 : (Jvm.Cond.sameMethod "ReflectMirror$Writing" "ReflectMirror$Body" "param" "(I)LReflectMirror$Type;") ∈ lw_all := lw_g (lw_at lw_m5 57 rfl) rfl
theorem q1107 : (Jvm.Cond.selects "ReflectMirror$Writing" ({ cls := "ReflectMirror$Writing", name := "param", desc := "(I)LReflectMirror$Type;" } : Jvm.MethodName) ({ cls := "ReflectMirror$Body", name := "param", desc := "(I)LReflectMirror$Type;" } : Jvm.MethodName)) ∈ lw_all := lw_g (lw_at lw_m5 58 rfl) rfl
theorem q1108 : (Jvm.Cond.methodLink "ReflectMirror$Writing" (35 : Nat) ({ cls := "ReflectMirror$Type", name := "is", desc := "(LReflectMirror$Type;)Z" } : Jvm.MethodName)) ∈ lw_all := lw_g (lw_at lw_m5 59 rfl) rfl
theorem q1135 : (Jvm.Cond.selects "ReflectMirror$Writing" ({ cls := "ReflectMirror$Body", name := "type", desc := "()LReflectMirror$Type;" } : Jvm.MethodName) ({ cls := "ReflectMirror$Writing", name := "type", desc := "()LReflectMirror$Type;" } : Jvm.MethodName)) ∈ lw_all := lw_g (lw_at lw_m5 86 rfl) rfl
theorem q1136 : (Jvm.Cond.instanceMethod ({ cls := "ReflectMirror$Writing", name := "type", desc := "()LReflectMirror$Type;" } : Jvm.MethodName)) ∈ lw_all := lw_g (lw_at lw_m5 87 rfl) rfl
theorem q1137 : (Jvm.Cond.code ({ cls := "ReflectMirror$Writing", name := "type", desc := "()LReflectMirror$Type;" } : Jvm.MethodName) prog_28_method_3_code (1 : Nat) (Option.some (Jvm.ClassFile.FieldType.object "ReflectMirror$Type"))) ∈ lw_all := lw_g (lw_at lw_m5 88 rfl) rfl
theorem q1169 : (Jvm.Cond.selects "ReflectMirror$Writing" ({ cls := "ReflectMirror$Body", name := "kind", desc := "()I" } : Jvm.MethodName) ({ cls := "ReflectMirror$Writing", name := "kind", desc := "()I" } : Jvm.MethodName)) ∈ lw_all := lw_g (lw_at lw_m5 120 rfl) rfl
theorem q1170 : (Jvm.Cond.instanceMethod ({ cls := "ReflectMirror$Writing", name := "kind", desc := "()I" } : Jvm.MethodName)) ∈ lw_all := lw_g (lw_at lw_m5 121 rfl) rfl
theorem q1171 : (Jvm.Cond.code ({ cls := "ReflectMirror$Writing", name := "kind", desc := "()I" } : Jvm.MethodName) prog_28_method_2_code (1 : Nat) (Option.some Jvm.ClassFile.FieldType.int)) ∈ lw_all := lw_g (lw_at lw_m5 122 rfl) rfl
theorem q1746 : (Jvm.Cond.fieldLink "ReflectMirror$Writing" (45 : Nat) "ReflectMirror$Frame" "args" "[LReflectMirror$Cell;") ∈ lw_all := lw_g (lw_at lw_m7 217 rfl) rfl
theorem q1751 : (Jvm.Cond.fieldLink "ReflectMirror$Writing" (57 : Nat) "ReflectMirror$Frame" "out" "LReflectMirror$Cell;") ∈ lw_all := lw_g (lw_at lw_m7 222 rfl) rfl
theorem q1852 : (Jvm.Cond.selects "ReflectMirror$Writing" ({ cls := "ReflectMirror$Reading", name := "place", desc := "(LReflectMirror$Frame;)Ljava/lang/Object;" } : Jvm.MethodName) ({ cls := "ReflectMirror$Reading", name := "place", desc := "(LReflectMirror$Frame;)Ljava/lang/Object;" } : Jvm.MethodName)) ∈ lw_all := lw_g (lw_at lw_m8 83 rfl) rfl
theorem q1861 : (Jvm.Cond.selects "ReflectMirror$Writing" ({ cls := "ReflectMirror$Reading", name := "gives", desc := "(LReflectMirror$Frame;LReflectMirror$Cell;)V" } : Jvm.MethodName) ({ cls := "ReflectMirror$Body", name := "gives", desc := "(LReflectMirror$Frame;LReflectMirror$Cell;)V" } : Jvm.MethodName)) ∈ lw_all := lw_g (lw_at lw_m8 92 rfl) rfl
theorem q1862 : (Jvm.Cond.selects "ReflectMirror$Writing" ({ cls := "ReflectMirror$Body", name := "work", desc := "(LReflectMirror$Frame;)V" } : Jvm.MethodName) ({ cls := "ReflectMirror$Writing", name := "work", desc := "(LReflectMirror$Frame;)V" } : Jvm.MethodName)) ∈ lw_all := lw_g (lw_at lw_m8 93 rfl) rfl
theorem q1863 : (Jvm.Cond.instanceMethod ({ cls := "ReflectMirror$Writing", name := "work", desc := "(LReflectMirror$Frame;)V" } : Jvm.MethodName)) ∈ lw_all := lw_g (lw_at lw_m8 94 rfl) rfl
theorem q1864 : (Jvm.Cond.code ({ cls := "ReflectMirror$Writing", name := "work", desc := "(LReflectMirror$Frame;)V" } : Jvm.MethodName) prog_28_method_5_code (2 : Nat) (Option.none : Option Jvm.ClassFile.FieldType)) ∈ lw_all := lw_g (lw_at lw_m8 95 rfl) rfl
theorem q1865 : (Jvm.Cond.methodLink "ReflectMirror$Writing" (41 : Nat) ({ cls := "ReflectMirror$Writing", name := "place", desc := "(LReflectMirror$Frame;)Ljava/lang/Object;" } : Jvm.MethodName)) ∈ lw_all := lw_g (lw_at lw_m8 96 rfl) rfl
theorem q1866 : (Jvm.Cond.sameMethod "ReflectMirror$Writing" "ReflectMirror$Reading" "place" "(LReflectMirror$Frame;)Ljava/lang/Object;") ∈ lw_all := lw_g (lw_at lw_m8 97 rfl) rfl
theorem q1868 : (Jvm.Cond.selects "ReflectMirror$Writing" ({ cls := "ReflectMirror$Writing", name := "place", desc := "(LReflectMirror$Frame;)Ljava/lang/Object;" } : Jvm.MethodName) ({ cls := "ReflectMirror$Reading", name := "place", desc := "(LReflectMirror$Frame;)Ljava/lang/Object;" } : Jvm.MethodName)) ∈ lw_all := lw_g (lw_at lw_m8 99 rfl) rfl
theorem q1869 : (Jvm.Cond.methodLinkNest "ReflectMirror$Writing" (51 : Nat) ({ cls := "ReflectMirror", name := "save", desc := "(Ljava/lang/Object;ILReflectMirror$Cell;)V" } : Jvm.MethodName) "ReflectMirror") ∈ lw_tbl := lw_at lw_m8 100 rfl
theorem q1870 : (Jvm.Cond.methodLink "ReflectMirror$Writing" (64 : Nat) ({ cls := "ReflectMirror$Cell", name := "clear", desc := "(LReflectMirror$Type;)V" } : Jvm.MethodName)) ∈ lw_all := lw_g (lw_at lw_m8 101 rfl) rfl
theorem q2602 : (Jvm.Cond.castable "ReflectMirror$Writing" "java/lang/Object") ∈ lw_tbl := lw_at lw_m11 113 rfl
theorem in_X14 : ∀ w ∈ wsX140, w ∈ lw_all := lw_in wsX140 [854, 855, 852, 853, 848, 850] (by decide +kernel) (by decide +kernel)

/-! ReflectMirror$Failing -/
set_option maxRecDepth 100000
def RX15 : String := "ReflectMirror$Failing"
def TX15 : u_T := fun k => match k with
  | 0 => ("ReflectMirror$Body", "m", "LReflectMirror$Member;", true)
  | 1 => ("ReflectMirror$Body", "this$0", "LReflectMirror;", true)
  | 2 => ("ReflectMirror$Failing", "how", "I", true)
  | _ => ("ReflectMirror$Failing", "this$0", "LReflectMirror;", true)
def tyX15 : Nat → FieldType := fun k => match k with
  | 0 => .object "ReflectMirror$Member"
  | 1 => .object "ReflectMirror"
  | 2 => .int
  | _ => .object "ReflectMirror"
abbrev wsX150 : List Cond := u_ws RX15 TX15 4
-- two fields of one name: no nmX15
theorem tyX15_ok : ∀ k, k < 4 → parseFieldDescriptor (TX15 k).2.2.1 = some (tyX15 k) := by decide +kernel
abbrev cX15_init : ByteArray := prog_8_method_1_code
def yX15_init : MethodName := ⟨RX15, "<init>", "(LReflectMirror;LReflectMirror$Member;I)V"⟩
def dkwX15_init_0 : List UInt8 := [42, 43, 181, 0, 3, 42, 43, 44, 183, 0, 9, 42, 29, 181, 0, 15, 177]
abbrev dktX15_init_0 : List UInt8 := dkwX15_init_0 ++ []
theorem dksX15_init_0 : cX15_init.data.toList.drop 0 = dktX15_init_0 := by decide +kernel
theorem dX15_init_0 : decode cX15_init 0 = .ok (.aload_n 0, 1) := dk_42 (dk_at dksX15_init_0 0 rfl rfl)
theorem dX15_init_1 : decode cX15_init 1 = .ok (.aload_n 1, 1) := dk_43 (dk_at dksX15_init_0 1 rfl rfl)
theorem dX15_init_2 : decode cX15_init 2 = .ok (.putfield 3, 3) := dk_181 0 3 (dk_at dksX15_init_0 2 rfl rfl)
theorem dX15_init_5 : decode cX15_init 5 = .ok (.aload_n 0, 1) := dk_42 (dk_at dksX15_init_0 5 rfl rfl)
theorem dX15_init_6 : decode cX15_init 6 = .ok (.aload_n 1, 1) := dk_43 (dk_at dksX15_init_0 6 rfl rfl)
theorem dX15_init_7 : decode cX15_init 7 = .ok (.aload_n 2, 1) := dk_44 (dk_at dksX15_init_0 7 rfl rfl)
theorem dX15_init_8 : decode cX15_init 8 = .ok (.invokespecial 9, 3) := dk_183 0 9 (dk_at dksX15_init_0 8 rfl rfl)
theorem dX15_init_11 : decode cX15_init 11 = .ok (.aload_n 0, 1) := dk_42 (dk_at dksX15_init_0 11 rfl rfl)
theorem dX15_init_12 : decode cX15_init 12 = .ok (.iload_n 3, 1) := dk_29 (dk_at dksX15_init_0 12 rfl rfl)
theorem dX15_init_13 : decode cX15_init 13 = .ok (.putfield 15, 3) := dk_181 0 15 (dk_at dksX15_init_0 13 rfl rfl)
theorem dX15_init_16 : decode cX15_init 16 = .ok (.return_, 1) := dk_177 (dk_at dksX15_init_0 16 rfl rfl)
abbrev cX15_isWell : ByteArray := prog_8_method_3_code
def yX15_isWell : MethodName := ⟨RX15, "isWell", "()Z"⟩
def dkwX15_isWell_0 : List UInt8 := [42, 180, 0, 15, 133, 10, 20, 0, 19, 184, 0, 21, 172]
abbrev dktX15_isWell_0 : List UInt8 := dkwX15_isWell_0 ++ []
theorem dksX15_isWell_0 : cX15_isWell.data.toList.drop 0 = dktX15_isWell_0 := by decide +kernel
theorem dX15_isWell_0 : decode cX15_isWell 0 = .ok (.aload_n 0, 1) := dk_42 (dk_at dksX15_isWell_0 0 rfl rfl)
theorem dX15_isWell_1 : decode cX15_isWell 1 = .ok (.getfield 15, 3) := dk_180 0 15 (dk_at dksX15_isWell_0 1 rfl rfl)
theorem dX15_isWell_4 : decode cX15_isWell 4 = .ok (.i2l, 1) := dk_133 (dk_at dksX15_isWell_0 4 rfl rfl)
theorem dX15_isWell_5 : decode cX15_isWell 5 = .ok (.lconst 1, 1) := dk_10 (dk_at dksX15_isWell_0 5 rfl rfl)
theorem dX15_isWell_6 : decode cX15_isWell 6 = .ok (.ldc2_w 19, 3) := dk_20 0 19 (dk_at dksX15_isWell_0 6 rfl rfl)
theorem dX15_isWell_9 : decode cX15_isWell 9 = .ok (.invokestatic 21, 3) := dk_184 0 21 (dk_at dksX15_isWell_0 9 rfl rfl)
theorem dX15_isWell_12 : decode cX15_isWell 12 = .ok (.ireturn, 1) := dk_172 (dk_at dksX15_isWell_0 12 rfl rfl)
abbrev cX15_kind : ByteArray := prog_8_method_2_code
def yX15_kind : MethodName := ⟨RX15, "kind", "()I"⟩
theorem dX15_kind_0 : decode cX15_kind 0 = .ok (.iconst 4, 1) := by decide +kernel
theorem dX15_kind_1 : decode cX15_kind 1 = .ok (.ireturn, 1) := by decide +kernel
abbrev cX15_work : ByteArray := prog_8_method_4_code
def yX15_work : MethodName := ⟨RX15, "work", "(LReflectMirror$Frame;)V"⟩
def dkwX15_work_0 : List UInt8 := [187, 0, 25, 89, 42, 180, 0, 15, 183, 0, 27, 191]
abbrev dktX15_work_0 : List UInt8 := dkwX15_work_0 ++ []
theorem dksX15_work_0 : cX15_work.data.toList.drop 0 = dktX15_work_0 := by decide +kernel
theorem dX15_work_0 : decode cX15_work 0 = .ok (.new 25, 3) := dk_187 0 25 (dk_at dksX15_work_0 0 rfl rfl)
theorem dX15_work_3 : decode cX15_work 3 = .ok (.dup, 1) := dk_89 (dk_at dksX15_work_0 3 rfl rfl)
theorem dX15_work_4 : decode cX15_work 4 = .ok (.aload_n 0, 1) := dk_42 (dk_at dksX15_work_0 4 rfl rfl)
theorem dX15_work_5 : decode cX15_work 5 = .ok (.getfield 15, 3) := dk_180 0 15 (dk_at dksX15_work_0 5 rfl rfl)
theorem dX15_work_8 : decode cX15_work 8 = .ok (.invokespecial 27, 3) := dk_183 0 27 (dk_at dksX15_work_0 8 rfl rfl)
theorem dX15_work_11 : decode cX15_work 11 = .ok (.athrow, 1) := dk_191 (dk_at dksX15_work_0 11 rfl rfl)
theorem q109 : (Jvm.Cond.initialized "ReflectMirror$Failing") ∈ lw_all := lw_g (lw_at lw_m1 20 rfl) rfl
theorem q858 : (Jvm.Cond.instantiable "ReflectMirror$Failing" (4 : Nat)) ∈ lw_all := lw_g (lw_at lw_m4 49 rfl) rfl
theorem q860 : (Jvm.Cond.instanceMethod ({ cls := "ReflectMirror$Failing", name := "<init>", desc := "(LReflectMirror;LReflectMirror$Member;I)V" } : Jvm.MethodName)) ∈ lw_all := lw_g (lw_at lw_m4 51 rfl) rfl
theorem q861 : (Jvm.Cond.code ({ cls := "ReflectMirror$Failing", name := "<init>", desc := "(LReflectMirror;LReflectMirror$Member;I)V" } : Jvm.MethodName) prog_8_method_1_code (4 : Nat) (Option.none : Option Jvm.ClassFile.FieldType)) ∈ lw_all := lw_g (lw_at lw_m4 52 rfl) rfl
theorem q862 : (Jvm.Cond.methodLink "ReflectMirror$Failing" (9 : Nat) ({ cls := "ReflectMirror$Body", name := "<init>", desc := "(LReflectMirror;LReflectMirror$Member;)V" } : Jvm.MethodName)) ∈ lw_all := lw_g (lw_at lw_m4 53 rfl) rfl
theorem q863 : (Jvm.Cond.fieldLink "ReflectMirror$Failing" (15 : Nat) "ReflectMirror$Failing" "how" "I") ∈ lw_all := lw_g (lw_at lw_m4 54 rfl) rfl
theorem q864 : (Jvm.Cond.fieldLink "ReflectMirror$Failing" (3 : Nat) "ReflectMirror$Failing" "this$0" "LReflectMirror;") ∈ lw_all := lw_g (lw_at lw_m4 55 rfl) rfl
theorem q865 : (Jvm.Cond.laysFinal "ReflectMirror$Failing" "ReflectMirror$Failing" "how" "I") ∈ lw_all := lw_g (lw_at lw_m4 56 rfl) rfl
theorem q866 : (Jvm.Cond.soleField "ReflectMirror$Failing" "how") ∈ lw_all := lw_g (lw_at lw_m4 57 rfl) rfl
theorem q867 : (Jvm.Cond.laysFinal "ReflectMirror$Failing" "ReflectMirror$Failing" "this$0" "LReflectMirror;") ∈ lw_all := lw_g (lw_at lw_m4 58 rfl) rfl
theorem q868 : (Jvm.Cond.soleField "ReflectMirror$Failing" "this$0") ∈ lw_all := lw_g (lw_at lw_m4 59 rfl) rfl
theorem q869 : (Jvm.Cond.laysFinal "ReflectMirror$Failing" "ReflectMirror$Body" "m" "LReflectMirror$Member;") ∈ lw_all := lw_g (lw_at lw_m4 60 rfl) rfl
theorem q870 : (Jvm.Cond.laysFinal "ReflectMirror$Failing" "ReflectMirror$Body" "this$0" "LReflectMirror;") ∈ lw_all := lw_g (lw_at lw_m4 61 rfl) rfl
theorem q871 : (Jvm.Cond.superclass "ReflectMirror$Failing" "ReflectMirror$Body") ∈ lw_all := lw_g (lw_at lw_m4 62 rfl) rfl
theorem q1018 : (Jvm.Cond.selects "ReflectMirror$Failing" ({ cls := "ReflectMirror$Body", name := "isFit", desc := "()Z" } : Jvm.MethodName) ({ cls := "ReflectMirror$Body", name := "isFit", desc := "()Z" } : Jvm.MethodName)) ∈ lw_all := lw_g (lw_at lw_m4 209 rfl) rfl
theorem q1071 : (Jvm.Cond.selects "ReflectMirror$Failing" ({ cls := "ReflectMirror$Body", name := "isWell", desc := "()Z" } : Jvm.MethodName) ({ cls := "ReflectMirror$Failing", name := "isWell", desc := "()Z" } : Jvm.MethodName)) ∈ lw_all := lw_g (lw_at lw_m5 22 rfl) rfl
theorem q1072 : (Jvm.Cond.instanceMethod ({ cls := "ReflectMirror$Failing", name := "isWell", desc := "()Z" } : Jvm.MethodName)) ∈ lw_all := lw_g (lw_at lw_m5 23 rfl) rfl
theorem q1073 : (Jvm.Cond.code ({ cls := "ReflectMirror$Failing", name := "isWell", desc := "()Z" } : Jvm.MethodName) prog_8_method_3_code (1 : Nat) (Option.some Jvm.ClassFile.FieldType.boolean)) ∈ lw_all := lw_g (lw_at lw_m5 24 rfl) rfl
theorem q1074 : (Jvm.Cond.constantLong "ReflectMirror$Failing" (19 : Nat) (8 : Int64)) ∈ lw_all := lw_g (lw_at lw_m5 25 rfl) rfl
theorem q1075 : (Jvm.Cond.methodLinkNest "ReflectMirror$Failing" (21 : Nat) ({ cls := "ReflectMirror", name := "isIn", desc := "(JJJ)Z" } : Jvm.MethodName) "ReflectMirror") ∈ lw_tbl := lw_at lw_m5 26 rfl
theorem q1123 : (Jvm.Cond.selects "ReflectMirror$Failing" ({ cls := "ReflectMirror$Body", name := "type", desc := "()LReflectMirror$Type;" } : Jvm.MethodName) ({ cls := "ReflectMirror$Body", name := "type", desc := "()LReflectMirror$Type;" } : Jvm.MethodName)) ∈ lw_all := lw_g (lw_at lw_m5 74 rfl) rfl
theorem q1156 : (Jvm.Cond.selects "ReflectMirror$Failing" ({ cls := "ReflectMirror$Body", name := "kind", desc := "()I" } : Jvm.MethodName) ({ cls := "ReflectMirror$Failing", name := "kind", desc := "()I" } : Jvm.MethodName)) ∈ lw_all := lw_g (lw_at lw_m5 107 rfl) rfl
theorem q1157 : (Jvm.Cond.instanceMethod ({ cls := "ReflectMirror$Failing", name := "kind", desc := "()I" } : Jvm.MethodName)) ∈ lw_all := lw_g (lw_at lw_m5 108 rfl) rfl
theorem q1158 : (Jvm.Cond.code ({ cls := "ReflectMirror$Failing", name := "kind", desc := "()I" } : Jvm.MethodName) prog_8_method_2_code (1 : Nat) (Option.some Jvm.ClassFile.FieldType.int)) ∈ lw_all := lw_g (lw_at lw_m5 109 rfl) rfl
theorem q1817 : (Jvm.Cond.selects "ReflectMirror$Failing" ({ cls := "ReflectMirror$Body", name := "work", desc := "(LReflectMirror$Frame;)V" } : Jvm.MethodName) ({ cls := "ReflectMirror$Failing", name := "work", desc := "(LReflectMirror$Frame;)V" } : Jvm.MethodName)) ∈ lw_all := lw_g (lw_at lw_m8 48 rfl) rfl
theorem q1818 : (Jvm.Cond.instanceMethod ({ cls := "ReflectMirror$Failing", name := "work", desc := "(LReflectMirror$Frame;)V" } : Jvm.MethodName)) ∈ lw_all := lw_g (lw_at lw_m8 49 rfl) rfl
theorem q1819 : (Jvm.Cond.code ({ cls := "ReflectMirror$Failing", name := "work", desc := "(LReflectMirror$Frame;)V" } : Jvm.MethodName) prog_8_method_4_code (2 : Nat) (Option.none : Option Jvm.ClassFile.FieldType)) ∈ lw_all := lw_g (lw_at lw_m8 50 rfl) rfl
theorem q1820 : (Jvm.Cond.classLink "ReflectMirror$Failing" (25 : Nat) "ReflectMirror$Refusal") ∈ lw_all := lw_g (lw_at lw_m8 51 rfl) rfl
theorem q1821 : (Jvm.Cond.methodLink "ReflectMirror$Failing" (27 : Nat) ({ cls := "ReflectMirror$Refusal", name := "<init>", desc := "(I)V" } : Jvm.MethodName)) ∈ lw_all := lw_g (lw_at lw_m8 52 rfl) rfl
theorem q2603 : (Jvm.Cond.castable "ReflectMirror$Failing" "java/lang/Object") ∈ lw_tbl := lw_at lw_m11 114 rfl
theorem in_X15 : ∀ w ∈ wsX150, w ∈ lw_all := lw_in wsX150 [869, 870, 865, 867] (by decide +kernel) (by decide +kernel)

/-! ReflectMirror$Calling -/
set_option maxRecDepth 100000
def RX16 : String := "ReflectMirror$Calling"
def TX16 : u_T := fun k => match k with
  | 0 => ("ReflectMirror$Body", "m", "LReflectMirror$Member;", true)
  | 1 => ("ReflectMirror$Body", "this$0", "LReflectMirror;", true)
  | 2 => ("ReflectMirror$Calling", "called", "LReflectMirror$Member;", true)
  | _ => ("ReflectMirror$Calling", "this$0", "LReflectMirror;", true)
def tyX16 : Nat → FieldType := fun k => match k with
  | 0 => .object "ReflectMirror$Member"
  | 1 => .object "ReflectMirror"
  | 2 => .object "ReflectMirror$Member"
  | _ => .object "ReflectMirror"
abbrev wsX160 : List Cond := u_ws RX16 TX16 4
-- two fields of one name: no nmX16
theorem tyX16_ok : ∀ k, k < 4 → parseFieldDescriptor (TX16 k).2.2.1 = some (tyX16 k) := by decide +kernel
abbrev cX16_init : ByteArray := prog_5_method_1_code
def yX16_init : MethodName := ⟨RX16, "<init>", "(LReflectMirror;LReflectMirror$Member;LReflectMirror$Member;)V"⟩
def dkwX16_init_0 : List UInt8 := [42, 43, 181, 0, 1, 42, 43, 44, 183, 0, 7, 42, 45, 181, 0, 13, 177]
abbrev dktX16_init_0 : List UInt8 := dkwX16_init_0 ++ []
theorem dksX16_init_0 : cX16_init.data.toList.drop 0 = dktX16_init_0 := by decide +kernel
theorem dX16_init_0 : decode cX16_init 0 = .ok (.aload_n 0, 1) := dk_42 (dk_at dksX16_init_0 0 rfl rfl)
theorem dX16_init_1 : decode cX16_init 1 = .ok (.aload_n 1, 1) := dk_43 (dk_at dksX16_init_0 1 rfl rfl)
theorem dX16_init_2 : decode cX16_init 2 = .ok (.putfield 1, 3) := dk_181 0 1 (dk_at dksX16_init_0 2 rfl rfl)
theorem dX16_init_5 : decode cX16_init 5 = .ok (.aload_n 0, 1) := dk_42 (dk_at dksX16_init_0 5 rfl rfl)
theorem dX16_init_6 : decode cX16_init 6 = .ok (.aload_n 1, 1) := dk_43 (dk_at dksX16_init_0 6 rfl rfl)
theorem dX16_init_7 : decode cX16_init 7 = .ok (.aload_n 2, 1) := dk_44 (dk_at dksX16_init_0 7 rfl rfl)
theorem dX16_init_8 : decode cX16_init 8 = .ok (.invokespecial 7, 3) := dk_183 0 7 (dk_at dksX16_init_0 8 rfl rfl)
theorem dX16_init_11 : decode cX16_init 11 = .ok (.aload_n 0, 1) := dk_42 (dk_at dksX16_init_0 11 rfl rfl)
theorem dX16_init_12 : decode cX16_init 12 = .ok (.aload_n 3, 1) := dk_45 (dk_at dksX16_init_0 12 rfl rfl)
theorem dX16_init_13 : decode cX16_init 13 = .ok (.putfield 13, 3) := dk_181 0 13 (dk_at dksX16_init_0 13 rfl rfl)
theorem dX16_init_16 : decode cX16_init 16 = .ok (.return_, 1) := dk_177 (dk_at dksX16_init_0 16 rfl rfl)
abbrev cX16_isWell : ByteArray := prog_5_method_4_code
def yX16_isWell : MethodName := ⟨RX16, "isWell", "()Z"⟩
def dkwX16_isWell_4 : List UInt8 := [167, 255, 216, 27, 172]
abbrev dktX16_isWell_4 : List UInt8 := dkwX16_isWell_4 ++ []
def dkwX16_isWell_3 : List UInt8 := [180, 0, 31, 180, 0, 38, 28, 50, 42, 180, 0, 13, 180, 0, 38, 28, 50, 182, 0, 42, 60, 132, 2, 1]
abbrev dktX16_isWell_3 : List UInt8 := dkwX16_isWell_3 ++ dktX16_isWell_4
def dkwX16_isWell_2 : List UInt8 := [167, 0, 4, 3, 60, 3, 61, 27, 153, 0, 42, 28, 42, 180, 0, 13, 180, 0, 27, 162, 0, 31, 42]
abbrev dktX16_isWell_2 : List UInt8 := dkwX16_isWell_2 ++ dktX16_isWell_3
def dkwX16_isWell_1 : List UInt8 := [42, 180, 0, 31, 180, 0, 27, 163, 0, 18, 42, 42, 180, 0, 13, 182, 0, 34, 153, 0, 7, 4]
abbrev dktX16_isWell_1 : List UInt8 := dkwX16_isWell_1 ++ dktX16_isWell_2
def dkwX16_isWell_0 : List UInt8 := [42, 180, 0, 13, 198, 0, 45, 42, 180, 0, 13, 180, 0, 23, 154, 0, 35, 42, 180, 0, 13, 180, 0, 27]
abbrev dktX16_isWell_0 : List UInt8 := dkwX16_isWell_0 ++ dktX16_isWell_1
theorem dksX16_isWell_0 : cX16_isWell.data.toList.drop 0 = dktX16_isWell_0 := by decide +kernel
theorem dksX16_isWell_1 : cX16_isWell.data.toList.drop 24 = dktX16_isWell_1 := dk_seg dksX16_isWell_0 24 rfl rfl
theorem dksX16_isWell_2 : cX16_isWell.data.toList.drop 46 = dktX16_isWell_2 := dk_seg dksX16_isWell_1 22 rfl rfl
theorem dksX16_isWell_3 : cX16_isWell.data.toList.drop 69 = dktX16_isWell_3 := dk_seg dksX16_isWell_2 23 rfl rfl
theorem dksX16_isWell_4 : cX16_isWell.data.toList.drop 93 = dktX16_isWell_4 := dk_seg dksX16_isWell_3 24 rfl rfl
theorem dX16_isWell_0 : decode cX16_isWell 0 = .ok (.aload_n 0, 1) := dk_42 (dk_at dksX16_isWell_0 0 rfl rfl)
theorem dX16_isWell_1 : decode cX16_isWell 1 = .ok (.getfield 13, 3) := dk_180 0 13 (dk_at dksX16_isWell_0 1 rfl rfl)
theorem dX16_isWell_4 : decode cX16_isWell 4 = .ok (.ifnull 45, 3) := dk_198 0 45 (dk_at dksX16_isWell_0 4 rfl rfl)
theorem dX16_isWell_7 : decode cX16_isWell 7 = .ok (.aload_n 0, 1) := dk_42 (dk_at dksX16_isWell_0 7 rfl rfl)
theorem dX16_isWell_8 : decode cX16_isWell 8 = .ok (.getfield 13, 3) := dk_180 0 13 (dk_at dksX16_isWell_0 8 rfl rfl)
theorem dX16_isWell_11 : decode cX16_isWell 11 = .ok (.getfield 23, 3) := dk_180 0 23 (dk_at dksX16_isWell_0 11 rfl rfl)
theorem dX16_isWell_14 : decode cX16_isWell 14 = .ok (.ifCond .ne 35, 3) := dk_154 0 35 (dk_at dksX16_isWell_0 14 rfl rfl)
theorem dX16_isWell_17 : decode cX16_isWell 17 = .ok (.aload_n 0, 1) := dk_42 (dk_at dksX16_isWell_0 17 rfl rfl)
theorem dX16_isWell_18 : decode cX16_isWell 18 = .ok (.getfield 13, 3) := dk_180 0 13 (dk_at dksX16_isWell_0 18 rfl rfl)
theorem dX16_isWell_21 : decode cX16_isWell 21 = .ok (.getfield 27, 3) := dk_180 0 27 (dk_at dksX16_isWell_0 21 rfl rfl)
theorem dX16_isWell_24 : decode cX16_isWell 24 = .ok (.aload_n 0, 1) := dk_42 (dk_at dksX16_isWell_1 0 rfl rfl)
theorem dX16_isWell_25 : decode cX16_isWell 25 = .ok (.getfield 31, 3) := dk_180 0 31 (dk_at dksX16_isWell_1 1 rfl rfl)
theorem dX16_isWell_28 : decode cX16_isWell 28 = .ok (.getfield 27, 3) := dk_180 0 27 (dk_at dksX16_isWell_1 4 rfl rfl)
theorem dX16_isWell_31 : decode cX16_isWell 31 = .ok (.if_icmp .gt 18, 3) := dk_163 0 18 (dk_at dksX16_isWell_1 7 rfl rfl)
theorem dX16_isWell_34 : decode cX16_isWell 34 = .ok (.aload_n 0, 1) := dk_42 (dk_at dksX16_isWell_1 10 rfl rfl)
theorem dX16_isWell_35 : decode cX16_isWell 35 = .ok (.aload_n 0, 1) := dk_42 (dk_at dksX16_isWell_1 11 rfl rfl)
theorem dX16_isWell_36 : decode cX16_isWell 36 = .ok (.getfield 13, 3) := dk_180 0 13 (dk_at dksX16_isWell_1 12 rfl rfl)
theorem dX16_isWell_39 : decode cX16_isWell 39 = .ok (.invokevirtual 34, 3) := dk_182 0 34 (dk_at dksX16_isWell_1 15 rfl rfl)
theorem dX16_isWell_42 : decode cX16_isWell 42 = .ok (.ifCond .eq 7, 3) := dk_153 0 7 (dk_at dksX16_isWell_1 18 rfl rfl)
theorem dX16_isWell_45 : decode cX16_isWell 45 = .ok (.iconst 1, 1) := dk_4 (dk_at dksX16_isWell_1 21 rfl rfl)
theorem dX16_isWell_46 : decode cX16_isWell 46 = .ok (.goto 4, 3) := dk_167 0 4 (dk_at dksX16_isWell_2 0 rfl rfl)
theorem dX16_isWell_49 : decode cX16_isWell 49 = .ok (.iconst 0, 1) := dk_3 (dk_at dksX16_isWell_2 3 rfl rfl)
theorem dX16_isWell_50 : decode cX16_isWell 50 = .ok (.istore_n 1, 1) := dk_60 (dk_at dksX16_isWell_2 4 rfl rfl)
theorem dX16_isWell_51 : decode cX16_isWell 51 = .ok (.iconst 0, 1) := dk_3 (dk_at dksX16_isWell_2 5 rfl rfl)
theorem dX16_isWell_52 : decode cX16_isWell 52 = .ok (.istore_n 2, 1) := dk_61 (dk_at dksX16_isWell_2 6 rfl rfl)
theorem dX16_isWell_53 : decode cX16_isWell 53 = .ok (.iload_n 1, 1) := dk_27 (dk_at dksX16_isWell_2 7 rfl rfl)
theorem dX16_isWell_54 : decode cX16_isWell 54 = .ok (.ifCond .eq 42, 3) := dk_153 0 42 (dk_at dksX16_isWell_2 8 rfl rfl)
theorem dX16_isWell_57 : decode cX16_isWell 57 = .ok (.iload_n 2, 1) := dk_28 (dk_at dksX16_isWell_2 11 rfl rfl)
theorem dX16_isWell_58 : decode cX16_isWell 58 = .ok (.aload_n 0, 1) := dk_42 (dk_at dksX16_isWell_2 12 rfl rfl)
theorem dX16_isWell_59 : decode cX16_isWell 59 = .ok (.getfield 13, 3) := dk_180 0 13 (dk_at dksX16_isWell_2 13 rfl rfl)
theorem dX16_isWell_62 : decode cX16_isWell 62 = .ok (.getfield 27, 3) := dk_180 0 27 (dk_at dksX16_isWell_2 16 rfl rfl)
theorem dX16_isWell_65 : decode cX16_isWell 65 = .ok (.if_icmp .ge 31, 3) := dk_162 0 31 (dk_at dksX16_isWell_2 19 rfl rfl)
theorem dX16_isWell_68 : decode cX16_isWell 68 = .ok (.aload_n 0, 1) := dk_42 (dk_at dksX16_isWell_2 22 rfl rfl)
theorem dX16_isWell_69 : decode cX16_isWell 69 = .ok (.getfield 31, 3) := dk_180 0 31 (dk_at dksX16_isWell_3 0 rfl rfl)
theorem dX16_isWell_72 : decode cX16_isWell 72 = .ok (.getfield 38, 3) := dk_180 0 38 (dk_at dksX16_isWell_3 3 rfl rfl)
theorem dX16_isWell_75 : decode cX16_isWell 75 = .ok (.iload_n 2, 1) := dk_28 (dk_at dksX16_isWell_3 6 rfl rfl)
theorem dX16_isWell_76 : decode cX16_isWell 76 = .ok (.aaload, 1) := dk_50 (dk_at dksX16_isWell_3 7 rfl rfl)
theorem dX16_isWell_77 : decode cX16_isWell 77 = .ok (.aload_n 0, 1) := dk_42 (dk_at dksX16_isWell_3 8 rfl rfl)
theorem dX16_isWell_78 : decode cX16_isWell 78 = .ok (.getfield 13, 3) := dk_180 0 13 (dk_at dksX16_isWell_3 9 rfl rfl)
theorem dX16_isWell_81 : decode cX16_isWell 81 = .ok (.getfield 38, 3) := dk_180 0 38 (dk_at dksX16_isWell_3 12 rfl rfl)
theorem dX16_isWell_84 : decode cX16_isWell 84 = .ok (.iload_n 2, 1) := dk_28 (dk_at dksX16_isWell_3 15 rfl rfl)
theorem dX16_isWell_85 : decode cX16_isWell 85 = .ok (.aaload, 1) := dk_50 (dk_at dksX16_isWell_3 16 rfl rfl)
theorem dX16_isWell_86 : decode cX16_isWell 86 = .ok (.invokevirtual 42, 3) := dk_182 0 42 (dk_at dksX16_isWell_3 17 rfl rfl)
theorem dX16_isWell_89 : decode cX16_isWell 89 = .ok (.istore_n 1, 1) := dk_60 (dk_at dksX16_isWell_3 20 rfl rfl)
theorem dX16_isWell_90 : decode cX16_isWell 90 = .ok (.iinc 2 1, 3) := dk_132 2 1 (dk_at dksX16_isWell_3 21 rfl rfl)
theorem dX16_isWell_93 : decode cX16_isWell 93 = .ok (.goto (-40), 3) := dk_167 255 216 (dk_at dksX16_isWell_4 0 rfl rfl)
theorem dX16_isWell_96 : decode cX16_isWell 96 = .ok (.iload_n 1, 1) := dk_27 (dk_at dksX16_isWell_4 3 rfl rfl)
theorem dX16_isWell_97 : decode cX16_isWell 97 = .ok (.ireturn, 1) := dk_172 (dk_at dksX16_isWell_4 4 rfl rfl)
abbrev cX16_type : ByteArray := prog_5_method_3_code
def yX16_type : MethodName := ⟨RX16, "type", "()LReflectMirror$Type;"⟩
def dkwX16_type_0 : List UInt8 := [42, 180, 0, 13, 180, 0, 17, 176]
abbrev dktX16_type_0 : List UInt8 := dkwX16_type_0 ++ []
theorem dksX16_type_0 : cX16_type.data.toList.drop 0 = dktX16_type_0 := by decide +kernel
theorem dX16_type_0 : decode cX16_type 0 = .ok (.aload_n 0, 1) := dk_42 (dk_at dksX16_type_0 0 rfl rfl)
theorem dX16_type_1 : decode cX16_type 1 = .ok (.getfield 13, 3) := dk_180 0 13 (dk_at dksX16_type_0 1 rfl rfl)
theorem dX16_type_4 : decode cX16_type 4 = .ok (.getfield 17, 3) := dk_180 0 17 (dk_at dksX16_type_0 4 rfl rfl)
theorem dX16_type_7 : decode cX16_type 7 = .ok (.areturn, 1) := dk_176 (dk_at dksX16_type_0 7 rfl rfl)
abbrev cX16_kind : ByteArray := prog_5_method_2_code
def yX16_kind : MethodName := ⟨RX16, "kind", "()I"⟩
theorem dX16_kind_0 : decode cX16_kind 0 = .ok (.iconst 5, 1) := by decide +kernel
theorem dX16_kind_1 : decode cX16_kind 1 = .ok (.ireturn, 1) := by decide +kernel
abbrev cX16_work : ByteArray := prog_5_method_6_code
def yX16_work : MethodName := ⟨RX16, "work", "(LReflectMirror$Frame;)V"⟩
def dkwX16_work_1 : List UInt8 := [43, 180, 0, 63, 4, 96, 42, 182, 0, 66, 44, 182, 0, 70, 42, 43, 44, 182, 0, 76, 177]
abbrev dktX16_work_1 : List UInt8 := dkwX16_work_1 ++ []
def dkwX16_work_0 : List UInt8 := [187, 0, 48, 89, 183, 0, 50, 77, 42, 180, 0, 1, 42, 180, 0, 13, 43, 180, 0, 53, 43, 180, 0, 59]
abbrev dktX16_work_0 : List UInt8 := dkwX16_work_0 ++ dktX16_work_1
theorem dksX16_work_0 : cX16_work.data.toList.drop 0 = dktX16_work_0 := by decide +kernel
theorem dksX16_work_1 : cX16_work.data.toList.drop 24 = dktX16_work_1 := dk_seg dksX16_work_0 24 rfl rfl
theorem dX16_work_0 : decode cX16_work 0 = .ok (.new 48, 3) := dk_187 0 48 (dk_at dksX16_work_0 0 rfl rfl)
theorem dX16_work_3 : decode cX16_work 3 = .ok (.dup, 1) := dk_89 (dk_at dksX16_work_0 3 rfl rfl)
theorem dX16_work_4 : decode cX16_work 4 = .ok (.invokespecial 50, 3) := dk_183 0 50 (dk_at dksX16_work_0 4 rfl rfl)
theorem dX16_work_7 : decode cX16_work 7 = .ok (.astore_n 2, 1) := dk_77 (dk_at dksX16_work_0 7 rfl rfl)
theorem dX16_work_8 : decode cX16_work 8 = .ok (.aload_n 0, 1) := dk_42 (dk_at dksX16_work_0 8 rfl rfl)
theorem dX16_work_9 : decode cX16_work 9 = .ok (.getfield 1, 3) := dk_180 0 1 (dk_at dksX16_work_0 9 rfl rfl)
theorem dX16_work_12 : decode cX16_work 12 = .ok (.aload_n 0, 1) := dk_42 (dk_at dksX16_work_0 12 rfl rfl)
theorem dX16_work_13 : decode cX16_work 13 = .ok (.getfield 13, 3) := dk_180 0 13 (dk_at dksX16_work_0 13 rfl rfl)
theorem dX16_work_16 : decode cX16_work 16 = .ok (.aload_n 1, 1) := dk_43 (dk_at dksX16_work_0 16 rfl rfl)
theorem dX16_work_17 : decode cX16_work 17 = .ok (.getfield 53, 3) := dk_180 0 53 (dk_at dksX16_work_0 17 rfl rfl)
theorem dX16_work_20 : decode cX16_work 20 = .ok (.aload_n 1, 1) := dk_43 (dk_at dksX16_work_0 20 rfl rfl)
theorem dX16_work_21 : decode cX16_work 21 = .ok (.getfield 59, 3) := dk_180 0 59 (dk_at dksX16_work_0 21 rfl rfl)
theorem dX16_work_24 : decode cX16_work 24 = .ok (.aload_n 1, 1) := dk_43 (dk_at dksX16_work_1 0 rfl rfl)
theorem dX16_work_25 : decode cX16_work 25 = .ok (.getfield 63, 3) := dk_180 0 63 (dk_at dksX16_work_1 1 rfl rfl)
theorem dX16_work_28 : decode cX16_work 28 = .ok (.iconst 1, 1) := dk_4 (dk_at dksX16_work_1 4 rfl rfl)
theorem dX16_work_29 : decode cX16_work 29 = .ok (.iadd, 1) := dk_96 (dk_at dksX16_work_1 5 rfl rfl)
theorem dX16_work_30 : decode cX16_work 30 = .ok (.aload_n 0, 1) := dk_42 (dk_at dksX16_work_1 6 rfl rfl)
theorem dX16_work_31 : decode cX16_work 31 = .ok (.invokevirtual 66, 3) := dk_182 0 66 (dk_at dksX16_work_1 7 rfl rfl)
theorem dX16_work_34 : decode cX16_work 34 = .ok (.aload_n 2, 1) := dk_44 (dk_at dksX16_work_1 10 rfl rfl)
theorem dX16_work_35 : decode cX16_work 35 = .ok (.invokevirtual 70, 3) := dk_182 0 70 (dk_at dksX16_work_1 11 rfl rfl)
theorem dX16_work_38 : decode cX16_work 38 = .ok (.aload_n 0, 1) := dk_42 (dk_at dksX16_work_1 14 rfl rfl)
theorem dX16_work_39 : decode cX16_work 39 = .ok (.aload_n 1, 1) := dk_43 (dk_at dksX16_work_1 15 rfl rfl)
theorem dX16_work_40 : decode cX16_work 40 = .ok (.aload_n 2, 1) := dk_44 (dk_at dksX16_work_1 16 rfl rfl)
theorem dX16_work_41 : decode cX16_work 41 = .ok (.invokevirtual 76, 3) := dk_182 0 76 (dk_at dksX16_work_1 17 rfl rfl)
theorem dX16_work_44 : decode cX16_work 44 = .ok (.return_, 1) := dk_177 (dk_at dksX16_work_1 20 rfl rfl)
abbrev cX16_isItself : ByteArray := prog_5_method_5_code
def yX16_isItself : MethodName := ⟨RX16, "isItself", "()Z"⟩
theorem dX16_isItself_0 : decode cX16_isItself 0 = .ok (.iconst 0, 1) := by decide +kernel
theorem dX16_isItself_1 : decode cX16_isItself 1 = .ok (.ireturn, 1) := by decide +kernel
theorem q110 : (Jvm.Cond.initialized "ReflectMirror$Calling") ∈ lw_all := lw_g (lw_at lw_m1 21 rfl) rfl
theorem q665 : (Jvm.Cond.fieldLink "ReflectMirror$Calling" (23 : Nat) "ReflectMirror$Member" "isField" "Z") ∈ lw_all := lw_g (lw_at lw_m3 96 rfl) rfl
theorem q668 : (Jvm.Cond.fieldLink "ReflectMirror$Calling" (17 : Nat) "ReflectMirror$Member" "of" "LReflectMirror$Type;") ∈ lw_all := lw_g (lw_at lw_m3 99 rfl) rfl
theorem q674 : (Jvm.Cond.fieldLink "ReflectMirror$Calling" (38 : Nat) "ReflectMirror$Member" "params" "[LReflectMirror$Type;") ∈ lw_all := lw_g (lw_at lw_m3 105 rfl) rfl
theorem q677 : (Jvm.Cond.fieldLink "ReflectMirror$Calling" (27 : Nat) "ReflectMirror$Member" "many" "I") ∈ lw_all := lw_g (lw_at lw_m3 108 rfl) rfl
theorem q775 : (Jvm.Cond.fieldLink "ReflectMirror$Calling" (31 : Nat) "ReflectMirror$Calling" "m" "LReflectMirror$Member;") ∈ lw_all := lw_g (lw_at lw_m3 206 rfl) rfl
theorem q776 : (Jvm.Cond.sameField "ReflectMirror$Calling" "ReflectMirror$Body" "m" "LReflectMirror$Member;") ∈ lw_all := lw_g (lw_at lw_m3 207 rfl) rfl
theorem q873 : (Jvm.Cond.instantiable "ReflectMirror$Calling" (4 : Nat)) ∈ lw_all := lw_g (lw_at lw_m4 64 rfl) rfl
theorem q875 : (Jvm.Cond.instanceMethod ({ cls := "ReflectMirror$Calling", name := "<init>", desc := "(LReflectMirror;LReflectMirror$Member;LReflectMirror$Member;)V" } : Jvm.MethodName)) ∈ lw_all := lw_g (lw_at lw_m4 66 rfl) rfl
theorem q876 : (Jvm.Cond.code ({ cls := "ReflectMirror$Calling", name := "<init>", desc := "(LReflectMirror;LReflectMirror$Member;LReflectMirror$Member;)V" } : Jvm.MethodName) prog_5_method_1_code (4 : Nat) (Option.none : Option Jvm.ClassFile.FieldType)) ∈ lw_all := lw_g (lw_at lw_m4 67 rfl) rfl
theorem q877 : (Jvm.Cond.methodLink "ReflectMirror$Calling" (7 : Nat) ({ cls := "ReflectMirror$Body", name := "<init>", desc := "(LReflectMirror;LReflectMirror$Member;)V" } : Jvm.MethodName)) ∈ lw_all := lw_g (lw_at lw_m4 68 rfl) rfl
theorem q878 : (Jvm.Cond.fieldLink "ReflectMirror$Calling" (13 : Nat) "ReflectMirror$Calling" "called" "LReflectMirror$Member;") ∈ lw_all := lw_g (lw_at lw_m4 69 rfl) rfl
theorem q881 : (Jvm.Cond.fieldLink "ReflectMirror$Calling" (1 : Nat) "ReflectMirror$Calling" "this$0" "LReflectMirror;") ∈ lw_all := lw_g (lw_at lw_m4 72 rfl) rfl
theorem q882 : (Jvm.Cond.laysFinal "ReflectMirror$Calling" "ReflectMirror$Calling" "called" "LReflectMirror$Member;") ∈ lw_all := lw_g (lw_at lw_m4 73 rfl) rfl
theorem q883 : (Jvm.Cond.soleField "ReflectMirror$Calling" "called") ∈ lw_all := lw_g (lw_at lw_m4 74 rfl) rfl
theorem q884 : (Jvm.Cond.laysFinal "ReflectMirror$Calling" "ReflectMirror$Calling" "this$0" "LReflectMirror;") ∈ lw_all := lw_g (lw_at lw_m4 75 rfl) rfl
theorem q885 : (Jvm.Cond.soleField "ReflectMirror$Calling" "this$0") ∈ lw_all := lw_g (lw_at lw_m4 76 rfl) rfl
theorem q886 : (Jvm.Cond.laysFinal "ReflectMirror$Calling" "ReflectMirror$Body" "m" "LReflectMirror$Member;") ∈ lw_all := lw_g (lw_at lw_m4 77 rfl) rfl
theorem q887 : (Jvm.Cond.laysFinal "ReflectMirror$Calling" "ReflectMirror$Body" "this$0" "LReflectMirror;") ∈ lw_all := lw_g (lw_at lw_m4 78 rfl) rfl
theorem q888 : (Jvm.Cond.superclass "ReflectMirror$Calling" "ReflectMirror$Body") ∈ lw_all := lw_g (lw_at lw_m4 79 rfl) rfl
theorem q1017 : (Jvm.Cond.selects "ReflectMirror$Calling" ({ cls := "ReflectMirror$Body", name := "isFit", desc := "()Z" } : Jvm.MethodName) ({ cls := "ReflectMirror$Body", name := "isFit", desc := "()Z" } : Jvm.MethodName)) ∈ lw_all := lw_g (lw_at lw_m4 208 rfl) rfl
theorem q1058 : (Jvm.Cond.selects "ReflectMirror$Calling" ({ cls := "ReflectMirror$Body", name := "isWell", desc := "()Z" } : Jvm.MethodName) ({ cls := "ReflectMirror$Calling", name := "isWell", desc := "()Z" } : Jvm.MethodName)) ∈ lw_all := lw_g (lw_at lw_m5 9 rfl) rfl
theorem q1059 : (Jvm.Cond.instanceMethod ({ cls := "ReflectMirror$Calling", name := "isWell", desc := "()Z" } : Jvm.MethodName)) ∈ lw_all := lw_g (lw_at lw_m5 10 rfl) rfl
theorem q1060 : (Jvm.Cond.code ({ cls := "ReflectMirror$Calling", name := "isWell", desc := "()Z" } : Jvm.MethodName) prog_5_method_4_code (3 : Nat) (Option.some Jvm.ClassFile.FieldType.boolean)) ∈ lw_all := lw_g (lw_at lw_m5 11 rfl) rfl
theorem q1061 : (Jvm.Cond.methodLink "ReflectMirror$Calling" (34 : Nat) ({ cls := "ReflectMirror$Calling", name := "isNear", desc := "(LReflectMirror$Member;)Z" } : Jvm.MethodName)) ∈ lw_all := lw_g (lw_at lw_m5 12 rfl) rfl
theorem q1062 : (Jvm.Cond.sameMethod "ReflectMirror$Calling" "ReflectMirror$Body" "isNear" "(LReflectMirror$Member;)Z") ∈ lw_all := lw_g (lw_at lw_m5 13 rfl) rfl
theorem q1065 : (Jvm.Cond.selects "ReflectMirror$Calling" ({ cls := "ReflectMirror$Calling", name := "isNear", desc := "(LReflectMirror$Member;)Z" } : Jvm.MethodName) ({ cls := "ReflectMirror$Body", name := "isNear", desc := "(LReflectMirror$Member;)Z" } : Jvm.MethodName)) ∈ lw_all := lw_g (lw_at lw_m5 16 rfl) rfl
theorem q1070 : (Jvm.Cond.methodLink "ReflectMirror$Calling" (42 : Nat) ({ cls := "ReflectMirror$Type", name := "is", desc := "(LReflectMirror$Type;)Z" } : Jvm.MethodName)) ∈ lw_all := lw_g (lw_at lw_m5 21 rfl) rfl
theorem q1114 : (Jvm.Cond.instanceMethod ({ cls := "ReflectMirror$Calling", name := "type", desc := "()LReflectMirror$Type;" } : Jvm.MethodName)) ∈ lw_all := lw_g (lw_at lw_m5 65 rfl) rfl
theorem q1115 : (Jvm.Cond.code ({ cls := "ReflectMirror$Calling", name := "type", desc := "()LReflectMirror$Type;" } : Jvm.MethodName) prog_5_method_3_code (1 : Nat) (Option.some (Jvm.ClassFile.FieldType.object "ReflectMirror$Type"))) ∈ lw_all := lw_g (lw_at lw_m5 66 rfl) rfl
theorem q1122 : (Jvm.Cond.selects "ReflectMirror$Calling" ({ cls := "ReflectMirror$Body", name := "type", desc := "()LReflectMirror$Type;" } : Jvm.MethodName) ({ cls := "ReflectMirror$Calling", name := "type", desc := "()LReflectMirror$Type;" } : Jvm.MethodName)) ∈ lw_all := lw_g (lw_at lw_m5 73 rfl) rfl
theorem q1153 : (Jvm.Cond.selects "ReflectMirror$Calling" ({ cls := "ReflectMirror$Body", name := "kind", desc := "()I" } : Jvm.MethodName) ({ cls := "ReflectMirror$Calling", name := "kind", desc := "()I" } : Jvm.MethodName)) ∈ lw_all := lw_g (lw_at lw_m5 104 rfl) rfl
theorem q1154 : (Jvm.Cond.instanceMethod ({ cls := "ReflectMirror$Calling", name := "kind", desc := "()I" } : Jvm.MethodName)) ∈ lw_all := lw_g (lw_at lw_m5 105 rfl) rfl
theorem q1155 : (Jvm.Cond.code ({ cls := "ReflectMirror$Calling", name := "kind", desc := "()I" } : Jvm.MethodName) prog_5_method_2_code (1 : Nat) (Option.some Jvm.ClassFile.FieldType.int)) ∈ lw_all := lw_g (lw_at lw_m5 106 rfl) rfl
theorem q1742 : (Jvm.Cond.fieldLink "ReflectMirror$Calling" (53 : Nat) "ReflectMirror$Frame" "self" "LReflectMirror$One;") ∈ lw_all := lw_g (lw_at lw_m7 213 rfl) rfl
theorem q1747 : (Jvm.Cond.fieldLink "ReflectMirror$Calling" (59 : Nat) "ReflectMirror$Frame" "args" "[LReflectMirror$Cell;") ∈ lw_all := lw_g (lw_at lw_m7 218 rfl) rfl
theorem q1754 : (Jvm.Cond.fieldLink "ReflectMirror$Calling" (63 : Nat) "ReflectMirror$Frame" "within" "I") ∈ lw_all := lw_g (lw_at lw_m7 225 rfl) rfl
theorem q1768 : (Jvm.Cond.instanceMethod ({ cls := "ReflectMirror$Calling", name := "work", desc := "(LReflectMirror$Frame;)V" } : Jvm.MethodName)) ∈ lw_all := lw_g (lw_at lw_m7 239 rfl) rfl
theorem q1769 : (Jvm.Cond.code ({ cls := "ReflectMirror$Calling", name := "work", desc := "(LReflectMirror$Frame;)V" } : Jvm.MethodName) prog_5_method_6_code (3 : Nat) (Option.none : Option Jvm.ClassFile.FieldType)) ∈ lw_all := lw_g (lw_at lw_m8 0 rfl) rfl
theorem q1770 : (Jvm.Cond.classLink "ReflectMirror$Calling" (48 : Nat) "ReflectMirror$Cell") ∈ lw_all := lw_g (lw_at lw_m8 1 rfl) rfl
theorem q1771 : (Jvm.Cond.methodLinkNest "ReflectMirror$Calling" (50 : Nat) ({ cls := "ReflectMirror$Cell", name := "<init>", desc := "()V" } : Jvm.MethodName) "ReflectMirror") ∈ lw_tbl := lw_at lw_m8 2 rfl
theorem q1772 : (Jvm.Cond.methodLink "ReflectMirror$Calling" (66 : Nat) ({ cls := "ReflectMirror$Calling", name := "isItself", desc := "()Z" } : Jvm.MethodName)) ∈ lw_all := lw_g (lw_at lw_m8 3 rfl) rfl
theorem q1773 : (Jvm.Cond.instanceMethod ({ cls := "ReflectMirror$Calling", name := "isItself", desc := "()Z" } : Jvm.MethodName)) ∈ lw_all := lw_g (lw_at lw_m8 4 rfl) rfl
theorem q1774 : (Jvm.Cond.selects "ReflectMirror$Calling" ({ cls := "ReflectMirror$Calling", name := "isItself", desc := "()Z" } : Jvm.MethodName) ({ cls := "ReflectMirror$Calling", name := "isItself", desc := "()Z" } : Jvm.MethodName)) ∈ lw_all := lw_g (lw_at lw_m8 5 rfl) rfl
theorem q1775 : (Jvm.Cond.sameMethod "ReflectMirror$Calling" "ReflectMirror$Calling" "isItself" "()Z") ∈ lw_all := lw_g (lw_at lw_m8 6 rfl) rfl
theorem q1779 : (Jvm.Cond.code ({ cls := "ReflectMirror$Calling", name := "isItself", desc := "()Z" } : Jvm.MethodName) prog_5_method_5_code (1 : Nat) (Option.some Jvm.ClassFile.FieldType.boolean)) ∈ lw_all := lw_g (lw_at lw_m8 10 rfl) rfl
theorem q1780 : (Jvm.Cond.methodLinkNest "ReflectMirror$Calling" (70 : Nat) ({ cls := "ReflectMirror", name := "run", desc := "(LReflectMirror$Member;LReflectMirror$One;[LReflectMirror$Cell;IZLReflectMirror$Cell;)V" } : Jvm.MethodName) "ReflectMirror") ∈ lw_tbl := lw_at lw_m8 11 rfl
theorem q1781 : (Jvm.Cond.methodLink "ReflectMirror$Calling" (76 : Nat) ({ cls := "ReflectMirror$Calling", name := "gives", desc := "(LReflectMirror$Frame;LReflectMirror$Cell;)V" } : Jvm.MethodName)) ∈ lw_all := lw_g (lw_at lw_m8 12 rfl) rfl
theorem q1782 : (Jvm.Cond.sameMethod "ReflectMirror$Calling" "ReflectMirror$Body" "gives" "(LReflectMirror$Frame;LReflectMirror$Cell;)V") ∈ lw_all := lw_g (lw_at lw_m8 13 rfl) rfl
theorem q1785 : (Jvm.Cond.selects "ReflectMirror$Calling" ({ cls := "ReflectMirror$Calling", name := "gives", desc := "(LReflectMirror$Frame;LReflectMirror$Cell;)V" } : Jvm.MethodName) ({ cls := "ReflectMirror$Body", name := "gives", desc := "(LReflectMirror$Frame;LReflectMirror$Cell;)V" } : Jvm.MethodName)) ∈ lw_all := lw_g (lw_at lw_m8 16 rfl) rfl
theorem q1816 : (Jvm.Cond.selects "ReflectMirror$Calling" ({ cls := "ReflectMirror$Body", name := "work", desc := "(LReflectMirror$Frame;)V" } : Jvm.MethodName) ({ cls := "ReflectMirror$Calling", name := "work", desc := "(LReflectMirror$Frame;)V" } : Jvm.MethodName)) ∈ lw_all := lw_g (lw_at lw_m8 47 rfl) rfl
theorem q2604 : (Jvm.Cond.castable "ReflectMirror$Calling" "java/lang/Object") ∈ lw_tbl := lw_at lw_m11 115 rfl
theorem in_X16 : ∀ w ∈ wsX160, w ∈ lw_all := lw_in wsX160 [886, 887, 882, 884] (by decide +kernel) (by decide +kernel)

/-! ReflectMirror$Adding -/
set_option maxRecDepth 100000
def RX17 : String := "ReflectMirror$Adding"
def TX17 : u_T := fun k => match k with
  | 0 => ("ReflectMirror$Body", "m", "LReflectMirror$Member;", true)
  | 1 => ("ReflectMirror$Body", "this$0", "LReflectMirror;", true)
  | 2 => ("ReflectMirror$Param", "i", "I", true)
  | 3 => ("ReflectMirror$Param", "this$0", "LReflectMirror;", true)
  | 4 => ("ReflectMirror$Adding", "j", "I", true)
  | _ => ("ReflectMirror$Adding", "this$0", "LReflectMirror;", true)
def tyX17 : Nat → FieldType := fun k => match k with
  | 0 => .object "ReflectMirror$Member"
  | 1 => .object "ReflectMirror"
  | 2 => .int
  | 3 => .object "ReflectMirror"
  | 4 => .int
  | _ => .object "ReflectMirror"
abbrev wsX170 : List Cond := u_ws RX17 TX17 6
-- two fields of one name: no nmX17
theorem tyX17_ok : ∀ k, k < 6 → parseFieldDescriptor (TX17 k).2.2.1 = some (tyX17 k) := by decide +kernel
abbrev cX17_init : ByteArray := prog_3_method_1_code
def yX17_init : MethodName := ⟨RX17, "<init>", "(LReflectMirror;LReflectMirror$Member;II)V"⟩
def dkwX17_init_0 : List UInt8 := [42, 43, 181, 0, 3, 42, 43, 44, 29, 183, 0, 9, 42, 21, 4, 181, 0, 15, 177]
abbrev dktX17_init_0 : List UInt8 := dkwX17_init_0 ++ []
theorem dksX17_init_0 : cX17_init.data.toList.drop 0 = dktX17_init_0 := by decide +kernel
theorem dX17_init_0 : decode cX17_init 0 = .ok (.aload_n 0, 1) := dk_42 (dk_at dksX17_init_0 0 rfl rfl)
theorem dX17_init_1 : decode cX17_init 1 = .ok (.aload_n 1, 1) := dk_43 (dk_at dksX17_init_0 1 rfl rfl)
theorem dX17_init_2 : decode cX17_init 2 = .ok (.putfield 3, 3) := dk_181 0 3 (dk_at dksX17_init_0 2 rfl rfl)
theorem dX17_init_5 : decode cX17_init 5 = .ok (.aload_n 0, 1) := dk_42 (dk_at dksX17_init_0 5 rfl rfl)
theorem dX17_init_6 : decode cX17_init 6 = .ok (.aload_n 1, 1) := dk_43 (dk_at dksX17_init_0 6 rfl rfl)
theorem dX17_init_7 : decode cX17_init 7 = .ok (.aload_n 2, 1) := dk_44 (dk_at dksX17_init_0 7 rfl rfl)
theorem dX17_init_8 : decode cX17_init 8 = .ok (.iload_n 3, 1) := dk_29 (dk_at dksX17_init_0 8 rfl rfl)
theorem dX17_init_9 : decode cX17_init 9 = .ok (.invokespecial 9, 3) := dk_183 0 9 (dk_at dksX17_init_0 9 rfl rfl)
theorem dX17_init_12 : decode cX17_init 12 = .ok (.aload_n 0, 1) := dk_42 (dk_at dksX17_init_0 12 rfl rfl)
theorem dX17_init_13 : decode cX17_init 13 = .ok (.iload 4, 2) := dk_21 4 (dk_at dksX17_init_0 13 rfl rfl)
theorem dX17_init_15 : decode cX17_init 15 = .ok (.putfield 15, 3) := dk_181 0 15 (dk_at dksX17_init_0 15 rfl rfl)
theorem dX17_init_18 : decode cX17_init 18 = .ok (.return_, 1) := dk_177 (dk_at dksX17_init_0 18 rfl rfl)
abbrev cX17_isWell : ByteArray := prog_3_method_4_code
def yX17_isWell : MethodName := ⟨RX17, "isWell", "()Z"⟩
def dkwX17_isWell_1 : List UInt8 := [182, 0, 36, 153, 0, 7, 4, 167, 0, 4, 3, 172]
abbrev dktX17_isWell_1 : List UInt8 := dkwX17_isWell_1 ++ []
def dkwX17_isWell_0 : List UInt8 := [42, 42, 42, 180, 0, 29, 182, 0, 32, 182, 0, 36, 153, 0, 22, 42, 42, 42, 180, 0, 15, 182, 0, 32]
abbrev dktX17_isWell_0 : List UInt8 := dkwX17_isWell_0 ++ dktX17_isWell_1
theorem dksX17_isWell_0 : cX17_isWell.data.toList.drop 0 = dktX17_isWell_0 := by decide +kernel
theorem dksX17_isWell_1 : cX17_isWell.data.toList.drop 24 = dktX17_isWell_1 := dk_seg dksX17_isWell_0 24 rfl rfl
theorem dX17_isWell_0 : decode cX17_isWell 0 = .ok (.aload_n 0, 1) := dk_42 (dk_at dksX17_isWell_0 0 rfl rfl)
theorem dX17_isWell_1 : decode cX17_isWell 1 = .ok (.aload_n 0, 1) := dk_42 (dk_at dksX17_isWell_0 1 rfl rfl)
theorem dX17_isWell_2 : decode cX17_isWell 2 = .ok (.aload_n 0, 1) := dk_42 (dk_at dksX17_isWell_0 2 rfl rfl)
theorem dX17_isWell_3 : decode cX17_isWell 3 = .ok (.getfield 29, 3) := dk_180 0 29 (dk_at dksX17_isWell_0 3 rfl rfl)
theorem dX17_isWell_6 : decode cX17_isWell 6 = .ok (.invokevirtual 32, 3) := dk_182 0 32 (dk_at dksX17_isWell_0 6 rfl rfl)
theorem dX17_isWell_9 : decode cX17_isWell 9 = .ok (.invokevirtual 36, 3) := dk_182 0 36 (dk_at dksX17_isWell_0 9 rfl rfl)
theorem dX17_isWell_12 : decode cX17_isWell 12 = .ok (.ifCond .eq 22, 3) := dk_153 0 22 (dk_at dksX17_isWell_0 12 rfl rfl)
theorem dX17_isWell_15 : decode cX17_isWell 15 = .ok (.aload_n 0, 1) := dk_42 (dk_at dksX17_isWell_0 15 rfl rfl)
theorem dX17_isWell_16 : decode cX17_isWell 16 = .ok (.aload_n 0, 1) := dk_42 (dk_at dksX17_isWell_0 16 rfl rfl)
theorem dX17_isWell_17 : decode cX17_isWell 17 = .ok (.aload_n 0, 1) := dk_42 (dk_at dksX17_isWell_0 17 rfl rfl)
theorem dX17_isWell_18 : decode cX17_isWell 18 = .ok (.getfield 15, 3) := dk_180 0 15 (dk_at dksX17_isWell_0 18 rfl rfl)
theorem dX17_isWell_21 : decode cX17_isWell 21 = .ok (.invokevirtual 32, 3) := dk_182 0 32 (dk_at dksX17_isWell_0 21 rfl rfl)
theorem dX17_isWell_24 : decode cX17_isWell 24 = .ok (.invokevirtual 36, 3) := dk_182 0 36 (dk_at dksX17_isWell_1 0 rfl rfl)
theorem dX17_isWell_27 : decode cX17_isWell 27 = .ok (.ifCond .eq 7, 3) := dk_153 0 7 (dk_at dksX17_isWell_1 3 rfl rfl)
theorem dX17_isWell_30 : decode cX17_isWell 30 = .ok (.iconst 1, 1) := dk_4 (dk_at dksX17_isWell_1 6 rfl rfl)
theorem dX17_isWell_31 : decode cX17_isWell 31 = .ok (.goto 4, 3) := dk_167 0 4 (dk_at dksX17_isWell_1 7 rfl rfl)
theorem dX17_isWell_34 : decode cX17_isWell 34 = .ok (.iconst 0, 1) := dk_3 (dk_at dksX17_isWell_1 10 rfl rfl)
theorem dX17_isWell_35 : decode cX17_isWell 35 = .ok (.ireturn, 1) := dk_172 (dk_at dksX17_isWell_1 11 rfl rfl)
abbrev cX17_isNumber : ByteArray := prog_3_method_3_code
def yX17_isNumber : MethodName := ⟨RX17, "isNumber", "(LReflectMirror$Type;)Z"⟩
def dkwX17_isNumber_0 : List UInt8 := [43, 198, 0, 21, 43, 182, 0, 19, 154, 0, 14, 43, 182, 0, 25, 158, 0, 7, 4, 167, 0, 4, 3, 172]
abbrev dktX17_isNumber_0 : List UInt8 := dkwX17_isNumber_0 ++ []
theorem dksX17_isNumber_0 : cX17_isNumber.data.toList.drop 0 = dktX17_isNumber_0 := by decide +kernel
theorem dX17_isNumber_0 : decode cX17_isNumber 0 = .ok (.aload_n 1, 1) := dk_43 (dk_at dksX17_isNumber_0 0 rfl rfl)
theorem dX17_isNumber_1 : decode cX17_isNumber 1 = .ok (.ifnull 21, 3) := dk_198 0 21 (dk_at dksX17_isNumber_0 1 rfl rfl)
theorem dX17_isNumber_4 : decode cX17_isNumber 4 = .ok (.aload_n 1, 1) := dk_43 (dk_at dksX17_isNumber_0 4 rfl rfl)
theorem dX17_isNumber_5 : decode cX17_isNumber 5 = .ok (.invokevirtual 19, 3) := dk_182 0 19 (dk_at dksX17_isNumber_0 5 rfl rfl)
theorem dX17_isNumber_8 : decode cX17_isNumber 8 = .ok (.ifCond .ne 14, 3) := dk_154 0 14 (dk_at dksX17_isNumber_0 8 rfl rfl)
theorem dX17_isNumber_11 : decode cX17_isNumber 11 = .ok (.aload_n 1, 1) := dk_43 (dk_at dksX17_isNumber_0 11 rfl rfl)
theorem dX17_isNumber_12 : decode cX17_isNumber 12 = .ok (.invokevirtual 25, 3) := dk_182 0 25 (dk_at dksX17_isNumber_0 12 rfl rfl)
theorem dX17_isNumber_15 : decode cX17_isNumber 15 = .ok (.ifCond .le 7, 3) := dk_158 0 7 (dk_at dksX17_isNumber_0 15 rfl rfl)
theorem dX17_isNumber_18 : decode cX17_isNumber 18 = .ok (.iconst 1, 1) := dk_4 (dk_at dksX17_isNumber_0 18 rfl rfl)
theorem dX17_isNumber_19 : decode cX17_isNumber 19 = .ok (.goto 4, 3) := dk_167 0 4 (dk_at dksX17_isNumber_0 19 rfl rfl)
theorem dX17_isNumber_22 : decode cX17_isNumber 22 = .ok (.iconst 0, 1) := dk_3 (dk_at dksX17_isNumber_0 22 rfl rfl)
theorem dX17_isNumber_23 : decode cX17_isNumber 23 = .ok (.ireturn, 1) := dk_172 (dk_at dksX17_isNumber_0 23 rfl rfl)
abbrev cX17_type : ByteArray := prog_3_method_5_code
def yX17_type : MethodName := ⟨RX17, "type", "()LReflectMirror$Type;"⟩
def dkwX17_type_1 : List UInt8 := [182, 0, 32, 182, 0, 25, 184, 0, 44, 184, 0, 44, 50, 176]
abbrev dktX17_type_1 : List UInt8 := dkwX17_type_1 ++ []
def dkwX17_type_0 : List UInt8 := [42, 180, 0, 3, 180, 0, 40, 7, 42, 42, 180, 0, 29, 182, 0, 32, 182, 0, 25, 42, 42, 180, 0, 15]
abbrev dktX17_type_0 : List UInt8 := dkwX17_type_0 ++ dktX17_type_1
theorem dksX17_type_0 : cX17_type.data.toList.drop 0 = dktX17_type_0 := by decide +kernel
theorem dksX17_type_1 : cX17_type.data.toList.drop 24 = dktX17_type_1 := dk_seg dksX17_type_0 24 rfl rfl
theorem dX17_type_0 : decode cX17_type 0 = .ok (.aload_n 0, 1) := dk_42 (dk_at dksX17_type_0 0 rfl rfl)
theorem dX17_type_1 : decode cX17_type 1 = .ok (.getfield 3, 3) := dk_180 0 3 (dk_at dksX17_type_0 1 rfl rfl)
theorem dX17_type_4 : decode cX17_type 4 = .ok (.getfield 40, 3) := dk_180 0 40 (dk_at dksX17_type_0 4 rfl rfl)
theorem dX17_type_7 : decode cX17_type 7 = .ok (.iconst 4, 1) := dk_7 (dk_at dksX17_type_0 7 rfl rfl)
theorem dX17_type_8 : decode cX17_type 8 = .ok (.aload_n 0, 1) := dk_42 (dk_at dksX17_type_0 8 rfl rfl)
theorem dX17_type_9 : decode cX17_type 9 = .ok (.aload_n 0, 1) := dk_42 (dk_at dksX17_type_0 9 rfl rfl)
theorem dX17_type_10 : decode cX17_type 10 = .ok (.getfield 29, 3) := dk_180 0 29 (dk_at dksX17_type_0 10 rfl rfl)
theorem dX17_type_13 : decode cX17_type 13 = .ok (.invokevirtual 32, 3) := dk_182 0 32 (dk_at dksX17_type_0 13 rfl rfl)
theorem dX17_type_16 : decode cX17_type 16 = .ok (.invokevirtual 25, 3) := dk_182 0 25 (dk_at dksX17_type_0 16 rfl rfl)
theorem dX17_type_19 : decode cX17_type 19 = .ok (.aload_n 0, 1) := dk_42 (dk_at dksX17_type_0 19 rfl rfl)
theorem dX17_type_20 : decode cX17_type 20 = .ok (.aload_n 0, 1) := dk_42 (dk_at dksX17_type_0 20 rfl rfl)
theorem dX17_type_21 : decode cX17_type 21 = .ok (.getfield 15, 3) := dk_180 0 15 (dk_at dksX17_type_0 21 rfl rfl)
theorem dX17_type_24 : decode cX17_type 24 = .ok (.invokevirtual 32, 3) := dk_182 0 32 (dk_at dksX17_type_1 0 rfl rfl)
theorem dX17_type_27 : decode cX17_type 27 = .ok (.invokevirtual 25, 3) := dk_182 0 25 (dk_at dksX17_type_1 3 rfl rfl)
theorem dX17_type_30 : decode cX17_type 30 = .ok (.invokestatic 44, 3) := dk_184 0 44 (dk_at dksX17_type_1 6 rfl rfl)
theorem dX17_type_33 : decode cX17_type 33 = .ok (.invokestatic 44, 3) := dk_184 0 44 (dk_at dksX17_type_1 9 rfl rfl)
theorem dX17_type_36 : decode cX17_type 36 = .ok (.aaload, 1) := dk_50 (dk_at dksX17_type_1 12 rfl rfl)
theorem dX17_type_37 : decode cX17_type 37 = .ok (.areturn, 1) := dk_176 (dk_at dksX17_type_1 13 rfl rfl)
abbrev cX17_kind : ByteArray := prog_3_method_2_code
def yX17_kind : MethodName := ⟨RX17, "kind", "()I"⟩
theorem dX17_kind_0 : decode cX17_kind 0 = .ok (.bipush 6, 2) := by decide +kernel
theorem dX17_kind_2 : decode cX17_kind 2 = .ok (.ireturn, 1) := by decide +kernel
abbrev cX17_work : ByteArray := prog_3_method_6_code
def yX17_work : MethodName := ⟨RX17, "work", "(LReflectMirror$Frame;)V"⟩
def dkwX17_work_8 : List UInt8 := [24, 7, 99, 184, 0, 99, 181, 0, 73, 42, 43, 45, 182, 0, 105, 177]
abbrev dktX17_work_8 : List UInt8 := dkwX17_work_8 ++ []
def dkwX17_work_7 : List UInt8 := [16, 6, 160, 0, 20, 45, 182, 0, 89, 25, 4, 182, 0, 89, 98, 184, 0, 93, 133, 167, 0, 11, 24, 5]
abbrev dktX17_work_7 : List UInt8 := dkwX17_work_7 ++ dktX17_work_8
def dkwX17_work_6 : List UInt8 := [153, 0, 12, 42, 24, 5, 182, 0, 81, 154, 0, 7, 4, 167, 0, 4, 3, 5, 182, 0, 85, 45, 28]
abbrev dktX17_work_6 : List UInt8 := dkwX17_work_6 ++ dktX17_work_7
def dkwX17_work_5 : List UInt8 := [182, 0, 77, 57, 7, 42, 180, 0, 3, 24, 5, 24, 7, 119, 151, 154, 0, 20, 24, 5, 24, 7, 151]
abbrev dktX17_work_5 : List UInt8 := dkwX17_work_5 ++ dktX17_work_6
def dkwX17_work_4 : List UInt8 := [180, 0, 73, 25, 4, 180, 0, 73, 97, 181, 0, 73, 167, 0, 90, 45, 182, 0, 77, 57, 5, 25, 4]
abbrev dktX17_work_4 : List UInt8 := dkwX17_work_4 ++ dktX17_work_5
def dkwX17_work_3 : List UInt8 := [45, 28, 7, 160, 0, 18, 45, 180, 0, 73, 25, 4, 180, 0, 73, 97, 136, 133, 167, 0, 13, 45]
abbrev dktX17_work_3 : List UInt8 := dkwX17_work_3 ++ dktX17_work_4
def dkwX17_work_2 : List UInt8 := [180, 0, 15, 50, 182, 0, 65, 45, 28, 182, 0, 69, 25, 4, 28, 182, 0, 69, 28, 16, 6, 162, 0, 40]
abbrev dktX17_work_2 : List UInt8 := dkwX17_work_2 ++ dktX17_work_3
def dkwX17_work_1 : List UInt8 := [58, 4, 45, 43, 180, 0, 59, 42, 180, 0, 29, 50, 182, 0, 65, 25, 4, 43, 180, 0, 59, 42]
abbrev dktX17_work_1 : List UInt8 := dkwX17_work_1 ++ dktX17_work_2
def dkwX17_work_0 : List UInt8 := [42, 182, 0, 50, 182, 0, 25, 61, 187, 0, 54, 89, 183, 0, 56, 78, 187, 0, 54, 89, 183, 0, 56]
abbrev dktX17_work_0 : List UInt8 := dkwX17_work_0 ++ dktX17_work_1
theorem dksX17_work_0 : cX17_work.data.toList.drop 0 = dktX17_work_0 := by decide +kernel
theorem dksX17_work_1 : cX17_work.data.toList.drop 23 = dktX17_work_1 := dk_seg dksX17_work_0 23 rfl rfl
theorem dksX17_work_2 : cX17_work.data.toList.drop 45 = dktX17_work_2 := dk_seg dksX17_work_1 22 rfl rfl
theorem dksX17_work_3 : cX17_work.data.toList.drop 69 = dktX17_work_3 := dk_seg dksX17_work_2 24 rfl rfl
theorem dksX17_work_4 : cX17_work.data.toList.drop 91 = dktX17_work_4 := dk_seg dksX17_work_3 22 rfl rfl
theorem dksX17_work_5 : cX17_work.data.toList.drop 114 = dktX17_work_5 := dk_seg dksX17_work_4 23 rfl rfl
theorem dksX17_work_6 : cX17_work.data.toList.drop 137 = dktX17_work_6 := dk_seg dksX17_work_5 23 rfl rfl
theorem dksX17_work_7 : cX17_work.data.toList.drop 160 = dktX17_work_7 := dk_seg dksX17_work_6 23 rfl rfl
theorem dksX17_work_8 : cX17_work.data.toList.drop 184 = dktX17_work_8 := dk_seg dksX17_work_7 24 rfl rfl
theorem dX17_work_0 : decode cX17_work 0 = .ok (.aload_n 0, 1) := dk_42 (dk_at dksX17_work_0 0 rfl rfl)
theorem dX17_work_1 : decode cX17_work 1 = .ok (.invokevirtual 50, 3) := dk_182 0 50 (dk_at dksX17_work_0 1 rfl rfl)
theorem dX17_work_4 : decode cX17_work 4 = .ok (.invokevirtual 25, 3) := dk_182 0 25 (dk_at dksX17_work_0 4 rfl rfl)
theorem dX17_work_7 : decode cX17_work 7 = .ok (.istore_n 2, 1) := dk_61 (dk_at dksX17_work_0 7 rfl rfl)
theorem dX17_work_8 : decode cX17_work 8 = .ok (.new 54, 3) := dk_187 0 54 (dk_at dksX17_work_0 8 rfl rfl)
theorem dX17_work_11 : decode cX17_work 11 = .ok (.dup, 1) := dk_89 (dk_at dksX17_work_0 11 rfl rfl)
theorem dX17_work_12 : decode cX17_work 12 = .ok (.invokespecial 56, 3) := dk_183 0 56 (dk_at dksX17_work_0 12 rfl rfl)
theorem dX17_work_15 : decode cX17_work 15 = .ok (.astore_n 3, 1) := dk_78 (dk_at dksX17_work_0 15 rfl rfl)
theorem dX17_work_16 : decode cX17_work 16 = .ok (.new 54, 3) := dk_187 0 54 (dk_at dksX17_work_0 16 rfl rfl)
theorem dX17_work_19 : decode cX17_work 19 = .ok (.dup, 1) := dk_89 (dk_at dksX17_work_0 19 rfl rfl)
theorem dX17_work_20 : decode cX17_work 20 = .ok (.invokespecial 56, 3) := dk_183 0 56 (dk_at dksX17_work_0 20 rfl rfl)
theorem dX17_work_23 : decode cX17_work 23 = .ok (.astore 4, 2) := dk_58 4 (dk_at dksX17_work_1 0 rfl rfl)
theorem dX17_work_25 : decode cX17_work 25 = .ok (.aload_n 3, 1) := dk_45 (dk_at dksX17_work_1 2 rfl rfl)
theorem dX17_work_26 : decode cX17_work 26 = .ok (.aload_n 1, 1) := dk_43 (dk_at dksX17_work_1 3 rfl rfl)
theorem dX17_work_27 : decode cX17_work 27 = .ok (.getfield 59, 3) := dk_180 0 59 (dk_at dksX17_work_1 4 rfl rfl)
theorem dX17_work_30 : decode cX17_work 30 = .ok (.aload_n 0, 1) := dk_42 (dk_at dksX17_work_1 7 rfl rfl)
theorem dX17_work_31 : decode cX17_work 31 = .ok (.getfield 29, 3) := dk_180 0 29 (dk_at dksX17_work_1 8 rfl rfl)
theorem dX17_work_34 : decode cX17_work 34 = .ok (.aaload, 1) := dk_50 (dk_at dksX17_work_1 11 rfl rfl)
theorem dX17_work_35 : decode cX17_work 35 = .ok (.invokevirtual 65, 3) := dk_182 0 65 (dk_at dksX17_work_1 12 rfl rfl)
theorem dX17_work_38 : decode cX17_work 38 = .ok (.aload 4, 2) := dk_25 4 (dk_at dksX17_work_1 15 rfl rfl)
theorem dX17_work_40 : decode cX17_work 40 = .ok (.aload_n 1, 1) := dk_43 (dk_at dksX17_work_1 17 rfl rfl)
theorem dX17_work_41 : decode cX17_work 41 = .ok (.getfield 59, 3) := dk_180 0 59 (dk_at dksX17_work_1 18 rfl rfl)
theorem dX17_work_44 : decode cX17_work 44 = .ok (.aload_n 0, 1) := dk_42 (dk_at dksX17_work_1 21 rfl rfl)
theorem dX17_work_45 : decode cX17_work 45 = .ok (.getfield 15, 3) := dk_180 0 15 (dk_at dksX17_work_2 0 rfl rfl)
theorem dX17_work_48 : decode cX17_work 48 = .ok (.aaload, 1) := dk_50 (dk_at dksX17_work_2 3 rfl rfl)
theorem dX17_work_49 : decode cX17_work 49 = .ok (.invokevirtual 65, 3) := dk_182 0 65 (dk_at dksX17_work_2 4 rfl rfl)
theorem dX17_work_52 : decode cX17_work 52 = .ok (.aload_n 3, 1) := dk_45 (dk_at dksX17_work_2 7 rfl rfl)
theorem dX17_work_53 : decode cX17_work 53 = .ok (.iload_n 2, 1) := dk_28 (dk_at dksX17_work_2 8 rfl rfl)
theorem dX17_work_54 : decode cX17_work 54 = .ok (.invokevirtual 69, 3) := dk_182 0 69 (dk_at dksX17_work_2 9 rfl rfl)
theorem dX17_work_57 : decode cX17_work 57 = .ok (.aload 4, 2) := dk_25 4 (dk_at dksX17_work_2 12 rfl rfl)
theorem dX17_work_59 : decode cX17_work 59 = .ok (.iload_n 2, 1) := dk_28 (dk_at dksX17_work_2 14 rfl rfl)
theorem dX17_work_60 : decode cX17_work 60 = .ok (.invokevirtual 69, 3) := dk_182 0 69 (dk_at dksX17_work_2 15 rfl rfl)
theorem dX17_work_63 : decode cX17_work 63 = .ok (.iload_n 2, 1) := dk_28 (dk_at dksX17_work_2 18 rfl rfl)
theorem dX17_work_64 : decode cX17_work 64 = .ok (.bipush 6, 2) := dk_16 6 (dk_at dksX17_work_2 19 rfl rfl)
theorem dX17_work_66 : decode cX17_work 66 = .ok (.if_icmp .ge 40, 3) := dk_162 0 40 (dk_at dksX17_work_2 21 rfl rfl)
theorem dX17_work_69 : decode cX17_work 69 = .ok (.aload_n 3, 1) := dk_45 (dk_at dksX17_work_3 0 rfl rfl)
theorem dX17_work_70 : decode cX17_work 70 = .ok (.iload_n 2, 1) := dk_28 (dk_at dksX17_work_3 1 rfl rfl)
theorem dX17_work_71 : decode cX17_work 71 = .ok (.iconst 4, 1) := dk_7 (dk_at dksX17_work_3 2 rfl rfl)
theorem dX17_work_72 : decode cX17_work 72 = .ok (.if_icmp .ne 18, 3) := dk_160 0 18 (dk_at dksX17_work_3 3 rfl rfl)
theorem dX17_work_75 : decode cX17_work 75 = .ok (.aload_n 3, 1) := dk_45 (dk_at dksX17_work_3 6 rfl rfl)
theorem dX17_work_76 : decode cX17_work 76 = .ok (.getfield 73, 3) := dk_180 0 73 (dk_at dksX17_work_3 7 rfl rfl)
theorem dX17_work_79 : decode cX17_work 79 = .ok (.aload 4, 2) := dk_25 4 (dk_at dksX17_work_3 10 rfl rfl)
theorem dX17_work_81 : decode cX17_work 81 = .ok (.getfield 73, 3) := dk_180 0 73 (dk_at dksX17_work_3 12 rfl rfl)
theorem dX17_work_84 : decode cX17_work 84 = .ok (.ladd, 1) := dk_97 (dk_at dksX17_work_3 15 rfl rfl)
theorem dX17_work_85 : decode cX17_work 85 = .ok (.l2i, 1) := dk_136 (dk_at dksX17_work_3 16 rfl rfl)
theorem dX17_work_86 : decode cX17_work 86 = .ok (.i2l, 1) := dk_133 (dk_at dksX17_work_3 17 rfl rfl)
theorem dX17_work_87 : decode cX17_work 87 = .ok (.goto 13, 3) := dk_167 0 13 (dk_at dksX17_work_3 18 rfl rfl)
theorem dX17_work_90 : decode cX17_work 90 = .ok (.aload_n 3, 1) := dk_45 (dk_at dksX17_work_3 21 rfl rfl)
theorem dX17_work_91 : decode cX17_work 91 = .ok (.getfield 73, 3) := dk_180 0 73 (dk_at dksX17_work_4 0 rfl rfl)
theorem dX17_work_94 : decode cX17_work 94 = .ok (.aload 4, 2) := dk_25 4 (dk_at dksX17_work_4 3 rfl rfl)
theorem dX17_work_96 : decode cX17_work 96 = .ok (.getfield 73, 3) := dk_180 0 73 (dk_at dksX17_work_4 5 rfl rfl)
theorem dX17_work_99 : decode cX17_work 99 = .ok (.ladd, 1) := dk_97 (dk_at dksX17_work_4 8 rfl rfl)
theorem dX17_work_100 : decode cX17_work 100 = .ok (.putfield 73, 3) := dk_181 0 73 (dk_at dksX17_work_4 9 rfl rfl)
theorem dX17_work_103 : decode cX17_work 103 = .ok (.goto 90, 3) := dk_167 0 90 (dk_at dksX17_work_4 12 rfl rfl)
theorem dX17_work_106 : decode cX17_work 106 = .ok (.aload_n 3, 1) := dk_45 (dk_at dksX17_work_4 15 rfl rfl)
theorem dX17_work_107 : decode cX17_work 107 = .ok (.invokevirtual 77, 3) := dk_182 0 77 (dk_at dksX17_work_4 16 rfl rfl)
theorem dX17_work_110 : decode cX17_work 110 = .ok (.dstore 5, 2) := dk_57 5 (dk_at dksX17_work_4 19 rfl rfl)
theorem dX17_work_112 : decode cX17_work 112 = .ok (.aload 4, 2) := dk_25 4 (dk_at dksX17_work_4 21 rfl rfl)
theorem dX17_work_114 : decode cX17_work 114 = .ok (.invokevirtual 77, 3) := dk_182 0 77 (dk_at dksX17_work_5 0 rfl rfl)
theorem dX17_work_117 : decode cX17_work 117 = .ok (.dstore 7, 2) := dk_57 7 (dk_at dksX17_work_5 3 rfl rfl)
theorem dX17_work_119 : decode cX17_work 119 = .ok (.aload_n 0, 1) := dk_42 (dk_at dksX17_work_5 5 rfl rfl)
theorem dX17_work_120 : decode cX17_work 120 = .ok (.getfield 3, 3) := dk_180 0 3 (dk_at dksX17_work_5 6 rfl rfl)
theorem dX17_work_123 : decode cX17_work 123 = .ok (.dload 5, 2) := dk_24 5 (dk_at dksX17_work_5 9 rfl rfl)
theorem dX17_work_125 : decode cX17_work 125 = .ok (.dload 7, 2) := dk_24 7 (dk_at dksX17_work_5 11 rfl rfl)
theorem dX17_work_127 : decode cX17_work 127 = .ok (.dneg, 1) := dk_119 (dk_at dksX17_work_5 13 rfl rfl)
theorem dX17_work_128 : decode cX17_work 128 = .ok (.dcmp .l, 1) := dk_151 (dk_at dksX17_work_5 14 rfl rfl)
theorem dX17_work_129 : decode cX17_work 129 = .ok (.ifCond .ne 20, 3) := dk_154 0 20 (dk_at dksX17_work_5 15 rfl rfl)
theorem dX17_work_132 : decode cX17_work 132 = .ok (.dload 5, 2) := dk_24 5 (dk_at dksX17_work_5 18 rfl rfl)
theorem dX17_work_134 : decode cX17_work 134 = .ok (.dload 7, 2) := dk_24 7 (dk_at dksX17_work_5 20 rfl rfl)
theorem dX17_work_136 : decode cX17_work 136 = .ok (.dcmp .l, 1) := dk_151 (dk_at dksX17_work_5 22 rfl rfl)
theorem dX17_work_137 : decode cX17_work 137 = .ok (.ifCond .eq 12, 3) := dk_153 0 12 (dk_at dksX17_work_6 0 rfl rfl)
theorem dX17_work_140 : decode cX17_work 140 = .ok (.aload_n 0, 1) := dk_42 (dk_at dksX17_work_6 3 rfl rfl)
theorem dX17_work_141 : decode cX17_work 141 = .ok (.dload 5, 2) := dk_24 5 (dk_at dksX17_work_6 4 rfl rfl)
theorem dX17_work_143 : decode cX17_work 143 = .ok (.invokevirtual 81, 3) := dk_182 0 81 (dk_at dksX17_work_6 6 rfl rfl)
theorem dX17_work_146 : decode cX17_work 146 = .ok (.ifCond .ne 7, 3) := dk_154 0 7 (dk_at dksX17_work_6 9 rfl rfl)
theorem dX17_work_149 : decode cX17_work 149 = .ok (.iconst 1, 1) := dk_4 (dk_at dksX17_work_6 12 rfl rfl)
theorem dX17_work_150 : decode cX17_work 150 = .ok (.goto 4, 3) := dk_167 0 4 (dk_at dksX17_work_6 13 rfl rfl)
theorem dX17_work_153 : decode cX17_work 153 = .ok (.iconst 0, 1) := dk_3 (dk_at dksX17_work_6 16 rfl rfl)
theorem dX17_work_154 : decode cX17_work 154 = .ok (.iconst 2, 1) := dk_5 (dk_at dksX17_work_6 17 rfl rfl)
theorem dX17_work_155 : decode cX17_work 155 = .ok (.invokevirtual 85, 3) := dk_182 0 85 (dk_at dksX17_work_6 18 rfl rfl)
theorem dX17_work_158 : decode cX17_work 158 = .ok (.aload_n 3, 1) := dk_45 (dk_at dksX17_work_6 21 rfl rfl)
theorem dX17_work_159 : decode cX17_work 159 = .ok (.iload_n 2, 1) := dk_28 (dk_at dksX17_work_6 22 rfl rfl)
theorem dX17_work_160 : decode cX17_work 160 = .ok (.bipush 6, 2) := dk_16 6 (dk_at dksX17_work_7 0 rfl rfl)
theorem dX17_work_162 : decode cX17_work 162 = .ok (.if_icmp .ne 20, 3) := dk_160 0 20 (dk_at dksX17_work_7 2 rfl rfl)
theorem dX17_work_165 : decode cX17_work 165 = .ok (.aload_n 3, 1) := dk_45 (dk_at dksX17_work_7 5 rfl rfl)
theorem dX17_work_166 : decode cX17_work 166 = .ok (.invokevirtual 89, 3) := dk_182 0 89 (dk_at dksX17_work_7 6 rfl rfl)
theorem dX17_work_169 : decode cX17_work 169 = .ok (.aload 4, 2) := dk_25 4 (dk_at dksX17_work_7 9 rfl rfl)
theorem dX17_work_171 : decode cX17_work 171 = .ok (.invokevirtual 89, 3) := dk_182 0 89 (dk_at dksX17_work_7 11 rfl rfl)
theorem dX17_work_174 : decode cX17_work 174 = .ok (.fadd, 1) := dk_98 (dk_at dksX17_work_7 14 rfl rfl)
theorem dX17_work_175 : decode cX17_work 175 = .ok (.invokestatic 93, 3) := dk_184 0 93 (dk_at dksX17_work_7 15 rfl rfl)
theorem dX17_work_178 : decode cX17_work 178 = .ok (.i2l, 1) := dk_133 (dk_at dksX17_work_7 18 rfl rfl)
theorem dX17_work_179 : decode cX17_work 179 = .ok (.goto 11, 3) := dk_167 0 11 (dk_at dksX17_work_7 19 rfl rfl)
theorem dX17_work_182 : decode cX17_work 182 = .ok (.dload 5, 2) := dk_24 5 (dk_at dksX17_work_7 22 rfl rfl)
theorem dX17_work_184 : decode cX17_work 184 = .ok (.dload 7, 2) := dk_24 7 (dk_at dksX17_work_8 0 rfl rfl)
theorem dX17_work_186 : decode cX17_work 186 = .ok (.dadd, 1) := dk_99 (dk_at dksX17_work_8 2 rfl rfl)
theorem dX17_work_187 : decode cX17_work 187 = .ok (.invokestatic 99, 3) := dk_184 0 99 (dk_at dksX17_work_8 3 rfl rfl)
theorem dX17_work_190 : decode cX17_work 190 = .ok (.putfield 73, 3) := dk_181 0 73 (dk_at dksX17_work_8 6 rfl rfl)
theorem dX17_work_193 : decode cX17_work 193 = .ok (.aload_n 0, 1) := dk_42 (dk_at dksX17_work_8 9 rfl rfl)
theorem dX17_work_194 : decode cX17_work 194 = .ok (.aload_n 1, 1) := dk_43 (dk_at dksX17_work_8 10 rfl rfl)
theorem dX17_work_195 : decode cX17_work 195 = .ok (.aload_n 3, 1) := dk_45 (dk_at dksX17_work_8 11 rfl rfl)
theorem dX17_work_196 : decode cX17_work 196 = .ok (.invokevirtual 105, 3) := dk_182 0 105 (dk_at dksX17_work_8 12 rfl rfl)
theorem dX17_work_199 : decode cX17_work 199 = .ok (.return_, 1) := dk_177 (dk_at dksX17_work_8 15 rfl rfl)
abbrev cX17_isEndless : ByteArray := prog_3_method_7_code
def yX17_isEndless : MethodName := ⟨RX17, "isEndless", "(D)Z"⟩
def dkwX17_isEndless_0 : List UInt8 := [39, 20, 0, 109, 151, 153, 0, 11, 39, 20, 0, 111, 151, 154, 0, 7, 4, 167, 0, 4, 3, 172]
abbrev dktX17_isEndless_0 : List UInt8 := dkwX17_isEndless_0 ++ []
theorem dksX17_isEndless_0 : cX17_isEndless.data.toList.drop 0 = dktX17_isEndless_0 := by decide +kernel
theorem dX17_isEndless_0 : decode cX17_isEndless 0 = .ok (.dload_n 1, 1) := dk_39 (dk_at dksX17_isEndless_0 0 rfl rfl)
theorem dX17_isEndless_1 : decode cX17_isEndless 1 = .ok (.ldc2_w 109, 3) := dk_20 0 109 (dk_at dksX17_isEndless_0 1 rfl rfl)
theorem dX17_isEndless_4 : decode cX17_isEndless 4 = .ok (.dcmp .l, 1) := dk_151 (dk_at dksX17_isEndless_0 4 rfl rfl)
theorem dX17_isEndless_5 : decode cX17_isEndless 5 = .ok (.ifCond .eq 11, 3) := dk_153 0 11 (dk_at dksX17_isEndless_0 5 rfl rfl)
theorem dX17_isEndless_8 : decode cX17_isEndless 8 = .ok (.dload_n 1, 1) := dk_39 (dk_at dksX17_isEndless_0 8 rfl rfl)
theorem dX17_isEndless_9 : decode cX17_isEndless 9 = .ok (.ldc2_w 111, 3) := dk_20 0 111 (dk_at dksX17_isEndless_0 9 rfl rfl)
theorem dX17_isEndless_12 : decode cX17_isEndless 12 = .ok (.dcmp .l, 1) := dk_151 (dk_at dksX17_isEndless_0 12 rfl rfl)
theorem dX17_isEndless_13 : decode cX17_isEndless 13 = .ok (.ifCond .ne 7, 3) := dk_154 0 7 (dk_at dksX17_isEndless_0 13 rfl rfl)
theorem dX17_isEndless_16 : decode cX17_isEndless 16 = .ok (.iconst 1, 1) := dk_4 (dk_at dksX17_isEndless_0 16 rfl rfl)
theorem dX17_isEndless_17 : decode cX17_isEndless 17 = .ok (.goto 4, 3) := dk_167 0 4 (dk_at dksX17_isEndless_0 17 rfl rfl)
theorem dX17_isEndless_20 : decode cX17_isEndless 20 = .ok (.iconst 0, 1) := dk_3 (dk_at dksX17_isEndless_0 20 rfl rfl)
theorem dX17_isEndless_21 : decode cX17_isEndless 21 = .ok (.ireturn, 1) := dk_172 (dk_at dksX17_isEndless_0 21 rfl rfl)
theorem q111 : (Jvm.Cond.initialized "ReflectMirror$Adding") ∈ lw_all := lw_g (lw_at lw_m1 22 rfl) rfl
theorem q251 : (Jvm.Cond.fieldLink "ReflectMirror$Adding" (73 : Nat) "ReflectMirror$Cell" "bits" "J") ∈ lw_all := lw_g (lw_at lw_m1 162 rfl) rfl
theorem q327 : (Jvm.Cond.fieldLinkNest "ReflectMirror$Adding" (40 : Nat) "ReflectMirror" "types" "[LReflectMirror$Type;" "ReflectMirror") ∈ lw_tbl := lw_at lw_m1 238 rfl
theorem q811 : (Jvm.Cond.fieldLink "ReflectMirror$Adding" (29 : Nat) "ReflectMirror$Adding" "i" "I") ∈ lw_all := lw_g (lw_at lw_m4 2 rfl) rfl
theorem q812 : (Jvm.Cond.sameField "ReflectMirror$Adding" "ReflectMirror$Param" "i" "I") ∈ lw_all := lw_g (lw_at lw_m4 3 rfl) rfl
theorem q890 : (Jvm.Cond.instantiable "ReflectMirror$Adding" (6 : Nat)) ∈ lw_all := lw_g (lw_at lw_m4 81 rfl) rfl
theorem q892 : (Jvm.Cond.instanceMethod ({ cls := "ReflectMirror$Adding", name := "<init>", desc := "(LReflectMirror;LReflectMirror$Member;II)V" } : Jvm.MethodName)) ∈ lw_all := lw_g (lw_at lw_m4 83 rfl) rfl
theorem q893 : (Jvm.Cond.code ({ cls := "ReflectMirror$Adding", name := "<init>", desc := "(LReflectMirror;LReflectMirror$Member;II)V" } : Jvm.MethodName) prog_3_method_1_code (5 : Nat) (Option.none : Option Jvm.ClassFile.FieldType)) ∈ lw_all := lw_g (lw_at lw_m4 84 rfl) rfl
theorem q894 : (Jvm.Cond.methodLink "ReflectMirror$Adding" (9 : Nat) ({ cls := "ReflectMirror$Param", name := "<init>", desc := "(LReflectMirror;LReflectMirror$Member;I)V" } : Jvm.MethodName)) ∈ lw_all := lw_g (lw_at lw_m4 85 rfl) rfl
theorem q895 : (Jvm.Cond.fieldLink "ReflectMirror$Adding" (15 : Nat) "ReflectMirror$Adding" "j" "I") ∈ lw_all := lw_g (lw_at lw_m4 86 rfl) rfl
theorem q896 : (Jvm.Cond.fieldLink "ReflectMirror$Adding" (3 : Nat) "ReflectMirror$Adding" "this$0" "LReflectMirror;") ∈ lw_all := lw_g (lw_at lw_m4 87 rfl) rfl
theorem q897 : (Jvm.Cond.laysFinal "ReflectMirror$Adding" "ReflectMirror$Adding" "j" "I") ∈ lw_all := lw_g (lw_at lw_m4 88 rfl) rfl
theorem q898 : (Jvm.Cond.soleField "ReflectMirror$Adding" "j") ∈ lw_all := lw_g (lw_at lw_m4 89 rfl) rfl
theorem q899 : (Jvm.Cond.laysFinal "ReflectMirror$Adding" "ReflectMirror$Adding" "this$0" "LReflectMirror;") ∈ lw_all := lw_g (lw_at lw_m4 90 rfl) rfl
theorem q900 : (Jvm.Cond.soleField "ReflectMirror$Adding" "this$0") ∈ lw_all := lw_g (lw_at lw_m4 91 rfl) rfl
theorem q901 : (Jvm.Cond.laysFinal "ReflectMirror$Adding" "ReflectMirror$Param" "i" "I") ∈ lw_all := lw_g (lw_at lw_m4 92 rfl) rfl
theorem q902 : (Jvm.Cond.laysFinal "ReflectMirror$Adding" "ReflectMirror$Param" "this$0" "LReflectMirror;") ∈ lw_all := lw_g (lw_at lw_m4 93 rfl) rfl
theorem q903 : (Jvm.Cond.laysFinal "ReflectMirror$Adding" "ReflectMirror$Body" "m" "LReflectMirror$Member;") ∈ lw_all := lw_g (lw_at lw_m4 94 rfl) rfl
theorem q904 : (Jvm.Cond.laysFinal "ReflectMirror$Adding" "ReflectMirror$Body" "this$0" "LReflectMirror;") ∈ lw_all := lw_g (lw_at lw_m4 95 rfl) rfl
theorem q905 : (Jvm.Cond.superclass "ReflectMirror$Adding" "ReflectMirror$Param") ∈ lw_all := lw_g (lw_at lw_m4 96 rfl) rfl
theorem q1016 : (Jvm.Cond.selects "ReflectMirror$Adding" ({ cls := "ReflectMirror$Body", name := "isFit", desc := "()Z" } : Jvm.MethodName) ({ cls := "ReflectMirror$Body", name := "isFit", desc := "()Z" } : Jvm.MethodName)) ∈ lw_all := lw_g (lw_at lw_m4 207 rfl) rfl
theorem q1042 : (Jvm.Cond.selects "ReflectMirror$Adding" ({ cls := "ReflectMirror$Body", name := "isWell", desc := "()Z" } : Jvm.MethodName) ({ cls := "ReflectMirror$Adding", name := "isWell", desc := "()Z" } : Jvm.MethodName)) ∈ lw_all := lw_g (lw_at lw_m4 233 rfl) rfl
theorem q1043 : (Jvm.Cond.instanceMethod ({ cls := "ReflectMirror$Adding", name := "isWell", desc := "()Z" } : Jvm.MethodName)) ∈ lw_all := lw_g (lw_at lw_m4 234 rfl) rfl
theorem q1044 : (Jvm.Cond.code ({ cls := "ReflectMirror$Adding", name := "isWell", desc := "()Z" } : Jvm.MethodName) prog_3_method_4_code (1 : Nat) (Option.some Jvm.ClassFile.FieldType.boolean)) ∈ lw_all := lw_g (lw_at lw_m4 235 rfl) rfl
theorem q1045 : (Jvm.Cond.methodLink "ReflectMirror$Adding" (32 : Nat) ({ cls := "ReflectMirror$Adding", name := "param", desc := "(I)LReflectMirror$Type;" } : Jvm.MethodName)) ∈ lw_all := lw_g (lw_at lw_m4 236 rfl) rfl
theorem q1046 : (Jvm.Cond.sameMethod "ReflectMirror$Adding" "ReflectMirror$Body" "param" "(I)LReflectMirror$Type;") ∈ lw_all := lw_g (lw_at lw_m4 237 rfl) rfl
theorem q1048 : (Jvm.Cond.selects "ReflectMirror$Adding" ({ cls := "ReflectMirror$Adding", name := "param", desc := "(I)LReflectMirror$Type;" } : Jvm.MethodName) ({ cls := "ReflectMirror$Body", name := "param", desc := "(I)LReflectMirror$Type;" } : Jvm.MethodName)) ∈ lw_all := lw_g (lw_at lw_m4 239 rfl) rfl
theorem q1052 : (Jvm.Cond.methodLink "ReflectMirror$Adding" (36 : Nat) ({ cls := "ReflectMirror$Adding", name := "isNumber", desc := "(LReflectMirror$Type;)Z" } : Jvm.MethodName)) ∈ lw_all := lw_g (lw_at lw_m5 3 rfl) rfl
theorem q1053 : (Jvm.Cond.privateMethod ({ cls := "ReflectMirror$Adding", name := "isNumber", desc := "(LReflectMirror$Type;)Z" } : Jvm.MethodName)) ∈ lw_tbl := lw_at lw_m5 4 rfl
theorem q1054 : (Jvm.Cond.instanceMethod ({ cls := "ReflectMirror$Adding", name := "isNumber", desc := "(LReflectMirror$Type;)Z" } : Jvm.MethodName)) ∈ lw_all := lw_g (lw_at lw_m5 5 rfl) rfl
theorem q1055 : (Jvm.Cond.code ({ cls := "ReflectMirror$Adding", name := "isNumber", desc := "(LReflectMirror$Type;)Z" } : Jvm.MethodName) prog_3_method_3_code (2 : Nat) (Option.some Jvm.ClassFile.FieldType.boolean)) ∈ lw_all := lw_g (lw_at lw_m5 6 rfl) rfl
theorem q1056 : (Jvm.Cond.methodLink "ReflectMirror$Adding" (19 : Nat) ({ cls := "ReflectMirror$Type", name := "isReference", desc := "()Z" } : Jvm.MethodName)) ∈ lw_all := lw_g (lw_at lw_m5 7 rfl) rfl
theorem q1057 : (Jvm.Cond.methodLink "ReflectMirror$Adding" (25 : Nat) ({ cls := "ReflectMirror$Type", name := "number", desc := "()I" } : Jvm.MethodName)) ∈ lw_all := lw_g (lw_at lw_m5 8 rfl) rfl
theorem q1084 : (Jvm.Cond.selects "ReflectMirror$Adding" ({ cls := "ReflectMirror$Param", name := "param", desc := "(I)LReflectMirror$Type;" } : Jvm.MethodName) ({ cls := "ReflectMirror$Body", name := "param", desc := "(I)LReflectMirror$Type;" } : Jvm.MethodName)) ∈ lw_all := lw_g (lw_at lw_m5 35 rfl) rfl
theorem q1116 : (Jvm.Cond.selects "ReflectMirror$Adding" ({ cls := "ReflectMirror$Body", name := "type", desc := "()LReflectMirror$Type;" } : Jvm.MethodName) ({ cls := "ReflectMirror$Adding", name := "type", desc := "()LReflectMirror$Type;" } : Jvm.MethodName)) ∈ lw_all := lw_g (lw_at lw_m5 67 rfl) rfl
theorem q1117 : (Jvm.Cond.instanceMethod ({ cls := "ReflectMirror$Adding", name := "type", desc := "()LReflectMirror$Type;" } : Jvm.MethodName)) ∈ lw_all := lw_g (lw_at lw_m5 68 rfl) rfl
theorem q1118 : (Jvm.Cond.code ({ cls := "ReflectMirror$Adding", name := "type", desc := "()LReflectMirror$Type;" } : Jvm.MethodName) prog_3_method_5_code (1 : Nat) (Option.some (Jvm.ClassFile.FieldType.object "ReflectMirror$Type"))) ∈ lw_all := lw_g (lw_at lw_m5 69 rfl) rfl
theorem q1119 : (Jvm.Cond.methodLink "ReflectMirror$Adding" (44 : Nat) ({ cls := "java/lang/Math", name := "max", desc := "(II)I" } : Jvm.MethodName)) ∈ lw_all := lw_g (lw_at lw_m5 70 rfl) rfl
theorem q1150 : (Jvm.Cond.selects "ReflectMirror$Adding" ({ cls := "ReflectMirror$Body", name := "kind", desc := "()I" } : Jvm.MethodName) ({ cls := "ReflectMirror$Adding", name := "kind", desc := "()I" } : Jvm.MethodName)) ∈ lw_all := lw_g (lw_at lw_m5 101 rfl) rfl
theorem q1151 : (Jvm.Cond.instanceMethod ({ cls := "ReflectMirror$Adding", name := "kind", desc := "()I" } : Jvm.MethodName)) ∈ lw_all := lw_g (lw_at lw_m5 102 rfl) rfl
theorem q1152 : (Jvm.Cond.code ({ cls := "ReflectMirror$Adding", name := "kind", desc := "()I" } : Jvm.MethodName) prog_3_method_2_code (1 : Nat) (Option.some Jvm.ClassFile.FieldType.int)) ∈ lw_all := lw_g (lw_at lw_m5 103 rfl) rfl
theorem q1748 : (Jvm.Cond.fieldLink "ReflectMirror$Adding" (59 : Nat) "ReflectMirror$Frame" "args" "[LReflectMirror$Cell;") ∈ lw_all := lw_g (lw_at lw_m7 219 rfl) rfl
theorem q1794 : (Jvm.Cond.selects "ReflectMirror$Adding" ({ cls := "ReflectMirror$Body", name := "work", desc := "(LReflectMirror$Frame;)V" } : Jvm.MethodName) ({ cls := "ReflectMirror$Adding", name := "work", desc := "(LReflectMirror$Frame;)V" } : Jvm.MethodName)) ∈ lw_all := lw_g (lw_at lw_m8 25 rfl) rfl
theorem q1795 : (Jvm.Cond.instanceMethod ({ cls := "ReflectMirror$Adding", name := "work", desc := "(LReflectMirror$Frame;)V" } : Jvm.MethodName)) ∈ lw_all := lw_g (lw_at lw_m8 26 rfl) rfl
theorem q1796 : (Jvm.Cond.code ({ cls := "ReflectMirror$Adding", name := "work", desc := "(LReflectMirror$Frame;)V" } : Jvm.MethodName) prog_3_method_6_code (9 : Nat) (Option.none : Option Jvm.ClassFile.FieldType)) ∈ lw_all := lw_g (lw_at lw_m8 27 rfl) rfl
theorem q1797 : (Jvm.Cond.methodLink "ReflectMirror$Adding" (50 : Nat) ({ cls := "ReflectMirror$Adding", name := "type", desc := "()LReflectMirror$Type;" } : Jvm.MethodName)) ∈ lw_all := lw_g (lw_at lw_m8 28 rfl) rfl
theorem q1798 : (Jvm.Cond.classLink "ReflectMirror$Adding" (54 : Nat) "ReflectMirror$Cell") ∈ lw_all := lw_g (lw_at lw_m8 29 rfl) rfl
theorem q1799 : (Jvm.Cond.methodLinkNest "ReflectMirror$Adding" (56 : Nat) ({ cls := "ReflectMirror$Cell", name := "<init>", desc := "()V" } : Jvm.MethodName) "ReflectMirror") ∈ lw_tbl := lw_at lw_m8 30 rfl
theorem q1800 : (Jvm.Cond.methodLink "ReflectMirror$Adding" (65 : Nat) ({ cls := "ReflectMirror$Cell", name := "become", desc := "(LReflectMirror$Cell;)V" } : Jvm.MethodName)) ∈ lw_all := lw_g (lw_at lw_m8 31 rfl) rfl
theorem q1801 : (Jvm.Cond.methodLink "ReflectMirror$Adding" (69 : Nat) ({ cls := "ReflectMirror$Cell", name := "widen", desc := "(I)V" } : Jvm.MethodName)) ∈ lw_all := lw_g (lw_at lw_m8 32 rfl) rfl
theorem q1802 : (Jvm.Cond.methodLink "ReflectMirror$Adding" (77 : Nat) ({ cls := "ReflectMirror$Cell", name := "real", desc := "()D" } : Jvm.MethodName)) ∈ lw_all := lw_g (lw_at lw_m8 33 rfl) rfl
theorem q1803 : (Jvm.Cond.methodLink "ReflectMirror$Adding" (81 : Nat) ({ cls := "ReflectMirror$Adding", name := "isEndless", desc := "(D)Z" } : Jvm.MethodName)) ∈ lw_all := lw_g (lw_at lw_m8 34 rfl) rfl
theorem q1804 : (Jvm.Cond.privateMethod ({ cls := "ReflectMirror$Adding", name := "isEndless", desc := "(D)Z" } : Jvm.MethodName)) ∈ lw_tbl := lw_at lw_m8 35 rfl
theorem q1805 : (Jvm.Cond.instanceMethod ({ cls := "ReflectMirror$Adding", name := "isEndless", desc := "(D)Z" } : Jvm.MethodName)) ∈ lw_all := lw_g (lw_at lw_m8 36 rfl) rfl
theorem q1806 : (Jvm.Cond.code ({ cls := "ReflectMirror$Adding", name := "isEndless", desc := "(D)Z" } : Jvm.MethodName) prog_3_method_7_code (3 : Nat) (Option.some Jvm.ClassFile.FieldType.boolean)) ∈ lw_all := lw_g (lw_at lw_m8 37 rfl) rfl
theorem q1807 : (Jvm.Cond.constantDouble "ReflectMirror$Adding" (109 : Nat) (9218868437227405312 : UInt64)) ∈ lw_all := lw_g (lw_at lw_m8 38 rfl) rfl
theorem q1808 : (Jvm.Cond.constantDouble "ReflectMirror$Adding" (111 : Nat) (18442240474082181120 : UInt64)) ∈ lw_all := lw_g (lw_at lw_m8 39 rfl) rfl
theorem q1809 : (Jvm.Cond.methodLinkNest "ReflectMirror$Adding" (85 : Nat) ({ cls := "ReflectMirror", name := "need", desc := "(ZI)V" } : Jvm.MethodName) "ReflectMirror") ∈ lw_tbl := lw_at lw_m8 40 rfl
theorem q1810 : (Jvm.Cond.methodLink "ReflectMirror$Adding" (89 : Nat) ({ cls := "ReflectMirror$Cell", name := "single", desc := "()F" } : Jvm.MethodName)) ∈ lw_all := lw_g (lw_at lw_m8 41 rfl) rfl
theorem q1811 : (Jvm.Cond.methodLink "ReflectMirror$Adding" (93 : Nat) ({ cls := "java/lang/Float", name := "floatToIntBits", desc := "(F)I" } : Jvm.MethodName)) ∈ lw_all := lw_g (lw_at lw_m8 42 rfl) rfl
theorem q1812 : (Jvm.Cond.methodLink "ReflectMirror$Adding" (99 : Nat) ({ cls := "java/lang/Double", name := "doubleToLongBits", desc := "(D)J" } : Jvm.MethodName)) ∈ lw_all := lw_g (lw_at lw_m8 43 rfl) rfl
theorem q1813 : (Jvm.Cond.methodLink "ReflectMirror$Adding" (105 : Nat) ({ cls := "ReflectMirror$Adding", name := "gives", desc := "(LReflectMirror$Frame;LReflectMirror$Cell;)V" } : Jvm.MethodName)) ∈ lw_all := lw_g (lw_at lw_m8 44 rfl) rfl
theorem q1814 : (Jvm.Cond.sameMethod "ReflectMirror$Adding" "ReflectMirror$Body" "gives" "(LReflectMirror$Frame;LReflectMirror$Cell;)V") ∈ lw_all := lw_g (lw_at lw_m8 45 rfl) rfl
theorem q1815 : (Jvm.Cond.selects "ReflectMirror$Adding" ({ cls := "ReflectMirror$Adding", name := "gives", desc := "(LReflectMirror$Frame;LReflectMirror$Cell;)V" } : Jvm.MethodName) ({ cls := "ReflectMirror$Body", name := "gives", desc := "(LReflectMirror$Frame;LReflectMirror$Cell;)V" } : Jvm.MethodName)) ∈ lw_all := lw_g (lw_at lw_m8 46 rfl) rfl
theorem q1839 : (Jvm.Cond.selects "ReflectMirror$Adding" ({ cls := "ReflectMirror$Param", name := "gives", desc := "(LReflectMirror$Frame;LReflectMirror$Cell;)V" } : Jvm.MethodName) ({ cls := "ReflectMirror$Body", name := "gives", desc := "(LReflectMirror$Frame;LReflectMirror$Cell;)V" } : Jvm.MethodName)) ∈ lw_all := lw_g (lw_at lw_m8 70 rfl) rfl
theorem q2585 : (Jvm.Cond.selects "ReflectMirror$Adding" ({ cls := "ReflectMirror$Adding", name := "type", desc := "()LReflectMirror$Type;" } : Jvm.MethodName) ({ cls := "ReflectMirror$Adding", name := "type", desc := "()LReflectMirror$Type;" } : Jvm.MethodName)) ∈ lw_all := lw_g (lw_at lw_m11 96 rfl) rfl
theorem q2605 : (Jvm.Cond.castable "ReflectMirror$Adding" "java/lang/Object") ∈ lw_tbl := lw_at lw_m11 116 rfl
theorem in_X17 : ∀ w ∈ wsX170, w ∈ lw_all := lw_in wsX170 [903, 904, 901, 902, 897, 899] (by decide +kernel) (by decide +kernel)

/-! ReflectMirror$Above -/
set_option maxRecDepth 100000
def RX18 : String := "ReflectMirror$Above"
def TX18 : u_T := fun k => match k with
  | 0 => ("ReflectMirror$Body", "m", "LReflectMirror$Member;", true)
  | 1 => ("ReflectMirror$Body", "this$0", "LReflectMirror;", true)
  | 2 => ("ReflectMirror$Calling", "called", "LReflectMirror$Member;", true)
  | 3 => ("ReflectMirror$Calling", "this$0", "LReflectMirror;", true)
  | _ => ("ReflectMirror$Above", "this$0", "LReflectMirror;", true)
def tyX18 : Nat → FieldType := fun k => match k with
  | 0 => .object "ReflectMirror$Member"
  | 1 => .object "ReflectMirror"
  | 2 => .object "ReflectMirror$Member"
  | 3 => .object "ReflectMirror"
  | _ => .object "ReflectMirror"
abbrev wsX180 : List Cond := u_ws RX18 TX18 5
-- two fields of one name: no nmX18
theorem tyX18_ok : ∀ k, k < 5 → parseFieldDescriptor (TX18 k).2.2.1 = some (tyX18 k) := by decide +kernel
abbrev cX18_init : ByteArray := prog_2_method_1_code
def yX18_init : MethodName := ⟨RX18, "<init>", "(LReflectMirror;LReflectMirror$Member;LReflectMirror$Member;)V"⟩
def dkwX18_init_0 : List UInt8 := [42, 43, 181, 0, 3, 42, 43, 44, 45, 183, 0, 9, 177]
abbrev dktX18_init_0 : List UInt8 := dkwX18_init_0 ++ []
theorem dksX18_init_0 : cX18_init.data.toList.drop 0 = dktX18_init_0 := by decide +kernel
theorem dX18_init_0 : decode cX18_init 0 = .ok (.aload_n 0, 1) := dk_42 (dk_at dksX18_init_0 0 rfl rfl)
theorem dX18_init_1 : decode cX18_init 1 = .ok (.aload_n 1, 1) := dk_43 (dk_at dksX18_init_0 1 rfl rfl)
theorem dX18_init_2 : decode cX18_init 2 = .ok (.putfield 3, 3) := dk_181 0 3 (dk_at dksX18_init_0 2 rfl rfl)
theorem dX18_init_5 : decode cX18_init 5 = .ok (.aload_n 0, 1) := dk_42 (dk_at dksX18_init_0 5 rfl rfl)
theorem dX18_init_6 : decode cX18_init 6 = .ok (.aload_n 1, 1) := dk_43 (dk_at dksX18_init_0 6 rfl rfl)
theorem dX18_init_7 : decode cX18_init 7 = .ok (.aload_n 2, 1) := dk_44 (dk_at dksX18_init_0 7 rfl rfl)
theorem dX18_init_8 : decode cX18_init 8 = .ok (.aload_n 3, 1) := dk_45 (dk_at dksX18_init_0 8 rfl rfl)
theorem dX18_init_9 : decode cX18_init 9 = .ok (.invokespecial 9, 3) := dk_183 0 9 (dk_at dksX18_init_0 9 rfl rfl)
theorem dX18_init_12 : decode cX18_init 12 = .ok (.return_, 1) := dk_177 (dk_at dksX18_init_0 12 rfl rfl)
abbrev cX18_isWell : ByteArray := prog_2_method_3_code
def yX18_isWell : MethodName := ⟨RX18, "isWell", "()Z"⟩
def dkwX18_isWell_1 : List UInt8 := [182, 0, 28, 153, 0, 19, 42, 180, 0, 15, 16, 16, 182, 0, 22, 154, 0, 7, 4, 167, 0, 4, 3, 172]
abbrev dktX18_isWell_1 : List UInt8 := dkwX18_isWell_1 ++ []
def dkwX18_isWell_0 : List UInt8 := [42, 180, 0, 15, 198, 0, 40, 42, 180, 0, 19, 7, 182, 0, 22, 154, 0, 29, 42, 180, 0, 15]
abbrev dktX18_isWell_0 : List UInt8 := dkwX18_isWell_0 ++ dktX18_isWell_1
theorem dksX18_isWell_0 : cX18_isWell.data.toList.drop 0 = dktX18_isWell_0 := by decide +kernel
theorem dksX18_isWell_1 : cX18_isWell.data.toList.drop 22 = dktX18_isWell_1 := dk_seg dksX18_isWell_0 22 rfl rfl
theorem dX18_isWell_0 : decode cX18_isWell 0 = .ok (.aload_n 0, 1) := dk_42 (dk_at dksX18_isWell_0 0 rfl rfl)
theorem dX18_isWell_1 : decode cX18_isWell 1 = .ok (.getfield 15, 3) := dk_180 0 15 (dk_at dksX18_isWell_0 1 rfl rfl)
theorem dX18_isWell_4 : decode cX18_isWell 4 = .ok (.ifnull 40, 3) := dk_198 0 40 (dk_at dksX18_isWell_0 4 rfl rfl)
theorem dX18_isWell_7 : decode cX18_isWell 7 = .ok (.aload_n 0, 1) := dk_42 (dk_at dksX18_isWell_0 7 rfl rfl)
theorem dX18_isWell_8 : decode cX18_isWell 8 = .ok (.getfield 19, 3) := dk_180 0 19 (dk_at dksX18_isWell_0 8 rfl rfl)
theorem dX18_isWell_11 : decode cX18_isWell 11 = .ok (.iconst 4, 1) := dk_7 (dk_at dksX18_isWell_0 11 rfl rfl)
theorem dX18_isWell_12 : decode cX18_isWell 12 = .ok (.invokevirtual 22, 3) := dk_182 0 22 (dk_at dksX18_isWell_0 12 rfl rfl)
theorem dX18_isWell_15 : decode cX18_isWell 15 = .ok (.ifCond .ne 29, 3) := dk_154 0 29 (dk_at dksX18_isWell_0 15 rfl rfl)
theorem dX18_isWell_18 : decode cX18_isWell 18 = .ok (.aload_n 0, 1) := dk_42 (dk_at dksX18_isWell_0 18 rfl rfl)
theorem dX18_isWell_19 : decode cX18_isWell 19 = .ok (.getfield 15, 3) := dk_180 0 15 (dk_at dksX18_isWell_0 19 rfl rfl)
theorem dX18_isWell_22 : decode cX18_isWell 22 = .ok (.invokevirtual 28, 3) := dk_182 0 28 (dk_at dksX18_isWell_1 0 rfl rfl)
theorem dX18_isWell_25 : decode cX18_isWell 25 = .ok (.ifCond .eq 19, 3) := dk_153 0 19 (dk_at dksX18_isWell_1 3 rfl rfl)
theorem dX18_isWell_28 : decode cX18_isWell 28 = .ok (.aload_n 0, 1) := dk_42 (dk_at dksX18_isWell_1 6 rfl rfl)
theorem dX18_isWell_29 : decode cX18_isWell 29 = .ok (.getfield 15, 3) := dk_180 0 15 (dk_at dksX18_isWell_1 7 rfl rfl)
theorem dX18_isWell_32 : decode cX18_isWell 32 = .ok (.bipush 16, 2) := dk_16 16 (dk_at dksX18_isWell_1 10 rfl rfl)
theorem dX18_isWell_34 : decode cX18_isWell 34 = .ok (.invokevirtual 22, 3) := dk_182 0 22 (dk_at dksX18_isWell_1 12 rfl rfl)
theorem dX18_isWell_37 : decode cX18_isWell 37 = .ok (.ifCond .ne 7, 3) := dk_154 0 7 (dk_at dksX18_isWell_1 15 rfl rfl)
theorem dX18_isWell_40 : decode cX18_isWell 40 = .ok (.iconst 1, 1) := dk_4 (dk_at dksX18_isWell_1 18 rfl rfl)
theorem dX18_isWell_41 : decode cX18_isWell 41 = .ok (.goto 4, 3) := dk_167 0 4 (dk_at dksX18_isWell_1 19 rfl rfl)
theorem dX18_isWell_44 : decode cX18_isWell 44 = .ok (.iconst 0, 1) := dk_3 (dk_at dksX18_isWell_1 22 rfl rfl)
theorem dX18_isWell_45 : decode cX18_isWell 45 = .ok (.ireturn, 1) := dk_172 (dk_at dksX18_isWell_1 23 rfl rfl)
abbrev cX18_kind : ByteArray := prog_2_method_2_code
def yX18_kind : MethodName := ⟨RX18, "kind", "()I"⟩
theorem dX18_kind_0 : decode cX18_kind 0 = .ok (.bipush 7, 2) := by decide +kernel
theorem dX18_kind_2 : decode cX18_kind 2 = .ok (.ireturn, 1) := by decide +kernel
abbrev cX18_isItself : ByteArray := prog_2_method_4_code
def yX18_isItself : MethodName := ⟨RX18, "isItself", "()Z"⟩
theorem dX18_isItself_0 : decode cX18_isItself 0 = .ok (.iconst 1, 1) := by decide +kernel
theorem dX18_isItself_1 : decode cX18_isItself 1 = .ok (.ireturn, 1) := by decide +kernel
theorem q112 : (Jvm.Cond.initialized "ReflectMirror$Above") ∈ lw_all := lw_g (lw_at lw_m1 23 rfl) rfl
theorem q773 : (Jvm.Cond.fieldLink "ReflectMirror$Above" (19 : Nat) "ReflectMirror$Above" "m" "LReflectMirror$Member;") ∈ lw_all := lw_g (lw_at lw_m3 204 rfl) rfl
theorem q774 : (Jvm.Cond.sameField "ReflectMirror$Above" "ReflectMirror$Body" "m" "LReflectMirror$Member;") ∈ lw_all := lw_g (lw_at lw_m3 205 rfl) rfl
theorem q879 : (Jvm.Cond.fieldLink "ReflectMirror$Above" (15 : Nat) "ReflectMirror$Above" "called" "LReflectMirror$Member;") ∈ lw_all := lw_g (lw_at lw_m4 70 rfl) rfl
theorem q880 : (Jvm.Cond.sameField "ReflectMirror$Above" "ReflectMirror$Calling" "called" "LReflectMirror$Member;") ∈ lw_all := lw_g (lw_at lw_m4 71 rfl) rfl
theorem q907 : (Jvm.Cond.instantiable "ReflectMirror$Above" (5 : Nat)) ∈ lw_all := lw_g (lw_at lw_m4 98 rfl) rfl
theorem q984 : (Jvm.Cond.instanceMethod ({ cls := "ReflectMirror$Above", name := "<init>", desc := "(LReflectMirror;LReflectMirror$Member;LReflectMirror$Member;)V" } : Jvm.MethodName)) ∈ lw_all := lw_g (lw_at lw_m4 175 rfl) rfl
theorem q985 : (Jvm.Cond.code ({ cls := "ReflectMirror$Above", name := "<init>", desc := "(LReflectMirror;LReflectMirror$Member;LReflectMirror$Member;)V" } : Jvm.MethodName) prog_2_method_1_code (4 : Nat) (Option.none : Option Jvm.ClassFile.FieldType)) ∈ lw_all := lw_g (lw_at lw_m4 176 rfl) rfl
theorem q986 : (Jvm.Cond.methodLink "ReflectMirror$Above" (9 : Nat) ({ cls := "ReflectMirror$Calling", name := "<init>", desc := "(LReflectMirror;LReflectMirror$Member;LReflectMirror$Member;)V" } : Jvm.MethodName)) ∈ lw_all := lw_g (lw_at lw_m4 177 rfl) rfl
theorem q987 : (Jvm.Cond.fieldLink "ReflectMirror$Above" (3 : Nat) "ReflectMirror$Above" "this$0" "LReflectMirror;") ∈ lw_all := lw_g (lw_at lw_m4 178 rfl) rfl
theorem q988 : (Jvm.Cond.laysFinal "ReflectMirror$Above" "ReflectMirror$Above" "this$0" "LReflectMirror;") ∈ lw_all := lw_g (lw_at lw_m4 179 rfl) rfl
theorem q989 : (Jvm.Cond.soleField "ReflectMirror$Above" "this$0") ∈ lw_all := lw_g (lw_at lw_m4 180 rfl) rfl
theorem q990 : (Jvm.Cond.laysFinal "ReflectMirror$Above" "ReflectMirror$Calling" "called" "LReflectMirror$Member;") ∈ lw_all := lw_g (lw_at lw_m4 181 rfl) rfl
theorem q991 : (Jvm.Cond.laysFinal "ReflectMirror$Above" "ReflectMirror$Calling" "this$0" "LReflectMirror;") ∈ lw_all := lw_g (lw_at lw_m4 182 rfl) rfl
theorem q992 : (Jvm.Cond.laysFinal "ReflectMirror$Above" "ReflectMirror$Body" "m" "LReflectMirror$Member;") ∈ lw_all := lw_g (lw_at lw_m4 183 rfl) rfl
theorem q993 : (Jvm.Cond.laysFinal "ReflectMirror$Above" "ReflectMirror$Body" "this$0" "LReflectMirror;") ∈ lw_all := lw_g (lw_at lw_m4 184 rfl) rfl
theorem q994 : (Jvm.Cond.superclass "ReflectMirror$Above" "ReflectMirror$Calling") ∈ lw_all := lw_g (lw_at lw_m4 185 rfl) rfl
theorem q1015 : (Jvm.Cond.selects "ReflectMirror$Above" ({ cls := "ReflectMirror$Body", name := "isFit", desc := "()Z" } : Jvm.MethodName) ({ cls := "ReflectMirror$Body", name := "isFit", desc := "()Z" } : Jvm.MethodName)) ∈ lw_all := lw_g (lw_at lw_m4 206 rfl) rfl
theorem q1028 : (Jvm.Cond.selects "ReflectMirror$Above" ({ cls := "ReflectMirror$Body", name := "isWell", desc := "()Z" } : Jvm.MethodName) ({ cls := "ReflectMirror$Above", name := "isWell", desc := "()Z" } : Jvm.MethodName)) ∈ lw_all := lw_g (lw_at lw_m4 219 rfl) rfl
theorem q1029 : (Jvm.Cond.instanceMethod ({ cls := "ReflectMirror$Above", name := "isWell", desc := "()Z" } : Jvm.MethodName)) ∈ lw_all := lw_g (lw_at lw_m4 220 rfl) rfl
theorem q1030 : (Jvm.Cond.code ({ cls := "ReflectMirror$Above", name := "isWell", desc := "()Z" } : Jvm.MethodName) prog_2_method_3_code (1 : Nat) (Option.some Jvm.ClassFile.FieldType.boolean)) ∈ lw_all := lw_g (lw_at lw_m4 221 rfl) rfl
theorem q1031 : (Jvm.Cond.methodLink "ReflectMirror$Above" (22 : Nat) ({ cls := "ReflectMirror$Member", name := "has", desc := "(I)Z" } : Jvm.MethodName)) ∈ lw_all := lw_g (lw_at lw_m4 222 rfl) rfl
theorem q1032 : (Jvm.Cond.methodLink "ReflectMirror$Above" (28 : Nat) ({ cls := "ReflectMirror$Member", name := "isMet", desc := "()Z" } : Jvm.MethodName)) ∈ lw_all := lw_g (lw_at lw_m4 223 rfl) rfl
theorem q1064 : (Jvm.Cond.selects "ReflectMirror$Above" ({ cls := "ReflectMirror$Calling", name := "isNear", desc := "(LReflectMirror$Member;)Z" } : Jvm.MethodName) ({ cls := "ReflectMirror$Body", name := "isNear", desc := "(LReflectMirror$Member;)Z" } : Jvm.MethodName)) ∈ lw_all := lw_g (lw_at lw_m5 15 rfl) rfl
theorem q1113 : (Jvm.Cond.selects "ReflectMirror$Above" ({ cls := "ReflectMirror$Body", name := "type", desc := "()LReflectMirror$Type;" } : Jvm.MethodName) ({ cls := "ReflectMirror$Calling", name := "type", desc := "()LReflectMirror$Type;" } : Jvm.MethodName)) ∈ lw_all := lw_g (lw_at lw_m5 64 rfl) rfl
theorem q1147 : (Jvm.Cond.selects "ReflectMirror$Above" ({ cls := "ReflectMirror$Body", name := "kind", desc := "()I" } : Jvm.MethodName) ({ cls := "ReflectMirror$Above", name := "kind", desc := "()I" } : Jvm.MethodName)) ∈ lw_all := lw_g (lw_at lw_m5 98 rfl) rfl
theorem q1148 : (Jvm.Cond.instanceMethod ({ cls := "ReflectMirror$Above", name := "kind", desc := "()I" } : Jvm.MethodName)) ∈ lw_all := lw_g (lw_at lw_m5 99 rfl) rfl
theorem q1149 : (Jvm.Cond.code ({ cls := "ReflectMirror$Above", name := "kind", desc := "()I" } : Jvm.MethodName) prog_2_method_2_code (1 : Nat) (Option.some Jvm.ClassFile.FieldType.int)) ∈ lw_all := lw_g (lw_at lw_m5 100 rfl) rfl
theorem q1767 : (Jvm.Cond.selects "ReflectMirror$Above" ({ cls := "ReflectMirror$Body", name := "work", desc := "(LReflectMirror$Frame;)V" } : Jvm.MethodName) ({ cls := "ReflectMirror$Calling", name := "work", desc := "(LReflectMirror$Frame;)V" } : Jvm.MethodName)) ∈ lw_all := lw_g (lw_at lw_m7 238 rfl) rfl
theorem q1776 : (Jvm.Cond.selects "ReflectMirror$Above" ({ cls := "ReflectMirror$Calling", name := "isItself", desc := "()Z" } : Jvm.MethodName) ({ cls := "ReflectMirror$Above", name := "isItself", desc := "()Z" } : Jvm.MethodName)) ∈ lw_all := lw_g (lw_at lw_m8 7 rfl) rfl
theorem q1777 : (Jvm.Cond.instanceMethod ({ cls := "ReflectMirror$Above", name := "isItself", desc := "()Z" } : Jvm.MethodName)) ∈ lw_all := lw_g (lw_at lw_m8 8 rfl) rfl
theorem q1778 : (Jvm.Cond.code ({ cls := "ReflectMirror$Above", name := "isItself", desc := "()Z" } : Jvm.MethodName) prog_2_method_4_code (1 : Nat) (Option.some Jvm.ClassFile.FieldType.boolean)) ∈ lw_all := lw_g (lw_at lw_m8 9 rfl) rfl
theorem q1784 : (Jvm.Cond.selects "ReflectMirror$Above" ({ cls := "ReflectMirror$Calling", name := "gives", desc := "(LReflectMirror$Frame;LReflectMirror$Cell;)V" } : Jvm.MethodName) ({ cls := "ReflectMirror$Body", name := "gives", desc := "(LReflectMirror$Frame;LReflectMirror$Cell;)V" } : Jvm.MethodName)) ∈ lw_all := lw_g (lw_at lw_m8 15 rfl) rfl
theorem q2606 : (Jvm.Cond.castable "ReflectMirror$Above" "java/lang/Object") ∈ lw_tbl := lw_at lw_m11 117 rfl
theorem in_X18 : ∀ w ∈ wsX180, w ∈ lw_all := lw_in wsX180 [992, 993, 990, 991, 988] (by decide +kernel) (by decide +kernel)

/-! ReflectMirror$Search -/
set_option maxRecDepth 100000
def RX19 : String := "ReflectMirror$Search"
abbrev cX19_init : ByteArray := prog_24_method_1_code
def yX19_init : MethodName := ⟨RX19, "<init>", "(LReflectMirror;I)V"⟩
def dkwX19_init_0 : List UInt8 := [42, 43, 181, 0, 3, 42, 183, 0, 9, 42, 16, 60, 188, 4, 181, 0, 15, 42, 28, 181, 0, 19, 177]
abbrev dktX19_init_0 : List UInt8 := dkwX19_init_0 ++ []
theorem dksX19_init_0 : cX19_init.data.toList.drop 0 = dktX19_init_0 := by decide +kernel
theorem dX19_init_0 : decode cX19_init 0 = .ok (.aload_n 0, 1) := dk_42 (dk_at dksX19_init_0 0 rfl rfl)
theorem dX19_init_1 : decode cX19_init 1 = .ok (.aload_n 1, 1) := dk_43 (dk_at dksX19_init_0 1 rfl rfl)
theorem dX19_init_2 : decode cX19_init 2 = .ok (.putfield 3, 3) := dk_181 0 3 (dk_at dksX19_init_0 2 rfl rfl)
theorem dX19_init_5 : decode cX19_init 5 = .ok (.aload_n 0, 1) := dk_42 (dk_at dksX19_init_0 5 rfl rfl)
theorem dX19_init_6 : decode cX19_init 6 = .ok (.invokespecial 9, 3) := dk_183 0 9 (dk_at dksX19_init_0 6 rfl rfl)
theorem dX19_init_9 : decode cX19_init 9 = .ok (.aload_n 0, 1) := dk_42 (dk_at dksX19_init_0 9 rfl rfl)
theorem dX19_init_10 : decode cX19_init 10 = .ok (.bipush 60, 2) := dk_16 60 (dk_at dksX19_init_0 10 rfl rfl)
theorem dX19_init_12 : decode cX19_init 12 = .ok (.newarray .boolean, 2) := dk_188_4 (dk_at dksX19_init_0 12 rfl rfl)
theorem dX19_init_14 : decode cX19_init 14 = .ok (.putfield 15, 3) := dk_181 0 15 (dk_at dksX19_init_0 14 rfl rfl)
theorem dX19_init_17 : decode cX19_init 17 = .ok (.aload_n 0, 1) := dk_42 (dk_at dksX19_init_0 17 rfl rfl)
theorem dX19_init_18 : decode cX19_init 18 = .ok (.iload_n 2, 1) := dk_28 (dk_at dksX19_init_0 18 rfl rfl)
theorem dX19_init_19 : decode cX19_init 19 = .ok (.putfield 19, 3) := dk_181 0 19 (dk_at dksX19_init_0 19 rfl rfl)
theorem dX19_init_22 : decode cX19_init 22 = .ok (.return_, 1) := dk_177 (dk_at dksX19_init_0 22 rfl rfl)
abbrev cX19_from : ByteArray := prog_24_method_6_code
def yX19_from : MethodName := ⟨RX19, "from", "(LReflectMirror$Type;)LReflectMirror$Member;"⟩
def dkwX19_from_3 : List UInt8 := [167, 0, 23, 42, 182, 0, 47, 153, 0, 11, 42, 43, 182, 0, 54, 167, 0, 8, 42, 43, 182, 0, 51, 176]
abbrev dktX19_from_3 : List UInt8 := dkwX19_from_3 ++ []
def dkwX19_from_2 : List UInt8 := [153, 0, 11, 42, 43, 182, 0, 51, 167, 0, 8, 42, 43, 182, 0, 54, 77, 44, 198, 0, 7, 44]
abbrev dktX19_from_2 : List UInt8 := dkwX19_from_2 ++ dktX19_from_3
def dkwX19_from_1 : List UInt8 := [42, 43, 182, 0, 44, 77, 44, 199, 0, 10, 42, 180, 0, 19, 154, 0, 5, 44, 176, 42, 182, 0, 47]
abbrev dktX19_from_1 : List UInt8 := dkwX19_from_1 ++ dktX19_from_2
def dkwX19_from_0 : List UInt8 := [42, 180, 0, 15, 43, 182, 0, 40, 51, 153, 0, 5, 1, 176, 42, 180, 0, 15, 43, 182, 0, 40, 4, 84]
abbrev dktX19_from_0 : List UInt8 := dkwX19_from_0 ++ dktX19_from_1
theorem dksX19_from_0 : cX19_from.data.toList.drop 0 = dktX19_from_0 := by decide +kernel
theorem dksX19_from_1 : cX19_from.data.toList.drop 24 = dktX19_from_1 := dk_seg dksX19_from_0 24 rfl rfl
theorem dksX19_from_2 : cX19_from.data.toList.drop 47 = dktX19_from_2 := dk_seg dksX19_from_1 23 rfl rfl
theorem dksX19_from_3 : cX19_from.data.toList.drop 69 = dktX19_from_3 := dk_seg dksX19_from_2 22 rfl rfl
theorem dX19_from_0 : decode cX19_from 0 = .ok (.aload_n 0, 1) := dk_42 (dk_at dksX19_from_0 0 rfl rfl)
theorem dX19_from_1 : decode cX19_from 1 = .ok (.getfield 15, 3) := dk_180 0 15 (dk_at dksX19_from_0 1 rfl rfl)
theorem dX19_from_4 : decode cX19_from 4 = .ok (.aload_n 1, 1) := dk_43 (dk_at dksX19_from_0 4 rfl rfl)
theorem dX19_from_5 : decode cX19_from 5 = .ok (.invokevirtual 40, 3) := dk_182 0 40 (dk_at dksX19_from_0 5 rfl rfl)
theorem dX19_from_8 : decode cX19_from 8 = .ok (.baload, 1) := dk_51 (dk_at dksX19_from_0 8 rfl rfl)
theorem dX19_from_9 : decode cX19_from 9 = .ok (.ifCond .eq 5, 3) := dk_153 0 5 (dk_at dksX19_from_0 9 rfl rfl)
theorem dX19_from_12 : decode cX19_from 12 = .ok (.aconst_null, 1) := dk_1 (dk_at dksX19_from_0 12 rfl rfl)
theorem dX19_from_13 : decode cX19_from 13 = .ok (.areturn, 1) := dk_176 (dk_at dksX19_from_0 13 rfl rfl)
theorem dX19_from_14 : decode cX19_from 14 = .ok (.aload_n 0, 1) := dk_42 (dk_at dksX19_from_0 14 rfl rfl)
theorem dX19_from_15 : decode cX19_from 15 = .ok (.getfield 15, 3) := dk_180 0 15 (dk_at dksX19_from_0 15 rfl rfl)
theorem dX19_from_18 : decode cX19_from 18 = .ok (.aload_n 1, 1) := dk_43 (dk_at dksX19_from_0 18 rfl rfl)
theorem dX19_from_19 : decode cX19_from 19 = .ok (.invokevirtual 40, 3) := dk_182 0 40 (dk_at dksX19_from_0 19 rfl rfl)
theorem dX19_from_22 : decode cX19_from 22 = .ok (.iconst 1, 1) := dk_4 (dk_at dksX19_from_0 22 rfl rfl)
theorem dX19_from_23 : decode cX19_from 23 = .ok (.bastore, 1) := dk_84 (dk_at dksX19_from_0 23 rfl rfl)
theorem dX19_from_24 : decode cX19_from 24 = .ok (.aload_n 0, 1) := dk_42 (dk_at dksX19_from_1 0 rfl rfl)
theorem dX19_from_25 : decode cX19_from 25 = .ok (.aload_n 1, 1) := dk_43 (dk_at dksX19_from_1 1 rfl rfl)
theorem dX19_from_26 : decode cX19_from 26 = .ok (.invokevirtual 44, 3) := dk_182 0 44 (dk_at dksX19_from_1 2 rfl rfl)
theorem dX19_from_29 : decode cX19_from 29 = .ok (.astore_n 2, 1) := dk_77 (dk_at dksX19_from_1 5 rfl rfl)
theorem dX19_from_30 : decode cX19_from 30 = .ok (.aload_n 2, 1) := dk_44 (dk_at dksX19_from_1 6 rfl rfl)
theorem dX19_from_31 : decode cX19_from 31 = .ok (.ifnonnull 10, 3) := dk_199 0 10 (dk_at dksX19_from_1 7 rfl rfl)
theorem dX19_from_34 : decode cX19_from 34 = .ok (.aload_n 0, 1) := dk_42 (dk_at dksX19_from_1 10 rfl rfl)
theorem dX19_from_35 : decode cX19_from 35 = .ok (.getfield 19, 3) := dk_180 0 19 (dk_at dksX19_from_1 11 rfl rfl)
theorem dX19_from_38 : decode cX19_from 38 = .ok (.ifCond .ne 5, 3) := dk_154 0 5 (dk_at dksX19_from_1 14 rfl rfl)
theorem dX19_from_41 : decode cX19_from 41 = .ok (.aload_n 2, 1) := dk_44 (dk_at dksX19_from_1 17 rfl rfl)
theorem dX19_from_42 : decode cX19_from 42 = .ok (.areturn, 1) := dk_176 (dk_at dksX19_from_1 18 rfl rfl)
theorem dX19_from_43 : decode cX19_from 43 = .ok (.aload_n 0, 1) := dk_42 (dk_at dksX19_from_1 19 rfl rfl)
theorem dX19_from_44 : decode cX19_from 44 = .ok (.invokevirtual 47, 3) := dk_182 0 47 (dk_at dksX19_from_1 20 rfl rfl)
theorem dX19_from_47 : decode cX19_from 47 = .ok (.ifCond .eq 11, 3) := dk_153 0 11 (dk_at dksX19_from_2 0 rfl rfl)
theorem dX19_from_50 : decode cX19_from 50 = .ok (.aload_n 0, 1) := dk_42 (dk_at dksX19_from_2 3 rfl rfl)
theorem dX19_from_51 : decode cX19_from 51 = .ok (.aload_n 1, 1) := dk_43 (dk_at dksX19_from_2 4 rfl rfl)
theorem dX19_from_52 : decode cX19_from 52 = .ok (.invokevirtual 51, 3) := dk_182 0 51 (dk_at dksX19_from_2 5 rfl rfl)
theorem dX19_from_55 : decode cX19_from 55 = .ok (.goto 8, 3) := dk_167 0 8 (dk_at dksX19_from_2 8 rfl rfl)
theorem dX19_from_58 : decode cX19_from 58 = .ok (.aload_n 0, 1) := dk_42 (dk_at dksX19_from_2 11 rfl rfl)
theorem dX19_from_59 : decode cX19_from 59 = .ok (.aload_n 1, 1) := dk_43 (dk_at dksX19_from_2 12 rfl rfl)
theorem dX19_from_60 : decode cX19_from 60 = .ok (.invokevirtual 54, 3) := dk_182 0 54 (dk_at dksX19_from_2 13 rfl rfl)
theorem dX19_from_63 : decode cX19_from 63 = .ok (.astore_n 2, 1) := dk_77 (dk_at dksX19_from_2 16 rfl rfl)
theorem dX19_from_64 : decode cX19_from 64 = .ok (.aload_n 2, 1) := dk_44 (dk_at dksX19_from_2 17 rfl rfl)
theorem dX19_from_65 : decode cX19_from 65 = .ok (.ifnull 7, 3) := dk_198 0 7 (dk_at dksX19_from_2 18 rfl rfl)
theorem dX19_from_68 : decode cX19_from 68 = .ok (.aload_n 2, 1) := dk_44 (dk_at dksX19_from_2 21 rfl rfl)
theorem dX19_from_69 : decode cX19_from 69 = .ok (.goto 23, 3) := dk_167 0 23 (dk_at dksX19_from_3 0 rfl rfl)
theorem dX19_from_72 : decode cX19_from 72 = .ok (.aload_n 0, 1) := dk_42 (dk_at dksX19_from_3 3 rfl rfl)
theorem dX19_from_73 : decode cX19_from 73 = .ok (.invokevirtual 47, 3) := dk_182 0 47 (dk_at dksX19_from_3 4 rfl rfl)
theorem dX19_from_76 : decode cX19_from 76 = .ok (.ifCond .eq 11, 3) := dk_153 0 11 (dk_at dksX19_from_3 7 rfl rfl)
theorem dX19_from_79 : decode cX19_from 79 = .ok (.aload_n 0, 1) := dk_42 (dk_at dksX19_from_3 10 rfl rfl)
theorem dX19_from_80 : decode cX19_from 80 = .ok (.aload_n 1, 1) := dk_43 (dk_at dksX19_from_3 11 rfl rfl)
theorem dX19_from_81 : decode cX19_from 81 = .ok (.invokevirtual 54, 3) := dk_182 0 54 (dk_at dksX19_from_3 12 rfl rfl)
theorem dX19_from_84 : decode cX19_from 84 = .ok (.goto 8, 3) := dk_167 0 8 (dk_at dksX19_from_3 15 rfl rfl)
theorem dX19_from_87 : decode cX19_from 87 = .ok (.aload_n 0, 1) := dk_42 (dk_at dksX19_from_3 18 rfl rfl)
theorem dX19_from_88 : decode cX19_from 88 = .ok (.aload_n 1, 1) := dk_43 (dk_at dksX19_from_3 19 rfl rfl)
theorem dX19_from_89 : decode cX19_from 89 = .ok (.invokevirtual 51, 3) := dk_182 0 51 (dk_at dksX19_from_3 20 rfl rfl)
theorem dX19_from_92 : decode cX19_from 92 = .ok (.areturn, 1) := dk_176 (dk_at dksX19_from_3 23 rfl rfl)
abbrev cX19_isFaceFirst : ByteArray := prog_24_method_3_code
def yX19_isFaceFirst : MethodName := ⟨RX19, "isFaceFirst", "()Z"⟩
theorem dX19_isFaceFirst_0 : decode cX19_isFaceFirst 0 = .ok (.iconst 0, 1) := by decide +kernel
theorem dX19_isFaceFirst_1 : decode cX19_isFaceFirst 1 = .ok (.ireturn, 1) := by decide +kernel
abbrev cX19_inFaces : ByteArray := prog_24_method_4_code
def yX19_inFaces : MethodName := ⟨RX19, "inFaces", "(LReflectMirror$Type;)LReflectMirror$Member;"⟩
def dkwX19_inFaces_1 : List UInt8 := [182, 0, 32, 77, 132, 3, 1, 167, 255, 230, 44, 176]
abbrev dktX19_inFaces_1 : List UInt8 := dkwX19_inFaces_1 ++ []
def dkwX19_inFaces_0 : List UInt8 := [1, 77, 3, 62, 29, 43, 180, 0, 23, 162, 0, 24, 44, 199, 0, 20, 42, 43, 180, 0, 28, 29, 50]
abbrev dktX19_inFaces_0 : List UInt8 := dkwX19_inFaces_0 ++ dktX19_inFaces_1
theorem dksX19_inFaces_0 : cX19_inFaces.data.toList.drop 0 = dktX19_inFaces_0 := by decide +kernel
theorem dksX19_inFaces_1 : cX19_inFaces.data.toList.drop 23 = dktX19_inFaces_1 := dk_seg dksX19_inFaces_0 23 rfl rfl
theorem dX19_inFaces_0 : decode cX19_inFaces 0 = .ok (.aconst_null, 1) := dk_1 (dk_at dksX19_inFaces_0 0 rfl rfl)
theorem dX19_inFaces_1 : decode cX19_inFaces 1 = .ok (.astore_n 2, 1) := dk_77 (dk_at dksX19_inFaces_0 1 rfl rfl)
theorem dX19_inFaces_2 : decode cX19_inFaces 2 = .ok (.iconst 0, 1) := dk_3 (dk_at dksX19_inFaces_0 2 rfl rfl)
theorem dX19_inFaces_3 : decode cX19_inFaces 3 = .ok (.istore_n 3, 1) := dk_62 (dk_at dksX19_inFaces_0 3 rfl rfl)
theorem dX19_inFaces_4 : decode cX19_inFaces 4 = .ok (.iload_n 3, 1) := dk_29 (dk_at dksX19_inFaces_0 4 rfl rfl)
theorem dX19_inFaces_5 : decode cX19_inFaces 5 = .ok (.aload_n 1, 1) := dk_43 (dk_at dksX19_inFaces_0 5 rfl rfl)
theorem dX19_inFaces_6 : decode cX19_inFaces 6 = .ok (.getfield 23, 3) := dk_180 0 23 (dk_at dksX19_inFaces_0 6 rfl rfl)
theorem dX19_inFaces_9 : decode cX19_inFaces 9 = .ok (.if_icmp .ge 24, 3) := dk_162 0 24 (dk_at dksX19_inFaces_0 9 rfl rfl)
theorem dX19_inFaces_12 : decode cX19_inFaces 12 = .ok (.aload_n 2, 1) := dk_44 (dk_at dksX19_inFaces_0 12 rfl rfl)
theorem dX19_inFaces_13 : decode cX19_inFaces 13 = .ok (.ifnonnull 20, 3) := dk_199 0 20 (dk_at dksX19_inFaces_0 13 rfl rfl)
theorem dX19_inFaces_16 : decode cX19_inFaces 16 = .ok (.aload_n 0, 1) := dk_42 (dk_at dksX19_inFaces_0 16 rfl rfl)
theorem dX19_inFaces_17 : decode cX19_inFaces 17 = .ok (.aload_n 1, 1) := dk_43 (dk_at dksX19_inFaces_0 17 rfl rfl)
theorem dX19_inFaces_18 : decode cX19_inFaces 18 = .ok (.getfield 28, 3) := dk_180 0 28 (dk_at dksX19_inFaces_0 18 rfl rfl)
theorem dX19_inFaces_21 : decode cX19_inFaces 21 = .ok (.iload_n 3, 1) := dk_29 (dk_at dksX19_inFaces_0 21 rfl rfl)
theorem dX19_inFaces_22 : decode cX19_inFaces 22 = .ok (.aaload, 1) := dk_50 (dk_at dksX19_inFaces_0 22 rfl rfl)
theorem dX19_inFaces_23 : decode cX19_inFaces 23 = .ok (.invokevirtual 32, 3) := dk_182 0 32 (dk_at dksX19_inFaces_1 0 rfl rfl)
theorem dX19_inFaces_26 : decode cX19_inFaces 26 = .ok (.astore_n 2, 1) := dk_77 (dk_at dksX19_inFaces_1 3 rfl rfl)
theorem dX19_inFaces_27 : decode cX19_inFaces 27 = .ok (.iinc 3 1, 3) := dk_132 3 1 (dk_at dksX19_inFaces_1 4 rfl rfl)
theorem dX19_inFaces_30 : decode cX19_inFaces 30 = .ok (.goto (-26), 3) := dk_167 255 230 (dk_at dksX19_inFaces_1 7 rfl rfl)
theorem dX19_inFaces_33 : decode cX19_inFaces 33 = .ok (.aload_n 2, 1) := dk_44 (dk_at dksX19_inFaces_1 10 rfl rfl)
theorem dX19_inFaces_34 : decode cX19_inFaces 34 = .ok (.areturn, 1) := dk_176 (dk_at dksX19_inFaces_1 11 rfl rfl)
abbrev cX19_inParent : ByteArray := prog_24_method_5_code
def yX19_inParent : MethodName := ⟨RX19, "inParent", "(LReflectMirror$Type;)LReflectMirror$Member;"⟩
def dkwX19_inParent_0 : List UInt8 := [43, 182, 0, 36, 199, 0, 7, 1, 167, 0, 11, 42, 43, 182, 0, 36, 182, 0, 32, 176]
abbrev dktX19_inParent_0 : List UInt8 := dkwX19_inParent_0 ++ []
theorem dksX19_inParent_0 : cX19_inParent.data.toList.drop 0 = dktX19_inParent_0 := by decide +kernel
theorem dX19_inParent_0 : decode cX19_inParent 0 = .ok (.aload_n 1, 1) := dk_43 (dk_at dksX19_inParent_0 0 rfl rfl)
theorem dX19_inParent_1 : decode cX19_inParent 1 = .ok (.invokevirtual 36, 3) := dk_182 0 36 (dk_at dksX19_inParent_0 1 rfl rfl)
theorem dX19_inParent_4 : decode cX19_inParent 4 = .ok (.ifnonnull 7, 3) := dk_199 0 7 (dk_at dksX19_inParent_0 4 rfl rfl)
theorem dX19_inParent_7 : decode cX19_inParent 7 = .ok (.aconst_null, 1) := dk_1 (dk_at dksX19_inParent_0 7 rfl rfl)
theorem dX19_inParent_8 : decode cX19_inParent 8 = .ok (.goto 11, 3) := dk_167 0 11 (dk_at dksX19_inParent_0 8 rfl rfl)
theorem dX19_inParent_11 : decode cX19_inParent 11 = .ok (.aload_n 0, 1) := dk_42 (dk_at dksX19_inParent_0 11 rfl rfl)
theorem dX19_inParent_12 : decode cX19_inParent 12 = .ok (.aload_n 1, 1) := dk_43 (dk_at dksX19_inParent_0 12 rfl rfl)
theorem dX19_inParent_13 : decode cX19_inParent 13 = .ok (.invokevirtual 36, 3) := dk_182 0 36 (dk_at dksX19_inParent_0 13 rfl rfl)
theorem dX19_inParent_16 : decode cX19_inParent 16 = .ok (.invokevirtual 32, 3) := dk_182 0 32 (dk_at dksX19_inParent_0 16 rfl rfl)
theorem dX19_inParent_19 : decode cX19_inParent 19 = .ok (.areturn, 1) := dk_176 (dk_at dksX19_inParent_0 19 rfl rfl)
theorem q113 : (Jvm.Cond.initialized "ReflectMirror$Search") ∈ lw_all := lw_g (lw_at lw_m1 24 rfl) rfl
theorem q183 : (Jvm.Cond.fieldLink "ReflectMirror$Search" (28 : Nat) "ReflectMirror$Type" "faces" "[LReflectMirror$Type;") ∈ lw_all := lw_g (lw_at lw_m1 94 rfl) rfl
theorem q187 : (Jvm.Cond.fieldLink "ReflectMirror$Search" (23 : Nat) "ReflectMirror$Type" "faceMany" "I") ∈ lw_all := lw_g (lw_at lw_m1 98 rfl) rfl
theorem q914 : (Jvm.Cond.instanceMethod ({ cls := "ReflectMirror$Search", name := "<init>", desc := "(LReflectMirror;I)V" } : Jvm.MethodName)) ∈ lw_all := lw_g (lw_at lw_m4 105 rfl) rfl
theorem q915 : (Jvm.Cond.code ({ cls := "ReflectMirror$Search", name := "<init>", desc := "(LReflectMirror;I)V" } : Jvm.MethodName) prog_24_method_1_code (3 : Nat) (Option.none : Option Jvm.ClassFile.FieldType)) ∈ lw_all := lw_g (lw_at lw_m4 106 rfl) rfl
theorem q916 : (Jvm.Cond.methodLink "ReflectMirror$Search" (9 : Nat) ({ cls := "java/lang/Object", name := "<init>", desc := "()V" } : Jvm.MethodName)) ∈ lw_all := lw_g (lw_at lw_m4 107 rfl) rfl
theorem q920 : (Jvm.Cond.fieldLink "ReflectMirror$Search" (15 : Nat) "ReflectMirror$Search" "met" "[Z") ∈ lw_all := lw_g (lw_at lw_m4 111 rfl) rfl
theorem q921 : (Jvm.Cond.fieldLink "ReflectMirror$Search" (19 : Nat) "ReflectMirror$Search" "way" "I") ∈ lw_all := lw_g (lw_at lw_m4 112 rfl) rfl
theorem q926 : (Jvm.Cond.fieldLink "ReflectMirror$Search" (3 : Nat) "ReflectMirror$Search" "this$0" "LReflectMirror;") ∈ lw_all := lw_g (lw_at lw_m4 117 rfl) rfl
theorem q934 : (Jvm.Cond.soleField "ReflectMirror$Search" "met") ∈ lw_all := lw_g (lw_at lw_m4 125 rfl) rfl
theorem q936 : (Jvm.Cond.soleField "ReflectMirror$Search" "way") ∈ lw_all := lw_g (lw_at lw_m4 127 rfl) rfl
theorem q938 : (Jvm.Cond.soleField "ReflectMirror$Search" "this$0") ∈ lw_all := lw_g (lw_at lw_m4 129 rfl) rfl
theorem q942 : (Jvm.Cond.declares ({ cls := "ReflectMirror$Search", name := "from", desc := "(LReflectMirror$Type;)LReflectMirror$Member;" } : Jvm.MethodName)) ∈ lw_tbl := lw_at lw_m4 133 rfl
theorem q944 : (Jvm.Cond.instanceMethod ({ cls := "ReflectMirror$Search", name := "from", desc := "(LReflectMirror$Type;)LReflectMirror$Member;" } : Jvm.MethodName)) ∈ lw_all := lw_g (lw_at lw_m4 135 rfl) rfl
theorem q945 : (Jvm.Cond.code ({ cls := "ReflectMirror$Search", name := "from", desc := "(LReflectMirror$Type;)LReflectMirror$Member;" } : Jvm.MethodName) prog_24_method_6_code (3 : Nat) (Option.some (Jvm.ClassFile.FieldType.object "ReflectMirror$Member"))) ∈ lw_all := lw_g (lw_at lw_m4 136 rfl) rfl
theorem q946 : (Jvm.Cond.methodLink "ReflectMirror$Search" (40 : Nat) ({ cls := "ReflectMirror$Type", name := "number", desc := "()I" } : Jvm.MethodName)) ∈ lw_all := lw_g (lw_at lw_m4 137 rfl) rfl
theorem q947 : (Jvm.Cond.methodLink "ReflectMirror$Search" (44 : Nat) ({ cls := "ReflectMirror$Search", name := "own", desc := "(LReflectMirror$Type;)LReflectMirror$Member;" } : Jvm.MethodName)) ∈ lw_all := lw_g (lw_at lw_m4 138 rfl) rfl
theorem q948 : (Jvm.Cond.declares ({ cls := "ReflectMirror$Search", name := "own", desc := "(LReflectMirror$Type;)LReflectMirror$Member;" } : Jvm.MethodName)) ∈ lw_tbl := lw_at lw_m4 139 rfl
theorem q949 : (Jvm.Cond.sameMethod "ReflectMirror$Search" "ReflectMirror$Search" "own" "(LReflectMirror$Type;)LReflectMirror$Member;") ∈ lw_all := lw_g (lw_at lw_m4 140 rfl) rfl
theorem q965 : (Jvm.Cond.methodLink "ReflectMirror$Search" (47 : Nat) ({ cls := "ReflectMirror$Search", name := "isFaceFirst", desc := "()Z" } : Jvm.MethodName)) ∈ lw_all := lw_g (lw_at lw_m4 156 rfl) rfl
theorem q966 : (Jvm.Cond.instanceMethod ({ cls := "ReflectMirror$Search", name := "isFaceFirst", desc := "()Z" } : Jvm.MethodName)) ∈ lw_all := lw_g (lw_at lw_m4 157 rfl) rfl
theorem q967 : (Jvm.Cond.sameMethod "ReflectMirror$Search" "ReflectMirror$Search" "isFaceFirst" "()Z") ∈ lw_all := lw_g (lw_at lw_m4 158 rfl) rfl
theorem q972 : (Jvm.Cond.code ({ cls := "ReflectMirror$Search", name := "isFaceFirst", desc := "()Z" } : Jvm.MethodName) prog_24_method_3_code (1 : Nat) (Option.some Jvm.ClassFile.FieldType.boolean)) ∈ lw_all := lw_g (lw_at lw_m4 163 rfl) rfl
theorem q973 : (Jvm.Cond.methodLink "ReflectMirror$Search" (51 : Nat) ({ cls := "ReflectMirror$Search", name := "inFaces", desc := "(LReflectMirror$Type;)LReflectMirror$Member;" } : Jvm.MethodName)) ∈ lw_all := lw_g (lw_at lw_m4 164 rfl) rfl
theorem q974 : (Jvm.Cond.privateMethod ({ cls := "ReflectMirror$Search", name := "inFaces", desc := "(LReflectMirror$Type;)LReflectMirror$Member;" } : Jvm.MethodName)) ∈ lw_tbl := lw_at lw_m4 165 rfl
theorem q975 : (Jvm.Cond.instanceMethod ({ cls := "ReflectMirror$Search", name := "inFaces", desc := "(LReflectMirror$Type;)LReflectMirror$Member;" } : Jvm.MethodName)) ∈ lw_all := lw_g (lw_at lw_m4 166 rfl) rfl
theorem q976 : (Jvm.Cond.code ({ cls := "ReflectMirror$Search", name := "inFaces", desc := "(LReflectMirror$Type;)LReflectMirror$Member;" } : Jvm.MethodName) prog_24_method_4_code (4 : Nat) (Option.some (Jvm.ClassFile.FieldType.object "ReflectMirror$Member"))) ∈ lw_all := lw_g (lw_at lw_m4 167 rfl) rfl
theorem q977 : (Jvm.Cond.methodLink "ReflectMirror$Search" (32 : Nat) ({ cls := "ReflectMirror$Search", name := "from", desc := "(LReflectMirror$Type;)LReflectMirror$Member;" } : Jvm.MethodName)) ∈ lw_all := lw_g (lw_at lw_m4 168 rfl) rfl
theorem q978 : (Jvm.Cond.methodLink "ReflectMirror$Search" (54 : Nat) ({ cls := "ReflectMirror$Search", name := "inParent", desc := "(LReflectMirror$Type;)LReflectMirror$Member;" } : Jvm.MethodName)) ∈ lw_all := lw_g (lw_at lw_m4 169 rfl) rfl
theorem q979 : (Jvm.Cond.privateMethod ({ cls := "ReflectMirror$Search", name := "inParent", desc := "(LReflectMirror$Type;)LReflectMirror$Member;" } : Jvm.MethodName)) ∈ lw_tbl := lw_at lw_m4 170 rfl
theorem q980 : (Jvm.Cond.instanceMethod ({ cls := "ReflectMirror$Search", name := "inParent", desc := "(LReflectMirror$Type;)LReflectMirror$Member;" } : Jvm.MethodName)) ∈ lw_all := lw_g (lw_at lw_m4 171 rfl) rfl
theorem q981 : (Jvm.Cond.code ({ cls := "ReflectMirror$Search", name := "inParent", desc := "(LReflectMirror$Type;)LReflectMirror$Member;" } : Jvm.MethodName) prog_24_method_5_code (2 : Nat) (Option.some (Jvm.ClassFile.FieldType.object "ReflectMirror$Member"))) ∈ lw_all := lw_g (lw_at lw_m4 172 rfl) rfl
theorem q982 : (Jvm.Cond.methodLink "ReflectMirror$Search" (36 : Nat) ({ cls := "ReflectMirror$Type", name := "parent", desc := "()LReflectMirror$Type;" } : Jvm.MethodName)) ∈ lw_all := lw_g (lw_at lw_m4 173 rfl) rfl
theorem q2573 : (Jvm.Cond.sameMethod "ReflectMirror$Search" "ReflectMirror$Search" "inFaces" "(LReflectMirror$Type;)LReflectMirror$Member;") ∈ lw_all := lw_g (lw_at lw_m11 84 rfl) rfl
theorem q2574 : (Jvm.Cond.sameMethod "ReflectMirror$Search" "ReflectMirror$Search" "from" "(LReflectMirror$Type;)LReflectMirror$Member;") ∈ lw_all := lw_g (lw_at lw_m11 85 rfl) rfl
theorem q2577 : (Jvm.Cond.sameMethod "ReflectMirror$Search" "ReflectMirror$Search" "inParent" "(LReflectMirror$Type;)LReflectMirror$Member;") ∈ lw_all := lw_g (lw_at lw_m11 88 rfl) rfl

/-! ReflectMirror$MethodSearch -/
set_option maxRecDepth 100000
def RX20 : String := "ReflectMirror$MethodSearch"
def TX20 : u_T := fun k => match k with
  | 0 => ("ReflectMirror$Search", "met", "[Z", true)
  | 1 => ("ReflectMirror$Search", "way", "I", true)
  | 2 => ("ReflectMirror$Search", "this$0", "LReflectMirror;", true)
  | 3 => ("ReflectMirror$MethodSearch", "like", "LReflectMirror$Member;", true)
  | 4 => ("ReflectMirror$MethodSearch", "top", "LReflectMirror$Type;", true)
  | _ => ("ReflectMirror$MethodSearch", "this$0", "LReflectMirror;", true)
def tyX20 : Nat → FieldType := fun k => match k with
  | 0 => .array .boolean
  | 1 => .int
  | 2 => .object "ReflectMirror"
  | 3 => .object "ReflectMirror$Member"
  | 4 => .object "ReflectMirror$Type"
  | _ => .object "ReflectMirror"
abbrev wsX200 : List Cond := u_ws RX20 TX20 6
-- two fields of one name: no nmX20
theorem tyX20_ok : ∀ k, k < 6 → parseFieldDescriptor (TX20 k).2.2.1 = some (tyX20 k) := by decide +kernel
abbrev cX20_init : ByteArray := prog_14_method_1_code
def yX20_init : MethodName := ⟨RX20, "<init>", "(LReflectMirror;ILReflectMirror$Member;LReflectMirror$Type;)V"⟩
def dkwX20_init_0 : List UInt8 := [42, 43, 181, 0, 3, 42, 43, 28, 183, 0, 9, 42, 45, 181, 0, 15, 42, 25, 4, 181, 0, 19, 177]
abbrev dktX20_init_0 : List UInt8 := dkwX20_init_0 ++ []
theorem dksX20_init_0 : cX20_init.data.toList.drop 0 = dktX20_init_0 := by decide +kernel
theorem dX20_init_0 : decode cX20_init 0 = .ok (.aload_n 0, 1) := dk_42 (dk_at dksX20_init_0 0 rfl rfl)
theorem dX20_init_1 : decode cX20_init 1 = .ok (.aload_n 1, 1) := dk_43 (dk_at dksX20_init_0 1 rfl rfl)
theorem dX20_init_2 : decode cX20_init 2 = .ok (.putfield 3, 3) := dk_181 0 3 (dk_at dksX20_init_0 2 rfl rfl)
theorem dX20_init_5 : decode cX20_init 5 = .ok (.aload_n 0, 1) := dk_42 (dk_at dksX20_init_0 5 rfl rfl)
theorem dX20_init_6 : decode cX20_init 6 = .ok (.aload_n 1, 1) := dk_43 (dk_at dksX20_init_0 6 rfl rfl)
theorem dX20_init_7 : decode cX20_init 7 = .ok (.iload_n 2, 1) := dk_28 (dk_at dksX20_init_0 7 rfl rfl)
theorem dX20_init_8 : decode cX20_init 8 = .ok (.invokespecial 9, 3) := dk_183 0 9 (dk_at dksX20_init_0 8 rfl rfl)
theorem dX20_init_11 : decode cX20_init 11 = .ok (.aload_n 0, 1) := dk_42 (dk_at dksX20_init_0 11 rfl rfl)
theorem dX20_init_12 : decode cX20_init 12 = .ok (.aload_n 3, 1) := dk_45 (dk_at dksX20_init_0 12 rfl rfl)
theorem dX20_init_13 : decode cX20_init 13 = .ok (.putfield 15, 3) := dk_181 0 15 (dk_at dksX20_init_0 13 rfl rfl)
theorem dX20_init_16 : decode cX20_init 16 = .ok (.aload_n 0, 1) := dk_42 (dk_at dksX20_init_0 16 rfl rfl)
theorem dX20_init_17 : decode cX20_init 17 = .ok (.aload 4, 2) := dk_25 4 (dk_at dksX20_init_0 17 rfl rfl)
theorem dX20_init_19 : decode cX20_init 19 = .ok (.putfield 19, 3) := dk_181 0 19 (dk_at dksX20_init_0 19 rfl rfl)
theorem dX20_init_22 : decode cX20_init 22 = .ok (.return_, 1) := dk_177 (dk_at dksX20_init_0 22 rfl rfl)
abbrev cX20_own : ByteArray := prog_14_method_2_code
def yX20_own : MethodName := ⟨RX20, "own", "(LReflectMirror$Type;)LReflectMirror$Member;"⟩
def dkwX20_own_3 : List UInt8 := [62, 29, 153, 0, 7, 1, 167, 0, 4, 44, 176]
abbrev dktX20_own_3 : List UInt8 := dkwX20_own_3 ++ []
def dkwX20_own_2 : List UInt8 := [153, 0, 23, 43, 182, 0, 41, 6, 160, 0, 15, 43, 42, 180, 0, 19, 165, 0, 7, 4, 167, 0, 4, 3]
abbrev dktX20_own_2 : List UInt8 := dkwX20_own_2 ++ dktX20_own_3
def dkwX20_own_1 : List UInt8 := [44, 176, 42, 180, 0, 27, 4, 160, 0, 11, 44, 182, 0, 31, 4, 160, 0, 27, 44, 7, 182, 0, 37]
abbrev dktX20_own_1 : List UInt8 := dkwX20_own_1 ++ dktX20_own_2
def dkwX20_own_0 : List UInt8 := [42, 180, 0, 3, 43, 42, 180, 0, 15, 182, 0, 23, 77, 44, 198, 0, 10, 42, 180, 0, 27, 154, 0, 5]
abbrev dktX20_own_0 : List UInt8 := dkwX20_own_0 ++ dktX20_own_1
theorem dksX20_own_0 : cX20_own.data.toList.drop 0 = dktX20_own_0 := by decide +kernel
theorem dksX20_own_1 : cX20_own.data.toList.drop 24 = dktX20_own_1 := dk_seg dksX20_own_0 24 rfl rfl
theorem dksX20_own_2 : cX20_own.data.toList.drop 47 = dktX20_own_2 := dk_seg dksX20_own_1 23 rfl rfl
theorem dksX20_own_3 : cX20_own.data.toList.drop 71 = dktX20_own_3 := dk_seg dksX20_own_2 24 rfl rfl
theorem dX20_own_0 : decode cX20_own 0 = .ok (.aload_n 0, 1) := dk_42 (dk_at dksX20_own_0 0 rfl rfl)
theorem dX20_own_1 : decode cX20_own 1 = .ok (.getfield 3, 3) := dk_180 0 3 (dk_at dksX20_own_0 1 rfl rfl)
theorem dX20_own_4 : decode cX20_own 4 = .ok (.aload_n 1, 1) := dk_43 (dk_at dksX20_own_0 4 rfl rfl)
theorem dX20_own_5 : decode cX20_own 5 = .ok (.aload_n 0, 1) := dk_42 (dk_at dksX20_own_0 5 rfl rfl)
theorem dX20_own_6 : decode cX20_own 6 = .ok (.getfield 15, 3) := dk_180 0 15 (dk_at dksX20_own_0 6 rfl rfl)
theorem dX20_own_9 : decode cX20_own 9 = .ok (.invokevirtual 23, 3) := dk_182 0 23 (dk_at dksX20_own_0 9 rfl rfl)
theorem dX20_own_12 : decode cX20_own 12 = .ok (.astore_n 2, 1) := dk_77 (dk_at dksX20_own_0 12 rfl rfl)
theorem dX20_own_13 : decode cX20_own 13 = .ok (.aload_n 2, 1) := dk_44 (dk_at dksX20_own_0 13 rfl rfl)
theorem dX20_own_14 : decode cX20_own 14 = .ok (.ifnull 10, 3) := dk_198 0 10 (dk_at dksX20_own_0 14 rfl rfl)
theorem dX20_own_17 : decode cX20_own 17 = .ok (.aload_n 0, 1) := dk_42 (dk_at dksX20_own_0 17 rfl rfl)
theorem dX20_own_18 : decode cX20_own 18 = .ok (.getfield 27, 3) := dk_180 0 27 (dk_at dksX20_own_0 18 rfl rfl)
theorem dX20_own_21 : decode cX20_own 21 = .ok (.ifCond .ne 5, 3) := dk_154 0 5 (dk_at dksX20_own_0 21 rfl rfl)
theorem dX20_own_24 : decode cX20_own 24 = .ok (.aload_n 2, 1) := dk_44 (dk_at dksX20_own_1 0 rfl rfl)
theorem dX20_own_25 : decode cX20_own 25 = .ok (.areturn, 1) := dk_176 (dk_at dksX20_own_1 1 rfl rfl)
theorem dX20_own_26 : decode cX20_own 26 = .ok (.aload_n 0, 1) := dk_42 (dk_at dksX20_own_1 2 rfl rfl)
theorem dX20_own_27 : decode cX20_own 27 = .ok (.getfield 27, 3) := dk_180 0 27 (dk_at dksX20_own_1 3 rfl rfl)
theorem dX20_own_30 : decode cX20_own 30 = .ok (.iconst 1, 1) := dk_4 (dk_at dksX20_own_1 6 rfl rfl)
theorem dX20_own_31 : decode cX20_own 31 = .ok (.if_icmp .ne 11, 3) := dk_160 0 11 (dk_at dksX20_own_1 7 rfl rfl)
theorem dX20_own_34 : decode cX20_own 34 = .ok (.aload_n 2, 1) := dk_44 (dk_at dksX20_own_1 10 rfl rfl)
theorem dX20_own_35 : decode cX20_own 35 = .ok (.invokevirtual 31, 3) := dk_182 0 31 (dk_at dksX20_own_1 11 rfl rfl)
theorem dX20_own_38 : decode cX20_own 38 = .ok (.iconst 1, 1) := dk_4 (dk_at dksX20_own_1 14 rfl rfl)
theorem dX20_own_39 : decode cX20_own 39 = .ok (.if_icmp .ne 27, 3) := dk_160 0 27 (dk_at dksX20_own_1 15 rfl rfl)
theorem dX20_own_42 : decode cX20_own 42 = .ok (.aload_n 2, 1) := dk_44 (dk_at dksX20_own_1 18 rfl rfl)
theorem dX20_own_43 : decode cX20_own 43 = .ok (.iconst 4, 1) := dk_7 (dk_at dksX20_own_1 19 rfl rfl)
theorem dX20_own_44 : decode cX20_own 44 = .ok (.invokevirtual 37, 3) := dk_182 0 37 (dk_at dksX20_own_1 20 rfl rfl)
theorem dX20_own_47 : decode cX20_own 47 = .ok (.ifCond .eq 23, 3) := dk_153 0 23 (dk_at dksX20_own_2 0 rfl rfl)
theorem dX20_own_50 : decode cX20_own 50 = .ok (.aload_n 1, 1) := dk_43 (dk_at dksX20_own_2 3 rfl rfl)
theorem dX20_own_51 : decode cX20_own 51 = .ok (.invokevirtual 41, 3) := dk_182 0 41 (dk_at dksX20_own_2 4 rfl rfl)
theorem dX20_own_54 : decode cX20_own 54 = .ok (.iconst 3, 1) := dk_6 (dk_at dksX20_own_2 7 rfl rfl)
theorem dX20_own_55 : decode cX20_own 55 = .ok (.if_icmp .ne 15, 3) := dk_160 0 15 (dk_at dksX20_own_2 8 rfl rfl)
theorem dX20_own_58 : decode cX20_own 58 = .ok (.aload_n 1, 1) := dk_43 (dk_at dksX20_own_2 11 rfl rfl)
theorem dX20_own_59 : decode cX20_own 59 = .ok (.aload_n 0, 1) := dk_42 (dk_at dksX20_own_2 12 rfl rfl)
theorem dX20_own_60 : decode cX20_own 60 = .ok (.getfield 19, 3) := dk_180 0 19 (dk_at dksX20_own_2 13 rfl rfl)
theorem dX20_own_63 : decode cX20_own 63 = .ok (.if_acmp .eq 7, 3) := dk_165 0 7 (dk_at dksX20_own_2 16 rfl rfl)
theorem dX20_own_66 : decode cX20_own 66 = .ok (.iconst 1, 1) := dk_4 (dk_at dksX20_own_2 19 rfl rfl)
theorem dX20_own_67 : decode cX20_own 67 = .ok (.goto 4, 3) := dk_167 0 4 (dk_at dksX20_own_2 20 rfl rfl)
theorem dX20_own_70 : decode cX20_own 70 = .ok (.iconst 0, 1) := dk_3 (dk_at dksX20_own_2 23 rfl rfl)
theorem dX20_own_71 : decode cX20_own 71 = .ok (.istore_n 3, 1) := dk_62 (dk_at dksX20_own_3 0 rfl rfl)
theorem dX20_own_72 : decode cX20_own 72 = .ok (.iload_n 3, 1) := dk_29 (dk_at dksX20_own_3 1 rfl rfl)
theorem dX20_own_73 : decode cX20_own 73 = .ok (.ifCond .eq 7, 3) := dk_153 0 7 (dk_at dksX20_own_3 2 rfl rfl)
theorem dX20_own_76 : decode cX20_own 76 = .ok (.aconst_null, 1) := dk_1 (dk_at dksX20_own_3 5 rfl rfl)
theorem dX20_own_77 : decode cX20_own 77 = .ok (.goto 4, 3) := dk_167 0 4 (dk_at dksX20_own_3 6 rfl rfl)
theorem dX20_own_80 : decode cX20_own 80 = .ok (.aload_n 2, 1) := dk_44 (dk_at dksX20_own_3 9 rfl rfl)
theorem dX20_own_81 : decode cX20_own 81 = .ok (.areturn, 1) := dk_176 (dk_at dksX20_own_3 10 rfl rfl)
theorem q114 : (Jvm.Cond.initialized "ReflectMirror$MethodSearch") ∈ lw_all := lw_g (lw_at lw_m1 25 rfl) rfl
theorem q909 : (Jvm.Cond.instantiable "ReflectMirror$MethodSearch" (6 : Nat)) ∈ lw_all := lw_g (lw_at lw_m4 100 rfl) rfl
theorem q911 : (Jvm.Cond.instanceMethod ({ cls := "ReflectMirror$MethodSearch", name := "<init>", desc := "(LReflectMirror;ILReflectMirror$Member;LReflectMirror$Type;)V" } : Jvm.MethodName)) ∈ lw_all := lw_g (lw_at lw_m4 102 rfl) rfl
theorem q912 : (Jvm.Cond.code ({ cls := "ReflectMirror$MethodSearch", name := "<init>", desc := "(LReflectMirror;ILReflectMirror$Member;LReflectMirror$Type;)V" } : Jvm.MethodName) prog_14_method_1_code (5 : Nat) (Option.none : Option Jvm.ClassFile.FieldType)) ∈ lw_all := lw_g (lw_at lw_m4 103 rfl) rfl
theorem q913 : (Jvm.Cond.methodLink "ReflectMirror$MethodSearch" (9 : Nat) ({ cls := "ReflectMirror$Search", name := "<init>", desc := "(LReflectMirror;I)V" } : Jvm.MethodName)) ∈ lw_all := lw_g (lw_at lw_m4 104 rfl) rfl
theorem q917 : (Jvm.Cond.fieldLink "ReflectMirror$MethodSearch" (15 : Nat) "ReflectMirror$MethodSearch" "like" "LReflectMirror$Member;") ∈ lw_all := lw_g (lw_at lw_m4 108 rfl) rfl
theorem q918 : (Jvm.Cond.fieldLink "ReflectMirror$MethodSearch" (19 : Nat) "ReflectMirror$MethodSearch" "top" "LReflectMirror$Type;") ∈ lw_all := lw_g (lw_at lw_m4 109 rfl) rfl
theorem q919 : (Jvm.Cond.fieldLink "ReflectMirror$MethodSearch" (3 : Nat) "ReflectMirror$MethodSearch" "this$0" "LReflectMirror;") ∈ lw_all := lw_g (lw_at lw_m4 110 rfl) rfl
theorem q924 : (Jvm.Cond.fieldLink "ReflectMirror$MethodSearch" (27 : Nat) "ReflectMirror$MethodSearch" "way" "I") ∈ lw_all := lw_g (lw_at lw_m4 115 rfl) rfl
theorem q925 : (Jvm.Cond.sameField "ReflectMirror$MethodSearch" "ReflectMirror$Search" "way" "I") ∈ lw_all := lw_g (lw_at lw_m4 116 rfl) rfl
theorem q927 : (Jvm.Cond.laysFinal "ReflectMirror$MethodSearch" "ReflectMirror$MethodSearch" "like" "LReflectMirror$Member;") ∈ lw_all := lw_g (lw_at lw_m4 118 rfl) rfl
theorem q928 : (Jvm.Cond.soleField "ReflectMirror$MethodSearch" "like") ∈ lw_all := lw_g (lw_at lw_m4 119 rfl) rfl
theorem q929 : (Jvm.Cond.laysFinal "ReflectMirror$MethodSearch" "ReflectMirror$MethodSearch" "top" "LReflectMirror$Type;") ∈ lw_all := lw_g (lw_at lw_m4 120 rfl) rfl
theorem q930 : (Jvm.Cond.soleField "ReflectMirror$MethodSearch" "top") ∈ lw_all := lw_g (lw_at lw_m4 121 rfl) rfl
theorem q931 : (Jvm.Cond.laysFinal "ReflectMirror$MethodSearch" "ReflectMirror$MethodSearch" "this$0" "LReflectMirror;") ∈ lw_all := lw_g (lw_at lw_m4 122 rfl) rfl
theorem q932 : (Jvm.Cond.soleField "ReflectMirror$MethodSearch" "this$0") ∈ lw_all := lw_g (lw_at lw_m4 123 rfl) rfl
theorem q933 : (Jvm.Cond.laysFinal "ReflectMirror$MethodSearch" "ReflectMirror$Search" "met" "[Z") ∈ lw_all := lw_g (lw_at lw_m4 124 rfl) rfl
theorem q935 : (Jvm.Cond.laysFinal "ReflectMirror$MethodSearch" "ReflectMirror$Search" "way" "I") ∈ lw_all := lw_g (lw_at lw_m4 126 rfl) rfl
theorem q937 : (Jvm.Cond.laysFinal "ReflectMirror$MethodSearch" "ReflectMirror$Search" "this$0" "LReflectMirror;") ∈ lw_all := lw_g (lw_at lw_m4 128 rfl) rfl
theorem q939 : (Jvm.Cond.superclass "ReflectMirror$MethodSearch" "ReflectMirror$Search") ∈ lw_all := lw_g (lw_at lw_m4 130 rfl) rfl
theorem q941 : (Jvm.Cond.sameMethod "ReflectMirror$MethodSearch" "ReflectMirror$Search" "from" "(LReflectMirror$Type;)LReflectMirror$Member;") ∈ lw_all := lw_g (lw_at lw_m4 132 rfl) rfl
theorem q943 : (Jvm.Cond.selects "ReflectMirror$MethodSearch" ({ cls := "ReflectMirror$MethodSearch", name := "from", desc := "(LReflectMirror$Type;)LReflectMirror$Member;" } : Jvm.MethodName) ({ cls := "ReflectMirror$Search", name := "from", desc := "(LReflectMirror$Type;)LReflectMirror$Member;" } : Jvm.MethodName)) ∈ lw_all := lw_g (lw_at lw_m4 134 rfl) rfl
theorem q958 : (Jvm.Cond.selects "ReflectMirror$MethodSearch" ({ cls := "ReflectMirror$Search", name := "own", desc := "(LReflectMirror$Type;)LReflectMirror$Member;" } : Jvm.MethodName) ({ cls := "ReflectMirror$MethodSearch", name := "own", desc := "(LReflectMirror$Type;)LReflectMirror$Member;" } : Jvm.MethodName)) ∈ lw_all := lw_g (lw_at lw_m4 149 rfl) rfl
theorem q959 : (Jvm.Cond.instanceMethod ({ cls := "ReflectMirror$MethodSearch", name := "own", desc := "(LReflectMirror$Type;)LReflectMirror$Member;" } : Jvm.MethodName)) ∈ lw_all := lw_g (lw_at lw_m4 150 rfl) rfl
theorem q960 : (Jvm.Cond.code ({ cls := "ReflectMirror$MethodSearch", name := "own", desc := "(LReflectMirror$Type;)LReflectMirror$Member;" } : Jvm.MethodName) prog_14_method_2_code (4 : Nat) (Option.some (Jvm.ClassFile.FieldType.object "ReflectMirror$Member"))) ∈ lw_all := lw_g (lw_at lw_m4 151 rfl) rfl
theorem q961 : (Jvm.Cond.methodLinkNest "ReflectMirror$MethodSearch" (23 : Nat) ({ cls := "ReflectMirror", name := "ownMethod", desc := "(LReflectMirror$Type;LReflectMirror$Member;)LReflectMirror$Member;" } : Jvm.MethodName) "ReflectMirror") ∈ lw_tbl := lw_at lw_m4 152 rfl
theorem q962 : (Jvm.Cond.methodLink "ReflectMirror$MethodSearch" (31 : Nat) ({ cls := "ReflectMirror$Member", name := "who", desc := "()I" } : Jvm.MethodName)) ∈ lw_all := lw_g (lw_at lw_m4 153 rfl) rfl
theorem q963 : (Jvm.Cond.methodLink "ReflectMirror$MethodSearch" (37 : Nat) ({ cls := "ReflectMirror$Member", name := "has", desc := "(I)Z" } : Jvm.MethodName)) ∈ lw_all := lw_g (lw_at lw_m4 154 rfl) rfl
theorem q964 : (Jvm.Cond.methodLink "ReflectMirror$MethodSearch" (41 : Nat) ({ cls := "ReflectMirror$Type", name := "what", desc := "()I" } : Jvm.MethodName)) ∈ lw_all := lw_g (lw_at lw_m4 155 rfl) rfl
theorem q971 : (Jvm.Cond.selects "ReflectMirror$MethodSearch" ({ cls := "ReflectMirror$Search", name := "isFaceFirst", desc := "()Z" } : Jvm.MethodName) ({ cls := "ReflectMirror$Search", name := "isFaceFirst", desc := "()Z" } : Jvm.MethodName)) ∈ lw_all := lw_g (lw_at lw_m4 162 rfl) rfl
theorem q2576 : (Jvm.Cond.selects "ReflectMirror$MethodSearch" ({ cls := "ReflectMirror$Search", name := "from", desc := "(LReflectMirror$Type;)LReflectMirror$Member;" } : Jvm.MethodName) ({ cls := "ReflectMirror$Search", name := "from", desc := "(LReflectMirror$Type;)LReflectMirror$Member;" } : Jvm.MethodName)) ∈ lw_all := lw_g (lw_at lw_m11 87 rfl) rfl
theorem q2607 : (Jvm.Cond.castable "ReflectMirror$MethodSearch" "java/lang/Object") ∈ lw_tbl := lw_at lw_m11 118 rfl
theorem in_X20 : ∀ w ∈ wsX200, w ∈ lw_all := lw_in wsX200 [933, 935, 937, 927, 929, 931] (by decide +kernel) (by decide +kernel)

/-! ReflectMirror$Item -/
set_option maxRecDepth 100000
def RX21 : String := "ReflectMirror$Item"
def TX21 : u_T := fun k => match k with
  | 0 => ("ReflectMirror$Body", "m", "LReflectMirror$Member;", true)
  | 1 => ("ReflectMirror$Body", "this$0", "LReflectMirror;", true)
  | 2 => ("ReflectMirror$Param", "i", "I", true)
  | 3 => ("ReflectMirror$Param", "this$0", "LReflectMirror;", true)
  | 4 => ("ReflectMirror$Item", "j", "I", true)
  | _ => ("ReflectMirror$Item", "this$0", "LReflectMirror;", true)
def tyX21 : Nat → FieldType := fun k => match k with
  | 0 => .object "ReflectMirror$Member"
  | 1 => .object "ReflectMirror"
  | 2 => .int
  | 3 => .object "ReflectMirror"
  | 4 => .int
  | _ => .object "ReflectMirror"
abbrev wsX210 : List Cond := u_ws RX21 TX21 6
-- two fields of one name: no nmX21
theorem tyX21_ok : ∀ k, k < 6 → parseFieldDescriptor (TX21 k).2.2.1 = some (tyX21 k) := by decide +kernel
abbrev cX21_init : ByteArray := prog_11_method_1_code
def yX21_init : MethodName := ⟨RX21, "<init>", "(LReflectMirror;LReflectMirror$Member;II)V"⟩
def dkwX21_init_0 : List UInt8 := [42, 43, 181, 0, 3, 42, 43, 44, 29, 183, 0, 9, 42, 21, 4, 181, 0, 15, 177]
abbrev dktX21_init_0 : List UInt8 := dkwX21_init_0 ++ []
theorem dksX21_init_0 : cX21_init.data.toList.drop 0 = dktX21_init_0 := by decide +kernel
theorem dX21_init_0 : decode cX21_init 0 = .ok (.aload_n 0, 1) := dk_42 (dk_at dksX21_init_0 0 rfl rfl)
theorem dX21_init_1 : decode cX21_init 1 = .ok (.aload_n 1, 1) := dk_43 (dk_at dksX21_init_0 1 rfl rfl)
theorem dX21_init_2 : decode cX21_init 2 = .ok (.putfield 3, 3) := dk_181 0 3 (dk_at dksX21_init_0 2 rfl rfl)
theorem dX21_init_5 : decode cX21_init 5 = .ok (.aload_n 0, 1) := dk_42 (dk_at dksX21_init_0 5 rfl rfl)
theorem dX21_init_6 : decode cX21_init 6 = .ok (.aload_n 1, 1) := dk_43 (dk_at dksX21_init_0 6 rfl rfl)
theorem dX21_init_7 : decode cX21_init 7 = .ok (.aload_n 2, 1) := dk_44 (dk_at dksX21_init_0 7 rfl rfl)
theorem dX21_init_8 : decode cX21_init 8 = .ok (.iload_n 3, 1) := dk_29 (dk_at dksX21_init_0 8 rfl rfl)
theorem dX21_init_9 : decode cX21_init 9 = .ok (.invokespecial 9, 3) := dk_183 0 9 (dk_at dksX21_init_0 9 rfl rfl)
theorem dX21_init_12 : decode cX21_init 12 = .ok (.aload_n 0, 1) := dk_42 (dk_at dksX21_init_0 12 rfl rfl)
theorem dX21_init_13 : decode cX21_init 13 = .ok (.iload 4, 2) := dk_21 4 (dk_at dksX21_init_0 13 rfl rfl)
theorem dX21_init_15 : decode cX21_init 15 = .ok (.putfield 15, 3) := dk_181 0 15 (dk_at dksX21_init_0 15 rfl rfl)
theorem dX21_init_18 : decode cX21_init 18 = .ok (.return_, 1) := dk_177 (dk_at dksX21_init_0 18 rfl rfl)
abbrev cX21_isWell : ByteArray := prog_11_method_4_code
def yX21_isWell : MethodName := ⟨RX21, "isWell", "()Z"⟩
def dkwX21_isWell_2 : List UInt8 := [7, 50, 182, 0, 43, 153, 0, 7, 4, 167, 0, 4, 3, 172]
abbrev dktX21_isWell_2 : List UInt8 := dkwX21_isWell_2 ++ []
def dkwX21_isWell_1 : List UInt8 := [180, 0, 15, 182, 0, 35, 198, 0, 30, 42, 42, 180, 0, 15, 182, 0, 35, 42, 180, 0, 3, 180, 0, 39]
abbrev dktX21_isWell_1 : List UInt8 := dkwX21_isWell_1 ++ dktX21_isWell_2
def dkwX21_isWell_0 : List UInt8 := [42, 183, 0, 28, 153, 0, 55, 42, 42, 180, 0, 32, 182, 0, 35, 182, 0, 23, 198, 0, 41, 42, 42]
abbrev dktX21_isWell_0 : List UInt8 := dkwX21_isWell_0 ++ dktX21_isWell_1
theorem dksX21_isWell_0 : cX21_isWell.data.toList.drop 0 = dktX21_isWell_0 := by decide +kernel
theorem dksX21_isWell_1 : cX21_isWell.data.toList.drop 23 = dktX21_isWell_1 := dk_seg dksX21_isWell_0 23 rfl rfl
theorem dksX21_isWell_2 : cX21_isWell.data.toList.drop 47 = dktX21_isWell_2 := dk_seg dksX21_isWell_1 24 rfl rfl
theorem dX21_isWell_0 : decode cX21_isWell 0 = .ok (.aload_n 0, 1) := dk_42 (dk_at dksX21_isWell_0 0 rfl rfl)
theorem dX21_isWell_1 : decode cX21_isWell 1 = .ok (.invokespecial 28, 3) := dk_183 0 28 (dk_at dksX21_isWell_0 1 rfl rfl)
theorem dX21_isWell_4 : decode cX21_isWell 4 = .ok (.ifCond .eq 55, 3) := dk_153 0 55 (dk_at dksX21_isWell_0 4 rfl rfl)
theorem dX21_isWell_7 : decode cX21_isWell 7 = .ok (.aload_n 0, 1) := dk_42 (dk_at dksX21_isWell_0 7 rfl rfl)
theorem dX21_isWell_8 : decode cX21_isWell 8 = .ok (.aload_n 0, 1) := dk_42 (dk_at dksX21_isWell_0 8 rfl rfl)
theorem dX21_isWell_9 : decode cX21_isWell 9 = .ok (.getfield 32, 3) := dk_180 0 32 (dk_at dksX21_isWell_0 9 rfl rfl)
theorem dX21_isWell_12 : decode cX21_isWell 12 = .ok (.invokevirtual 35, 3) := dk_182 0 35 (dk_at dksX21_isWell_0 12 rfl rfl)
theorem dX21_isWell_15 : decode cX21_isWell 15 = .ok (.invokevirtual 23, 3) := dk_182 0 23 (dk_at dksX21_isWell_0 15 rfl rfl)
theorem dX21_isWell_18 : decode cX21_isWell 18 = .ok (.ifnull 41, 3) := dk_198 0 41 (dk_at dksX21_isWell_0 18 rfl rfl)
theorem dX21_isWell_21 : decode cX21_isWell 21 = .ok (.aload_n 0, 1) := dk_42 (dk_at dksX21_isWell_0 21 rfl rfl)
theorem dX21_isWell_22 : decode cX21_isWell 22 = .ok (.aload_n 0, 1) := dk_42 (dk_at dksX21_isWell_0 22 rfl rfl)
theorem dX21_isWell_23 : decode cX21_isWell 23 = .ok (.getfield 15, 3) := dk_180 0 15 (dk_at dksX21_isWell_1 0 rfl rfl)
theorem dX21_isWell_26 : decode cX21_isWell 26 = .ok (.invokevirtual 35, 3) := dk_182 0 35 (dk_at dksX21_isWell_1 3 rfl rfl)
theorem dX21_isWell_29 : decode cX21_isWell 29 = .ok (.ifnull 30, 3) := dk_198 0 30 (dk_at dksX21_isWell_1 6 rfl rfl)
theorem dX21_isWell_32 : decode cX21_isWell 32 = .ok (.aload_n 0, 1) := dk_42 (dk_at dksX21_isWell_1 9 rfl rfl)
theorem dX21_isWell_33 : decode cX21_isWell 33 = .ok (.aload_n 0, 1) := dk_42 (dk_at dksX21_isWell_1 10 rfl rfl)
theorem dX21_isWell_34 : decode cX21_isWell 34 = .ok (.getfield 15, 3) := dk_180 0 15 (dk_at dksX21_isWell_1 11 rfl rfl)
theorem dX21_isWell_37 : decode cX21_isWell 37 = .ok (.invokevirtual 35, 3) := dk_182 0 35 (dk_at dksX21_isWell_1 14 rfl rfl)
theorem dX21_isWell_40 : decode cX21_isWell 40 = .ok (.aload_n 0, 1) := dk_42 (dk_at dksX21_isWell_1 17 rfl rfl)
theorem dX21_isWell_41 : decode cX21_isWell 41 = .ok (.getfield 3, 3) := dk_180 0 3 (dk_at dksX21_isWell_1 18 rfl rfl)
theorem dX21_isWell_44 : decode cX21_isWell 44 = .ok (.getfield 39, 3) := dk_180 0 39 (dk_at dksX21_isWell_1 21 rfl rfl)
theorem dX21_isWell_47 : decode cX21_isWell 47 = .ok (.iconst 4, 1) := dk_7 (dk_at dksX21_isWell_2 0 rfl rfl)
theorem dX21_isWell_48 : decode cX21_isWell 48 = .ok (.aaload, 1) := dk_50 (dk_at dksX21_isWell_2 1 rfl rfl)
theorem dX21_isWell_49 : decode cX21_isWell 49 = .ok (.invokevirtual 43, 3) := dk_182 0 43 (dk_at dksX21_isWell_2 2 rfl rfl)
theorem dX21_isWell_52 : decode cX21_isWell 52 = .ok (.ifCond .eq 7, 3) := dk_153 0 7 (dk_at dksX21_isWell_2 5 rfl rfl)
theorem dX21_isWell_55 : decode cX21_isWell 55 = .ok (.iconst 1, 1) := dk_4 (dk_at dksX21_isWell_2 8 rfl rfl)
theorem dX21_isWell_56 : decode cX21_isWell 56 = .ok (.goto 4, 3) := dk_167 0 4 (dk_at dksX21_isWell_2 9 rfl rfl)
theorem dX21_isWell_59 : decode cX21_isWell 59 = .ok (.iconst 0, 1) := dk_3 (dk_at dksX21_isWell_2 12 rfl rfl)
theorem dX21_isWell_60 : decode cX21_isWell 60 = .ok (.ireturn, 1) := dk_172 (dk_at dksX21_isWell_2 13 rfl rfl)
abbrev cX21_type : ByteArray := prog_11_method_3_code
def yX21_type : MethodName := ⟨RX21, "type", "()LReflectMirror$Type;"⟩
def dkwX21_type_0 : List UInt8 := [42, 183, 0, 19, 182, 0, 23, 176]
abbrev dktX21_type_0 : List UInt8 := dkwX21_type_0 ++ []
theorem dksX21_type_0 : cX21_type.data.toList.drop 0 = dktX21_type_0 := by decide +kernel
theorem dX21_type_0 : decode cX21_type 0 = .ok (.aload_n 0, 1) := dk_42 (dk_at dksX21_type_0 0 rfl rfl)
theorem dX21_type_1 : decode cX21_type 1 = .ok (.invokespecial 19, 3) := dk_183 0 19 (dk_at dksX21_type_0 1 rfl rfl)
theorem dX21_type_4 : decode cX21_type 4 = .ok (.invokevirtual 23, 3) := dk_182 0 23 (dk_at dksX21_type_0 4 rfl rfl)
theorem dX21_type_7 : decode cX21_type 7 = .ok (.areturn, 1) := dk_176 (dk_at dksX21_type_0 7 rfl rfl)
abbrev cX21_kind : ByteArray := prog_11_method_2_code
def yX21_kind : MethodName := ⟨RX21, "kind", "()I"⟩
theorem dX21_kind_0 : decode cX21_kind 0 = .ok (.bipush 8, 2) := by decide +kernel
theorem dX21_kind_2 : decode cX21_kind 2 = .ok (.ireturn, 1) := by decide +kernel
abbrev cX21_work : ByteArray := prog_11_method_5_code
def yX21_work : MethodName := ⟨RX21, "work", "(LReflectMirror$Frame;)V"⟩
def dkwX21_work_3 : List UInt8 := [184, 0, 84, 42, 43, 25, 4, 182, 0, 88, 177]
abbrev dktX21_work_3 : List UInt8 := dkwX21_work_3 ++ []
def dkwX21_work_2 : List UInt8 := [180, 0, 73, 136, 45, 182, 0, 77, 153, 0, 8, 16, 8, 167, 0, 7, 45, 182, 0, 80, 25, 4]
abbrev dktX21_work_2 : List UInt8 := dkwX21_work_2 ++ dktX21_work_3
def dkwX21_work_1 : List UInt8 := [89, 183, 0, 64, 58, 4, 44, 192, 0, 67, 180, 0, 69, 43, 180, 0, 47, 42, 180, 0, 15, 50]
abbrev dktX21_work_1 : List UInt8 := dkwX21_work_1 ++ dktX21_work_2
def dkwX21_work_0 : List UInt8 := [43, 180, 0, 47, 42, 180, 0, 32, 50, 180, 0, 53, 77, 44, 180, 0, 59, 182, 0, 23, 78, 187, 0, 54]
abbrev dktX21_work_0 : List UInt8 := dkwX21_work_0 ++ dktX21_work_1
theorem dksX21_work_0 : cX21_work.data.toList.drop 0 = dktX21_work_0 := by decide +kernel
theorem dksX21_work_1 : cX21_work.data.toList.drop 24 = dktX21_work_1 := dk_seg dksX21_work_0 24 rfl rfl
theorem dksX21_work_2 : cX21_work.data.toList.drop 46 = dktX21_work_2 := dk_seg dksX21_work_1 22 rfl rfl
theorem dksX21_work_3 : cX21_work.data.toList.drop 68 = dktX21_work_3 := dk_seg dksX21_work_2 22 rfl rfl
theorem dX21_work_0 : decode cX21_work 0 = .ok (.aload_n 1, 1) := dk_43 (dk_at dksX21_work_0 0 rfl rfl)
theorem dX21_work_1 : decode cX21_work 1 = .ok (.getfield 47, 3) := dk_180 0 47 (dk_at dksX21_work_0 1 rfl rfl)
theorem dX21_work_4 : decode cX21_work 4 = .ok (.aload_n 0, 1) := dk_42 (dk_at dksX21_work_0 4 rfl rfl)
theorem dX21_work_5 : decode cX21_work 5 = .ok (.getfield 32, 3) := dk_180 0 32 (dk_at dksX21_work_0 5 rfl rfl)
theorem dX21_work_8 : decode cX21_work 8 = .ok (.aaload, 1) := dk_50 (dk_at dksX21_work_0 8 rfl rfl)
theorem dX21_work_9 : decode cX21_work 9 = .ok (.getfield 53, 3) := dk_180 0 53 (dk_at dksX21_work_0 9 rfl rfl)
theorem dX21_work_12 : decode cX21_work 12 = .ok (.astore_n 2, 1) := dk_77 (dk_at dksX21_work_0 12 rfl rfl)
theorem dX21_work_13 : decode cX21_work 13 = .ok (.aload_n 2, 1) := dk_44 (dk_at dksX21_work_0 13 rfl rfl)
theorem dX21_work_14 : decode cX21_work 14 = .ok (.getfield 59, 3) := dk_180 0 59 (dk_at dksX21_work_0 14 rfl rfl)
theorem dX21_work_17 : decode cX21_work 17 = .ok (.invokevirtual 23, 3) := dk_182 0 23 (dk_at dksX21_work_0 17 rfl rfl)
theorem dX21_work_20 : decode cX21_work 20 = .ok (.astore_n 3, 1) := dk_78 (dk_at dksX21_work_0 20 rfl rfl)
theorem dX21_work_21 : decode cX21_work 21 = .ok (.new 54, 3) := dk_187 0 54 (dk_at dksX21_work_0 21 rfl rfl)
theorem dX21_work_24 : decode cX21_work 24 = .ok (.dup, 1) := dk_89 (dk_at dksX21_work_1 0 rfl rfl)
theorem dX21_work_25 : decode cX21_work 25 = .ok (.invokespecial 64, 3) := dk_183 0 64 (dk_at dksX21_work_1 1 rfl rfl)
theorem dX21_work_28 : decode cX21_work 28 = .ok (.astore 4, 2) := dk_58 4 (dk_at dksX21_work_1 4 rfl rfl)
theorem dX21_work_30 : decode cX21_work 30 = .ok (.aload_n 2, 1) := dk_44 (dk_at dksX21_work_1 6 rfl rfl)
theorem dX21_work_31 : decode cX21_work 31 = .ok (.checkcast 67, 3) := dk_192 0 67 (dk_at dksX21_work_1 7 rfl rfl)
theorem dX21_work_34 : decode cX21_work 34 = .ok (.getfield 69, 3) := dk_180 0 69 (dk_at dksX21_work_1 10 rfl rfl)
theorem dX21_work_37 : decode cX21_work 37 = .ok (.aload_n 1, 1) := dk_43 (dk_at dksX21_work_1 13 rfl rfl)
theorem dX21_work_38 : decode cX21_work 38 = .ok (.getfield 47, 3) := dk_180 0 47 (dk_at dksX21_work_1 14 rfl rfl)
theorem dX21_work_41 : decode cX21_work 41 = .ok (.aload_n 0, 1) := dk_42 (dk_at dksX21_work_1 17 rfl rfl)
theorem dX21_work_42 : decode cX21_work 42 = .ok (.getfield 15, 3) := dk_180 0 15 (dk_at dksX21_work_1 18 rfl rfl)
theorem dX21_work_45 : decode cX21_work 45 = .ok (.aaload, 1) := dk_50 (dk_at dksX21_work_1 21 rfl rfl)
theorem dX21_work_46 : decode cX21_work 46 = .ok (.getfield 73, 3) := dk_180 0 73 (dk_at dksX21_work_2 0 rfl rfl)
theorem dX21_work_49 : decode cX21_work 49 = .ok (.l2i, 1) := dk_136 (dk_at dksX21_work_2 3 rfl rfl)
theorem dX21_work_50 : decode cX21_work 50 = .ok (.aload_n 3, 1) := dk_45 (dk_at dksX21_work_2 4 rfl rfl)
theorem dX21_work_51 : decode cX21_work 51 = .ok (.invokevirtual 77, 3) := dk_182 0 77 (dk_at dksX21_work_2 5 rfl rfl)
theorem dX21_work_54 : decode cX21_work 54 = .ok (.ifCond .eq 8, 3) := dk_153 0 8 (dk_at dksX21_work_2 8 rfl rfl)
theorem dX21_work_57 : decode cX21_work 57 = .ok (.bipush 8, 2) := dk_16 8 (dk_at dksX21_work_2 11 rfl rfl)
theorem dX21_work_59 : decode cX21_work 59 = .ok (.goto 7, 3) := dk_167 0 7 (dk_at dksX21_work_2 13 rfl rfl)
theorem dX21_work_62 : decode cX21_work 62 = .ok (.aload_n 3, 1) := dk_45 (dk_at dksX21_work_2 16 rfl rfl)
theorem dX21_work_63 : decode cX21_work 63 = .ok (.invokevirtual 80, 3) := dk_182 0 80 (dk_at dksX21_work_2 17 rfl rfl)
theorem dX21_work_66 : decode cX21_work 66 = .ok (.aload 4, 2) := dk_25 4 (dk_at dksX21_work_2 20 rfl rfl)
theorem dX21_work_68 : decode cX21_work 68 = .ok (.invokestatic 84, 3) := dk_184 0 84 (dk_at dksX21_work_3 0 rfl rfl)
theorem dX21_work_71 : decode cX21_work 71 = .ok (.aload_n 0, 1) := dk_42 (dk_at dksX21_work_3 3 rfl rfl)
theorem dX21_work_72 : decode cX21_work 72 = .ok (.aload_n 1, 1) := dk_43 (dk_at dksX21_work_3 4 rfl rfl)
theorem dX21_work_73 : decode cX21_work 73 = .ok (.aload 4, 2) := dk_25 4 (dk_at dksX21_work_3 5 rfl rfl)
theorem dX21_work_75 : decode cX21_work 75 = .ok (.invokevirtual 88, 3) := dk_182 0 88 (dk_at dksX21_work_3 7 rfl rfl)
theorem dX21_work_78 : decode cX21_work 78 = .ok (.return_, 1) := dk_177 (dk_at dksX21_work_3 10 rfl rfl)
theorem q115 : (Jvm.Cond.initialized "ReflectMirror$Item") ∈ lw_all := lw_g (lw_at lw_m1 26 rfl) rfl
theorem q249 : (Jvm.Cond.fieldLink "ReflectMirror$Item" (73 : Nat) "ReflectMirror$Cell" "bits" "J") ∈ lw_all := lw_g (lw_at lw_m1 160 rfl) rfl
theorem q253 : (Jvm.Cond.fieldLink "ReflectMirror$Item" (53 : Nat) "ReflectMirror$Cell" "thing" "LReflectMirror$Thing;") ∈ lw_all := lw_g (lw_at lw_m1 164 rfl) rfl
theorem q326 : (Jvm.Cond.fieldLinkNest "ReflectMirror$Item" (39 : Nat) "ReflectMirror" "types" "[LReflectMirror$Type;" "ReflectMirror") ∈ lw_tbl := lw_at lw_m1 237 rfl
theorem q813 : (Jvm.Cond.fieldLink "ReflectMirror$Item" (32 : Nat) "ReflectMirror$Item" "i" "I") ∈ lw_all := lw_g (lw_at lw_m4 4 rfl) rfl
theorem q814 : (Jvm.Cond.sameField "ReflectMirror$Item" "ReflectMirror$Param" "i" "I") ∈ lw_all := lw_g (lw_at lw_m4 5 rfl) rfl
theorem q996 : (Jvm.Cond.instantiable "ReflectMirror$Item" (6 : Nat)) ∈ lw_all := lw_g (lw_at lw_m4 187 rfl) rfl
theorem q998 : (Jvm.Cond.instanceMethod ({ cls := "ReflectMirror$Item", name := "<init>", desc := "(LReflectMirror;LReflectMirror$Member;II)V" } : Jvm.MethodName)) ∈ lw_all := lw_g (lw_at lw_m4 189 rfl) rfl
theorem q999 : (Jvm.Cond.code ({ cls := "ReflectMirror$Item", name := "<init>", desc := "(LReflectMirror;LReflectMirror$Member;II)V" } : Jvm.MethodName) prog_11_method_1_code (5 : Nat) (Option.none : Option Jvm.ClassFile.FieldType)) ∈ lw_all := lw_g (lw_at lw_m4 190 rfl) rfl
theorem q1000 : (Jvm.Cond.methodLink "ReflectMirror$Item" (9 : Nat) ({ cls := "ReflectMirror$Param", name := "<init>", desc := "(LReflectMirror;LReflectMirror$Member;I)V" } : Jvm.MethodName)) ∈ lw_all := lw_g (lw_at lw_m4 191 rfl) rfl
theorem q1001 : (Jvm.Cond.fieldLink "ReflectMirror$Item" (15 : Nat) "ReflectMirror$Item" "j" "I") ∈ lw_all := lw_g (lw_at lw_m4 192 rfl) rfl
theorem q1002 : (Jvm.Cond.fieldLink "ReflectMirror$Item" (3 : Nat) "ReflectMirror$Item" "this$0" "LReflectMirror;") ∈ lw_all := lw_g (lw_at lw_m4 193 rfl) rfl
theorem q1003 : (Jvm.Cond.laysFinal "ReflectMirror$Item" "ReflectMirror$Item" "j" "I") ∈ lw_all := lw_g (lw_at lw_m4 194 rfl) rfl
theorem q1004 : (Jvm.Cond.soleField "ReflectMirror$Item" "j") ∈ lw_all := lw_g (lw_at lw_m4 195 rfl) rfl
theorem q1005 : (Jvm.Cond.laysFinal "ReflectMirror$Item" "ReflectMirror$Item" "this$0" "LReflectMirror;") ∈ lw_all := lw_g (lw_at lw_m4 196 rfl) rfl
theorem q1006 : (Jvm.Cond.soleField "ReflectMirror$Item" "this$0") ∈ lw_all := lw_g (lw_at lw_m4 197 rfl) rfl
theorem q1007 : (Jvm.Cond.laysFinal "ReflectMirror$Item" "ReflectMirror$Param" "i" "I") ∈ lw_all := lw_g (lw_at lw_m4 198 rfl) rfl
theorem q1008 : (Jvm.Cond.laysFinal "ReflectMirror$Item" "ReflectMirror$Param" "this$0" "LReflectMirror;") ∈ lw_all := lw_g (lw_at lw_m4 199 rfl) rfl
theorem q1009 : (Jvm.Cond.laysFinal "ReflectMirror$Item" "ReflectMirror$Body" "m" "LReflectMirror$Member;") ∈ lw_all := lw_g (lw_at lw_m4 200 rfl) rfl
theorem q1010 : (Jvm.Cond.laysFinal "ReflectMirror$Item" "ReflectMirror$Body" "this$0" "LReflectMirror;") ∈ lw_all := lw_g (lw_at lw_m4 201 rfl) rfl
theorem q1011 : (Jvm.Cond.superclass "ReflectMirror$Item" "ReflectMirror$Param") ∈ lw_all := lw_g (lw_at lw_m4 202 rfl) rfl
theorem q1019 : (Jvm.Cond.selects "ReflectMirror$Item" ({ cls := "ReflectMirror$Body", name := "isFit", desc := "()Z" } : Jvm.MethodName) ({ cls := "ReflectMirror$Body", name := "isFit", desc := "()Z" } : Jvm.MethodName)) ∈ lw_all := lw_g (lw_at lw_m4 210 rfl) rfl
theorem q1076 : (Jvm.Cond.selects "ReflectMirror$Item" ({ cls := "ReflectMirror$Body", name := "isWell", desc := "()Z" } : Jvm.MethodName) ({ cls := "ReflectMirror$Item", name := "isWell", desc := "()Z" } : Jvm.MethodName)) ∈ lw_all := lw_g (lw_at lw_m5 27 rfl) rfl
theorem q1077 : (Jvm.Cond.instanceMethod ({ cls := "ReflectMirror$Item", name := "isWell", desc := "()Z" } : Jvm.MethodName)) ∈ lw_all := lw_g (lw_at lw_m5 28 rfl) rfl
theorem q1078 : (Jvm.Cond.code ({ cls := "ReflectMirror$Item", name := "isWell", desc := "()Z" } : Jvm.MethodName) prog_11_method_4_code (1 : Nat) (Option.some Jvm.ClassFile.FieldType.boolean)) ∈ lw_all := lw_g (lw_at lw_m5 29 rfl) rfl
theorem q1079 : (Jvm.Cond.methodLink "ReflectMirror$Item" (28 : Nat) ({ cls := "ReflectMirror$Param", name := "isWell", desc := "()Z" } : Jvm.MethodName)) ∈ lw_all := lw_g (lw_at lw_m5 30 rfl) rfl
theorem q1085 : (Jvm.Cond.selects "ReflectMirror$Item" ({ cls := "ReflectMirror$Param", name := "param", desc := "(I)LReflectMirror$Type;" } : Jvm.MethodName) ({ cls := "ReflectMirror$Body", name := "param", desc := "(I)LReflectMirror$Type;" } : Jvm.MethodName)) ∈ lw_all := lw_g (lw_at lw_m5 36 rfl) rfl
theorem q1087 : (Jvm.Cond.methodLink "ReflectMirror$Item" (35 : Nat) ({ cls := "ReflectMirror$Item", name := "param", desc := "(I)LReflectMirror$Type;" } : Jvm.MethodName)) ∈ lw_all := lw_g (lw_at lw_m5 38 rfl) rfl
theorem q1088 : (Jvm.Cond.sameMethod "ReflectMirror$Item" "ReflectMirror$Body" "param" "(I)LReflectMirror$Type;") ∈ lw_all := lw_g (lw_at lw_m5 39 rfl) rfl
theorem q1089 : (Jvm.Cond.selects "ReflectMirror$Item" ({ cls := "ReflectMirror$Item", name := "param", desc := "(I)LReflectMirror$Type;" } : Jvm.MethodName) ({ cls := "ReflectMirror$Body", name := "param", desc := "(I)LReflectMirror$Type;" } : Jvm.MethodName)) ∈ lw_all := lw_g (lw_at lw_m5 40 rfl) rfl
theorem q1090 : (Jvm.Cond.methodLink "ReflectMirror$Item" (23 : Nat) ({ cls := "ReflectMirror$Type", name := "of", desc := "()LReflectMirror$Type;" } : Jvm.MethodName)) ∈ lw_all := lw_g (lw_at lw_m5 41 rfl) rfl
theorem q1091 : (Jvm.Cond.methodLink "ReflectMirror$Item" (43 : Nat) ({ cls := "ReflectMirror$Type", name := "is", desc := "(LReflectMirror$Type;)Z" } : Jvm.MethodName)) ∈ lw_all := lw_g (lw_at lw_m5 42 rfl) rfl
theorem q1124 : (Jvm.Cond.selects "ReflectMirror$Item" ({ cls := "ReflectMirror$Body", name := "type", desc := "()LReflectMirror$Type;" } : Jvm.MethodName) ({ cls := "ReflectMirror$Item", name := "type", desc := "()LReflectMirror$Type;" } : Jvm.MethodName)) ∈ lw_all := lw_g (lw_at lw_m5 75 rfl) rfl
theorem q1125 : (Jvm.Cond.instanceMethod ({ cls := "ReflectMirror$Item", name := "type", desc := "()LReflectMirror$Type;" } : Jvm.MethodName)) ∈ lw_all := lw_g (lw_at lw_m5 76 rfl) rfl
theorem q1126 : (Jvm.Cond.code ({ cls := "ReflectMirror$Item", name := "type", desc := "()LReflectMirror$Type;" } : Jvm.MethodName) prog_11_method_3_code (1 : Nat) (Option.some (Jvm.ClassFile.FieldType.object "ReflectMirror$Type"))) ∈ lw_all := lw_g (lw_at lw_m5 77 rfl) rfl
theorem q1127 : (Jvm.Cond.methodLink "ReflectMirror$Item" (19 : Nat) ({ cls := "ReflectMirror$Param", name := "type", desc := "()LReflectMirror$Type;" } : Jvm.MethodName)) ∈ lw_all := lw_g (lw_at lw_m5 78 rfl) rfl
theorem q1159 : (Jvm.Cond.selects "ReflectMirror$Item" ({ cls := "ReflectMirror$Body", name := "kind", desc := "()I" } : Jvm.MethodName) ({ cls := "ReflectMirror$Item", name := "kind", desc := "()I" } : Jvm.MethodName)) ∈ lw_all := lw_g (lw_at lw_m5 110 rfl) rfl
theorem q1160 : (Jvm.Cond.instanceMethod ({ cls := "ReflectMirror$Item", name := "kind", desc := "()I" } : Jvm.MethodName)) ∈ lw_all := lw_g (lw_at lw_m5 111 rfl) rfl
theorem q1161 : (Jvm.Cond.code ({ cls := "ReflectMirror$Item", name := "kind", desc := "()I" } : Jvm.MethodName) prog_11_method_2_code (1 : Nat) (Option.some Jvm.ClassFile.FieldType.int)) ∈ lw_all := lw_g (lw_at lw_m5 112 rfl) rfl
theorem q1273 : (Jvm.Cond.fieldLink "ReflectMirror$Item" (59 : Nat) "ReflectMirror$Thing" "type" "LReflectMirror$Type;") ∈ lw_all := lw_g (lw_at lw_m5 224 rfl) rfl
theorem q1744 : (Jvm.Cond.fieldLink "ReflectMirror$Item" (47 : Nat) "ReflectMirror$Frame" "args" "[LReflectMirror$Cell;") ∈ lw_all := lw_g (lw_at lw_m7 215 rfl) rfl
theorem q1822 : (Jvm.Cond.selects "ReflectMirror$Item" ({ cls := "ReflectMirror$Body", name := "work", desc := "(LReflectMirror$Frame;)V" } : Jvm.MethodName) ({ cls := "ReflectMirror$Item", name := "work", desc := "(LReflectMirror$Frame;)V" } : Jvm.MethodName)) ∈ lw_all := lw_g (lw_at lw_m8 53 rfl) rfl
theorem q1823 : (Jvm.Cond.instanceMethod ({ cls := "ReflectMirror$Item", name := "work", desc := "(LReflectMirror$Frame;)V" } : Jvm.MethodName)) ∈ lw_all := lw_g (lw_at lw_m8 54 rfl) rfl
theorem q1824 : (Jvm.Cond.code ({ cls := "ReflectMirror$Item", name := "work", desc := "(LReflectMirror$Frame;)V" } : Jvm.MethodName) prog_11_method_5_code (5 : Nat) (Option.none : Option Jvm.ClassFile.FieldType)) ∈ lw_all := lw_g (lw_at lw_m8 55 rfl) rfl
theorem q1825 : (Jvm.Cond.classLink "ReflectMirror$Item" (54 : Nat) "ReflectMirror$Cell") ∈ lw_all := lw_g (lw_at lw_m8 56 rfl) rfl
theorem q1826 : (Jvm.Cond.methodLinkNest "ReflectMirror$Item" (64 : Nat) ({ cls := "ReflectMirror$Cell", name := "<init>", desc := "()V" } : Jvm.MethodName) "ReflectMirror") ∈ lw_tbl := lw_at lw_m8 57 rfl
theorem q1827 : (Jvm.Cond.classLink "ReflectMirror$Item" (67 : Nat) "ReflectMirror$Many") ∈ lw_all := lw_g (lw_at lw_m8 58 rfl) rfl
theorem q1828 : (Jvm.Cond.methodLink "ReflectMirror$Item" (77 : Nat) ({ cls := "ReflectMirror$Type", name := "isReference", desc := "()Z" } : Jvm.MethodName)) ∈ lw_all := lw_g (lw_at lw_m8 59 rfl) rfl
theorem q1829 : (Jvm.Cond.methodLink "ReflectMirror$Item" (80 : Nat) ({ cls := "ReflectMirror$Type", name := "number", desc := "()I" } : Jvm.MethodName)) ∈ lw_all := lw_g (lw_at lw_m8 60 rfl) rfl
theorem q1830 : (Jvm.Cond.methodLinkNest "ReflectMirror$Item" (84 : Nat) ({ cls := "ReflectMirror", name := "load", desc := "(Ljava/lang/Object;IILReflectMirror$Cell;)V" } : Jvm.MethodName) "ReflectMirror") ∈ lw_tbl := lw_at lw_m8 61 rfl
theorem q1831 : (Jvm.Cond.methodLink "ReflectMirror$Item" (88 : Nat) ({ cls := "ReflectMirror$Item", name := "gives", desc := "(LReflectMirror$Frame;LReflectMirror$Cell;)V" } : Jvm.MethodName)) ∈ lw_all := lw_g (lw_at lw_m8 62 rfl) rfl
theorem q1832 : (Jvm.Cond.sameMethod "ReflectMirror$Item" "ReflectMirror$Body" "gives" "(LReflectMirror$Frame;LReflectMirror$Cell;)V") ∈ lw_all := lw_g (lw_at lw_m8 63 rfl) rfl
theorem q1833 : (Jvm.Cond.selects "ReflectMirror$Item" ({ cls := "ReflectMirror$Item", name := "gives", desc := "(LReflectMirror$Frame;LReflectMirror$Cell;)V" } : Jvm.MethodName) ({ cls := "ReflectMirror$Body", name := "gives", desc := "(LReflectMirror$Frame;LReflectMirror$Cell;)V" } : Jvm.MethodName)) ∈ lw_all := lw_g (lw_at lw_m8 64 rfl) rfl
theorem q1840 : (Jvm.Cond.selects "ReflectMirror$Item" ({ cls := "ReflectMirror$Param", name := "gives", desc := "(LReflectMirror$Frame;LReflectMirror$Cell;)V" } : Jvm.MethodName) ({ cls := "ReflectMirror$Body", name := "gives", desc := "(LReflectMirror$Frame;LReflectMirror$Cell;)V" } : Jvm.MethodName)) ∈ lw_all := lw_g (lw_at lw_m8 71 rfl) rfl
theorem q1881 : (Jvm.Cond.fieldLink "ReflectMirror$Item" (69 : Nat) "ReflectMirror$Many" "row" "Ljava/lang/Object;") ∈ lw_all := lw_g (lw_at lw_m8 112 rfl) rfl
theorem q2608 : (Jvm.Cond.castable "ReflectMirror$Item" "java/lang/Object") ∈ lw_tbl := lw_at lw_m11 119 rfl
theorem in_X21 : ∀ w ∈ wsX210, w ∈ lw_all := lw_in wsX210 [1009, 1010, 1007, 1008, 1003, 1005] (by decide +kernel) (by decide +kernel)

/-! java/lang/Math -/
set_option maxRecDepth 100000
def RJ4 : String := "java/lang/Math"
abbrev cJ4_max : ByteArray := prog_47_method_65_code
def yJ4_max : MethodName := ⟨RJ4, "max", "(II)I"⟩
def dkwJ4_max_0 : List UInt8 := [26, 27, 161, 0, 7, 26, 167, 0, 4, 27, 172]
abbrev dktJ4_max_0 : List UInt8 := dkwJ4_max_0 ++ []
theorem dksJ4_max_0 : cJ4_max.data.toList.drop 0 = dktJ4_max_0 := by decide +kernel
theorem dJ4_max_0 : decode cJ4_max 0 = .ok (.iload_n 0, 1) := dk_26 (dk_at dksJ4_max_0 0 rfl rfl)
theorem dJ4_max_1 : decode cJ4_max 1 = .ok (.iload_n 1, 1) := dk_27 (dk_at dksJ4_max_0 1 rfl rfl)
theorem dJ4_max_2 : decode cJ4_max 2 = .ok (.if_icmp .lt 7, 3) := dk_161 0 7 (dk_at dksJ4_max_0 2 rfl rfl)
theorem dJ4_max_5 : decode cJ4_max 5 = .ok (.iload_n 0, 1) := dk_26 (dk_at dksJ4_max_0 5 rfl rfl)
theorem dJ4_max_6 : decode cJ4_max 6 = .ok (.goto 4, 3) := dk_167 0 4 (dk_at dksJ4_max_0 6 rfl rfl)
theorem dJ4_max_9 : decode cJ4_max 9 = .ok (.iload_n 1, 1) := dk_27 (dk_at dksJ4_max_0 9 rfl rfl)
theorem dJ4_max_10 : decode cJ4_max 10 = .ok (.ireturn, 1) := dk_172 (dk_at dksJ4_max_0 10 rfl rfl)
theorem q116 : (Jvm.Cond.initialized "java/lang/Math") ∈ lw_all := lw_g (lw_at lw_m1 27 rfl) rfl
theorem q1120 : (Jvm.Cond.static ({ cls := "java/lang/Math", name := "max", desc := "(II)I" } : Jvm.MethodName)) ∈ lw_all := lw_g (lw_at lw_m5 71 rfl) rfl
theorem q1121 : (Jvm.Cond.code ({ cls := "java/lang/Math", name := "max", desc := "(II)I" } : Jvm.MethodName) prog_47_method_65_code (2 : Nat) (Option.some Jvm.ClassFile.FieldType.int)) ∈ lw_all := lw_g (lw_at lw_m5 72 rfl) rfl

/-! ReflectMirror$FieldSearch -/
set_option maxRecDepth 100000
def RX22 : String := "ReflectMirror$FieldSearch"
def TX22 : u_T := fun k => match k with
  | 0 => ("ReflectMirror$Search", "met", "[Z", true)
  | 1 => ("ReflectMirror$Search", "way", "I", true)
  | 2 => ("ReflectMirror$Search", "this$0", "LReflectMirror;", true)
  | 3 => ("ReflectMirror$FieldSearch", "name", "I", true)
  | _ => ("ReflectMirror$FieldSearch", "this$0", "LReflectMirror;", true)
def tyX22 : Nat → FieldType := fun k => match k with
  | 0 => .array .boolean
  | 1 => .int
  | 2 => .object "ReflectMirror"
  | 3 => .int
  | _ => .object "ReflectMirror"
abbrev wsX220 : List Cond := u_ws RX22 TX22 5
-- two fields of one name: no nmX22
theorem tyX22_ok : ∀ k, k < 5 → parseFieldDescriptor (TX22 k).2.2.1 = some (tyX22 k) := by decide +kernel
abbrev cX22_own : ByteArray := prog_9_method_3_code
def yX22_own : MethodName := ⟨RX22, "own", "(LReflectMirror$Type;)LReflectMirror$Member;"⟩
def dkwX22_own_1 : List UInt8 := [160, 0, 15, 44, 182, 0, 26, 4, 159, 0, 7, 1, 167, 0, 4, 44, 176]
abbrev dktX22_own_1 : List UInt8 := dkwX22_own_1 ++ []
def dkwX22_own_0 : List UInt8 := [42, 180, 0, 3, 43, 42, 180, 0, 15, 182, 0, 22, 77, 44, 198, 0, 23, 42, 180, 0, 19, 4]
abbrev dktX22_own_0 : List UInt8 := dkwX22_own_0 ++ dktX22_own_1
theorem dksX22_own_0 : cX22_own.data.toList.drop 0 = dktX22_own_0 := by decide +kernel
theorem dksX22_own_1 : cX22_own.data.toList.drop 22 = dktX22_own_1 := dk_seg dksX22_own_0 22 rfl rfl
theorem dX22_own_0 : decode cX22_own 0 = .ok (.aload_n 0, 1) := dk_42 (dk_at dksX22_own_0 0 rfl rfl)
theorem dX22_own_1 : decode cX22_own 1 = .ok (.getfield 3, 3) := dk_180 0 3 (dk_at dksX22_own_0 1 rfl rfl)
theorem dX22_own_4 : decode cX22_own 4 = .ok (.aload_n 1, 1) := dk_43 (dk_at dksX22_own_0 4 rfl rfl)
theorem dX22_own_5 : decode cX22_own 5 = .ok (.aload_n 0, 1) := dk_42 (dk_at dksX22_own_0 5 rfl rfl)
theorem dX22_own_6 : decode cX22_own 6 = .ok (.getfield 15, 3) := dk_180 0 15 (dk_at dksX22_own_0 6 rfl rfl)
theorem dX22_own_9 : decode cX22_own 9 = .ok (.invokevirtual 22, 3) := dk_182 0 22 (dk_at dksX22_own_0 9 rfl rfl)
theorem dX22_own_12 : decode cX22_own 12 = .ok (.astore_n 2, 1) := dk_77 (dk_at dksX22_own_0 12 rfl rfl)
theorem dX22_own_13 : decode cX22_own 13 = .ok (.aload_n 2, 1) := dk_44 (dk_at dksX22_own_0 13 rfl rfl)
theorem dX22_own_14 : decode cX22_own 14 = .ok (.ifnull 23, 3) := dk_198 0 23 (dk_at dksX22_own_0 14 rfl rfl)
theorem dX22_own_17 : decode cX22_own 17 = .ok (.aload_n 0, 1) := dk_42 (dk_at dksX22_own_0 17 rfl rfl)
theorem dX22_own_18 : decode cX22_own 18 = .ok (.getfield 19, 3) := dk_180 0 19 (dk_at dksX22_own_0 18 rfl rfl)
theorem dX22_own_21 : decode cX22_own 21 = .ok (.iconst 1, 1) := dk_4 (dk_at dksX22_own_0 21 rfl rfl)
theorem dX22_own_22 : decode cX22_own 22 = .ok (.if_icmp .ne 15, 3) := dk_160 0 15 (dk_at dksX22_own_1 0 rfl rfl)
theorem dX22_own_25 : decode cX22_own 25 = .ok (.aload_n 2, 1) := dk_44 (dk_at dksX22_own_1 3 rfl rfl)
theorem dX22_own_26 : decode cX22_own 26 = .ok (.invokevirtual 26, 3) := dk_182 0 26 (dk_at dksX22_own_1 4 rfl rfl)
theorem dX22_own_29 : decode cX22_own 29 = .ok (.iconst 1, 1) := dk_4 (dk_at dksX22_own_1 7 rfl rfl)
theorem dX22_own_30 : decode cX22_own 30 = .ok (.if_icmp .eq 7, 3) := dk_159 0 7 (dk_at dksX22_own_1 8 rfl rfl)
theorem dX22_own_33 : decode cX22_own 33 = .ok (.aconst_null, 1) := dk_1 (dk_at dksX22_own_1 11 rfl rfl)
theorem dX22_own_34 : decode cX22_own 34 = .ok (.goto 4, 3) := dk_167 0 4 (dk_at dksX22_own_1 12 rfl rfl)
theorem dX22_own_37 : decode cX22_own 37 = .ok (.aload_n 2, 1) := dk_44 (dk_at dksX22_own_1 15 rfl rfl)
theorem dX22_own_38 : decode cX22_own 38 = .ok (.areturn, 1) := dk_176 (dk_at dksX22_own_1 16 rfl rfl)
abbrev cX22_isFaceFirst : ByteArray := prog_9_method_2_code
def yX22_isFaceFirst : MethodName := ⟨RX22, "isFaceFirst", "()Z"⟩
def dkwX22_isFaceFirst_0 : List UInt8 := [42, 180, 0, 19, 4, 160, 0, 7, 4, 167, 0, 4, 3, 172]
abbrev dktX22_isFaceFirst_0 : List UInt8 := dkwX22_isFaceFirst_0 ++ []
theorem dksX22_isFaceFirst_0 : cX22_isFaceFirst.data.toList.drop 0 = dktX22_isFaceFirst_0 := by decide +kernel
theorem dX22_isFaceFirst_0 : decode cX22_isFaceFirst 0 = .ok (.aload_n 0, 1) := dk_42 (dk_at dksX22_isFaceFirst_0 0 rfl rfl)
theorem dX22_isFaceFirst_1 : decode cX22_isFaceFirst 1 = .ok (.getfield 19, 3) := dk_180 0 19 (dk_at dksX22_isFaceFirst_0 1 rfl rfl)
theorem dX22_isFaceFirst_4 : decode cX22_isFaceFirst 4 = .ok (.iconst 1, 1) := dk_4 (dk_at dksX22_isFaceFirst_0 4 rfl rfl)
theorem dX22_isFaceFirst_5 : decode cX22_isFaceFirst 5 = .ok (.if_icmp .ne 7, 3) := dk_160 0 7 (dk_at dksX22_isFaceFirst_0 5 rfl rfl)
theorem dX22_isFaceFirst_8 : decode cX22_isFaceFirst 8 = .ok (.iconst 1, 1) := dk_4 (dk_at dksX22_isFaceFirst_0 8 rfl rfl)
theorem dX22_isFaceFirst_9 : decode cX22_isFaceFirst 9 = .ok (.goto 4, 3) := dk_167 0 4 (dk_at dksX22_isFaceFirst_0 9 rfl rfl)
theorem dX22_isFaceFirst_12 : decode cX22_isFaceFirst 12 = .ok (.iconst 0, 1) := dk_3 (dk_at dksX22_isFaceFirst_0 12 rfl rfl)
theorem dX22_isFaceFirst_13 : decode cX22_isFaceFirst 13 = .ok (.ireturn, 1) := dk_172 (dk_at dksX22_isFaceFirst_0 13 rfl rfl)
abbrev cX22_init : ByteArray := prog_9_method_1_code
def yX22_init : MethodName := ⟨RX22, "<init>", "(LReflectMirror;II)V"⟩
def dkwX22_init_0 : List UInt8 := [42, 43, 181, 0, 3, 42, 43, 28, 183, 0, 9, 42, 29, 181, 0, 15, 177]
abbrev dktX22_init_0 : List UInt8 := dkwX22_init_0 ++ []
theorem dksX22_init_0 : cX22_init.data.toList.drop 0 = dktX22_init_0 := by decide +kernel
theorem dX22_init_0 : decode cX22_init 0 = .ok (.aload_n 0, 1) := dk_42 (dk_at dksX22_init_0 0 rfl rfl)
theorem dX22_init_1 : decode cX22_init 1 = .ok (.aload_n 1, 1) := dk_43 (dk_at dksX22_init_0 1 rfl rfl)
theorem dX22_init_2 : decode cX22_init 2 = .ok (.putfield 3, 3) := dk_181 0 3 (dk_at dksX22_init_0 2 rfl rfl)
theorem dX22_init_5 : decode cX22_init 5 = .ok (.aload_n 0, 1) := dk_42 (dk_at dksX22_init_0 5 rfl rfl)
theorem dX22_init_6 : decode cX22_init 6 = .ok (.aload_n 1, 1) := dk_43 (dk_at dksX22_init_0 6 rfl rfl)
theorem dX22_init_7 : decode cX22_init 7 = .ok (.iload_n 2, 1) := dk_28 (dk_at dksX22_init_0 7 rfl rfl)
theorem dX22_init_8 : decode cX22_init 8 = .ok (.invokespecial 9, 3) := dk_183 0 9 (dk_at dksX22_init_0 8 rfl rfl)
theorem dX22_init_11 : decode cX22_init 11 = .ok (.aload_n 0, 1) := dk_42 (dk_at dksX22_init_0 11 rfl rfl)
theorem dX22_init_12 : decode cX22_init 12 = .ok (.iload_n 3, 1) := dk_29 (dk_at dksX22_init_0 12 rfl rfl)
theorem dX22_init_13 : decode cX22_init 13 = .ok (.putfield 15, 3) := dk_181 0 15 (dk_at dksX22_init_0 13 rfl rfl)
theorem dX22_init_16 : decode cX22_init 16 = .ok (.return_, 1) := dk_177 (dk_at dksX22_init_0 16 rfl rfl)
theorem q117 : (Jvm.Cond.initialized "ReflectMirror$FieldSearch") ∈ lw_all := lw_g (lw_at lw_m1 28 rfl) rfl
theorem q922 : (Jvm.Cond.fieldLink "ReflectMirror$FieldSearch" (19 : Nat) "ReflectMirror$FieldSearch" "way" "I") ∈ lw_all := lw_g (lw_at lw_m4 113 rfl) rfl
theorem q923 : (Jvm.Cond.sameField "ReflectMirror$FieldSearch" "ReflectMirror$Search" "way" "I") ∈ lw_all := lw_g (lw_at lw_m4 114 rfl) rfl
theorem q950 : (Jvm.Cond.selects "ReflectMirror$FieldSearch" ({ cls := "ReflectMirror$Search", name := "own", desc := "(LReflectMirror$Type;)LReflectMirror$Member;" } : Jvm.MethodName) ({ cls := "ReflectMirror$FieldSearch", name := "own", desc := "(LReflectMirror$Type;)LReflectMirror$Member;" } : Jvm.MethodName)) ∈ lw_all := lw_g (lw_at lw_m4 141 rfl) rfl
theorem q951 : (Jvm.Cond.instanceMethod ({ cls := "ReflectMirror$FieldSearch", name := "own", desc := "(LReflectMirror$Type;)LReflectMirror$Member;" } : Jvm.MethodName)) ∈ lw_all := lw_g (lw_at lw_m4 142 rfl) rfl
theorem q952 : (Jvm.Cond.code ({ cls := "ReflectMirror$FieldSearch", name := "own", desc := "(LReflectMirror$Type;)LReflectMirror$Member;" } : Jvm.MethodName) prog_9_method_3_code (3 : Nat) (Option.some (Jvm.ClassFile.FieldType.object "ReflectMirror$Member"))) ∈ lw_all := lw_g (lw_at lw_m4 143 rfl) rfl
theorem q953 : (Jvm.Cond.methodLinkNest "ReflectMirror$FieldSearch" (22 : Nat) ({ cls := "ReflectMirror", name := "ownField", desc := "(LReflectMirror$Type;I)LReflectMirror$Member;" } : Jvm.MethodName) "ReflectMirror") ∈ lw_tbl := lw_at lw_m4 144 rfl
theorem q954 : (Jvm.Cond.methodLink "ReflectMirror$FieldSearch" (26 : Nat) ({ cls := "ReflectMirror$Member", name := "who", desc := "()I" } : Jvm.MethodName)) ∈ lw_all := lw_g (lw_at lw_m4 145 rfl) rfl
theorem q968 : (Jvm.Cond.selects "ReflectMirror$FieldSearch" ({ cls := "ReflectMirror$Search", name := "isFaceFirst", desc := "()Z" } : Jvm.MethodName) ({ cls := "ReflectMirror$FieldSearch", name := "isFaceFirst", desc := "()Z" } : Jvm.MethodName)) ∈ lw_all := lw_g (lw_at lw_m4 159 rfl) rfl
theorem q969 : (Jvm.Cond.instanceMethod ({ cls := "ReflectMirror$FieldSearch", name := "isFaceFirst", desc := "()Z" } : Jvm.MethodName)) ∈ lw_all := lw_g (lw_at lw_m4 160 rfl) rfl
theorem q970 : (Jvm.Cond.code ({ cls := "ReflectMirror$FieldSearch", name := "isFaceFirst", desc := "()Z" } : Jvm.MethodName) prog_9_method_2_code (1 : Nat) (Option.some Jvm.ClassFile.FieldType.boolean)) ∈ lw_all := lw_g (lw_at lw_m4 161 rfl) rfl
theorem q1183 : (Jvm.Cond.instantiable "ReflectMirror$FieldSearch" (5 : Nat)) ∈ lw_all := lw_g (lw_at lw_m5 134 rfl) rfl
theorem q1185 : (Jvm.Cond.instanceMethod ({ cls := "ReflectMirror$FieldSearch", name := "<init>", desc := "(LReflectMirror;II)V" } : Jvm.MethodName)) ∈ lw_all := lw_g (lw_at lw_m5 136 rfl) rfl
theorem q1186 : (Jvm.Cond.code ({ cls := "ReflectMirror$FieldSearch", name := "<init>", desc := "(LReflectMirror;II)V" } : Jvm.MethodName) prog_9_method_1_code (4 : Nat) (Option.none : Option Jvm.ClassFile.FieldType)) ∈ lw_all := lw_g (lw_at lw_m5 137 rfl) rfl
theorem q1187 : (Jvm.Cond.methodLink "ReflectMirror$FieldSearch" (9 : Nat) ({ cls := "ReflectMirror$Search", name := "<init>", desc := "(LReflectMirror;I)V" } : Jvm.MethodName)) ∈ lw_all := lw_g (lw_at lw_m5 138 rfl) rfl
theorem q1188 : (Jvm.Cond.fieldLink "ReflectMirror$FieldSearch" (15 : Nat) "ReflectMirror$FieldSearch" "name" "I") ∈ lw_all := lw_g (lw_at lw_m5 139 rfl) rfl
theorem q1189 : (Jvm.Cond.fieldLink "ReflectMirror$FieldSearch" (3 : Nat) "ReflectMirror$FieldSearch" "this$0" "LReflectMirror;") ∈ lw_all := lw_g (lw_at lw_m5 140 rfl) rfl
theorem q1190 : (Jvm.Cond.laysFinal "ReflectMirror$FieldSearch" "ReflectMirror$FieldSearch" "name" "I") ∈ lw_all := lw_g (lw_at lw_m5 141 rfl) rfl
theorem q1191 : (Jvm.Cond.soleField "ReflectMirror$FieldSearch" "name") ∈ lw_all := lw_g (lw_at lw_m5 142 rfl) rfl
theorem q1192 : (Jvm.Cond.laysFinal "ReflectMirror$FieldSearch" "ReflectMirror$FieldSearch" "this$0" "LReflectMirror;") ∈ lw_all := lw_g (lw_at lw_m5 143 rfl) rfl
theorem q1193 : (Jvm.Cond.soleField "ReflectMirror$FieldSearch" "this$0") ∈ lw_all := lw_g (lw_at lw_m5 144 rfl) rfl
theorem q1194 : (Jvm.Cond.laysFinal "ReflectMirror$FieldSearch" "ReflectMirror$Search" "met" "[Z") ∈ lw_all := lw_g (lw_at lw_m5 145 rfl) rfl
theorem q1195 : (Jvm.Cond.laysFinal "ReflectMirror$FieldSearch" "ReflectMirror$Search" "way" "I") ∈ lw_all := lw_g (lw_at lw_m5 146 rfl) rfl
theorem q1196 : (Jvm.Cond.laysFinal "ReflectMirror$FieldSearch" "ReflectMirror$Search" "this$0" "LReflectMirror;") ∈ lw_all := lw_g (lw_at lw_m5 147 rfl) rfl
theorem q1197 : (Jvm.Cond.superclass "ReflectMirror$FieldSearch" "ReflectMirror$Search") ∈ lw_all := lw_g (lw_at lw_m5 148 rfl) rfl
theorem q1199 : (Jvm.Cond.sameMethod "ReflectMirror$FieldSearch" "ReflectMirror$Search" "from" "(LReflectMirror$Type;)LReflectMirror$Member;") ∈ lw_all := lw_g (lw_at lw_m5 150 rfl) rfl
theorem q1200 : (Jvm.Cond.selects "ReflectMirror$FieldSearch" ({ cls := "ReflectMirror$FieldSearch", name := "from", desc := "(LReflectMirror$Type;)LReflectMirror$Member;" } : Jvm.MethodName) ({ cls := "ReflectMirror$Search", name := "from", desc := "(LReflectMirror$Type;)LReflectMirror$Member;" } : Jvm.MethodName)) ∈ lw_all := lw_g (lw_at lw_m5 151 rfl) rfl
theorem q2575 : (Jvm.Cond.selects "ReflectMirror$FieldSearch" ({ cls := "ReflectMirror$Search", name := "from", desc := "(LReflectMirror$Type;)LReflectMirror$Member;" } : Jvm.MethodName) ({ cls := "ReflectMirror$Search", name := "from", desc := "(LReflectMirror$Type;)LReflectMirror$Member;" } : Jvm.MethodName)) ∈ lw_all := lw_g (lw_at lw_m11 86 rfl) rfl
theorem q2609 : (Jvm.Cond.castable "ReflectMirror$FieldSearch" "java/lang/Object") ∈ lw_tbl := lw_at lw_m11 120 rfl
theorem in_X22 : ∀ w ∈ wsX220, w ∈ lw_all := lw_in wsX220 [1194, 1195, 1196, 1190, 1192] (by decide +kernel) (by decide +kernel)

/-! ReflectMirror$Thing -/
set_option maxRecDepth 100000
def RX23 : String := "ReflectMirror$Thing"
abbrev cX23_number : ByteArray := prog_26_method_2_code
def yX23_number : MethodName := ⟨RX23, "number", "()I"⟩
theorem dX23_number_0 : decode cX23_number 0 = .ok (.aload_n 0, 1) := by decide +kernel
theorem dX23_number_1 : decode cX23_number 1 = .ok (.getfield 15, 3) := by decide +kernel
theorem dX23_number_4 : decode cX23_number 4 = .ok (.ireturn, 1) := by decide +kernel
abbrev cX23_init : ByteArray := prog_26_method_1_code
def yX23_init : MethodName := ⟨RX23, "<init>", "(ILReflectMirror$Type;)V"⟩
def dkwX23_init_0 : List UInt8 := [42, 183, 0, 3, 42, 2, 181, 0, 9, 42, 27, 181, 0, 15, 42, 44, 181, 0, 18, 177]
abbrev dktX23_init_0 : List UInt8 := dkwX23_init_0 ++ []
theorem dksX23_init_0 : cX23_init.data.toList.drop 0 = dktX23_init_0 := by decide +kernel
theorem dX23_init_0 : decode cX23_init 0 = .ok (.aload_n 0, 1) := dk_42 (dk_at dksX23_init_0 0 rfl rfl)
theorem dX23_init_1 : decode cX23_init 1 = .ok (.invokespecial 3, 3) := dk_183 0 3 (dk_at dksX23_init_0 1 rfl rfl)
theorem dX23_init_4 : decode cX23_init 4 = .ok (.aload_n 0, 1) := dk_42 (dk_at dksX23_init_0 4 rfl rfl)
theorem dX23_init_5 : decode cX23_init 5 = .ok (.iconst (-1), 1) := dk_2 (dk_at dksX23_init_0 5 rfl rfl)
theorem dX23_init_6 : decode cX23_init 6 = .ok (.putfield 9, 3) := dk_181 0 9 (dk_at dksX23_init_0 6 rfl rfl)
theorem dX23_init_9 : decode cX23_init 9 = .ok (.aload_n 0, 1) := dk_42 (dk_at dksX23_init_0 9 rfl rfl)
theorem dX23_init_10 : decode cX23_init 10 = .ok (.iload_n 1, 1) := dk_27 (dk_at dksX23_init_0 10 rfl rfl)
theorem dX23_init_11 : decode cX23_init 11 = .ok (.putfield 15, 3) := dk_181 0 15 (dk_at dksX23_init_0 11 rfl rfl)
theorem dX23_init_14 : decode cX23_init 14 = .ok (.aload_n 0, 1) := dk_42 (dk_at dksX23_init_0 14 rfl rfl)
theorem dX23_init_15 : decode cX23_init 15 = .ok (.aload_n 2, 1) := dk_44 (dk_at dksX23_init_0 15 rfl rfl)
theorem dX23_init_16 : decode cX23_init 16 = .ok (.putfield 18, 3) := dk_181 0 18 (dk_at dksX23_init_0 16 rfl rfl)
theorem dX23_init_19 : decode cX23_init 19 = .ok (.return_, 1) := dk_177 (dk_at dksX23_init_0 19 rfl rfl)
theorem q118 : (Jvm.Cond.initialized "ReflectMirror$Thing") ∈ lw_all := lw_g (lw_at lw_m1 29 rfl) rfl
theorem q494 : (Jvm.Cond.instanceMethod ({ cls := "ReflectMirror$Thing", name := "number", desc := "()I" } : Jvm.MethodName)) ∈ lw_all := lw_g (lw_at lw_m2 165 rfl) rfl
theorem q495 : (Jvm.Cond.publicMethod ({ cls := "ReflectMirror$Thing", name := "number", desc := "()I" } : Jvm.MethodName)) ∈ lw_tbl := lw_at lw_m2 166 rfl
theorem q496 : (Jvm.Cond.code ({ cls := "ReflectMirror$Thing", name := "number", desc := "()I" } : Jvm.MethodName) prog_26_method_2_code (1 : Nat) (Option.some Jvm.ClassFile.FieldType.int)) ∈ lw_all := lw_g (lw_at lw_m2 167 rfl) rfl
theorem q1263 : (Jvm.Cond.instanceMethod ({ cls := "ReflectMirror$Thing", name := "<init>", desc := "(ILReflectMirror$Type;)V" } : Jvm.MethodName)) ∈ lw_all := lw_g (lw_at lw_m5 214 rfl) rfl
theorem q1264 : (Jvm.Cond.code ({ cls := "ReflectMirror$Thing", name := "<init>", desc := "(ILReflectMirror$Type;)V" } : Jvm.MethodName) prog_26_method_1_code (3 : Nat) (Option.none : Option Jvm.ClassFile.FieldType)) ∈ lw_all := lw_g (lw_at lw_m5 215 rfl) rfl
theorem q1265 : (Jvm.Cond.methodLink "ReflectMirror$Thing" (3 : Nat) ({ cls := "java/lang/Object", name := "<init>", desc := "()V" } : Jvm.MethodName)) ∈ lw_all := lw_g (lw_at lw_m5 216 rfl) rfl
theorem q1271 : (Jvm.Cond.fieldLink "ReflectMirror$Thing" (15 : Nat) "ReflectMirror$Thing" "number" "I") ∈ lw_all := lw_g (lw_at lw_m5 222 rfl) rfl
theorem q1272 : (Jvm.Cond.fieldLink "ReflectMirror$Thing" (18 : Nat) "ReflectMirror$Thing" "type" "LReflectMirror$Type;") ∈ lw_all := lw_g (lw_at lw_m5 223 rfl) rfl
theorem q1277 : (Jvm.Cond.fieldLink "ReflectMirror$Thing" (9 : Nat) "ReflectMirror$Thing" "size" "I") ∈ lw_all := lw_g (lw_at lw_m5 228 rfl) rfl
theorem q1281 : (Jvm.Cond.soleField "ReflectMirror$Thing" "number") ∈ lw_all := lw_g (lw_at lw_m5 232 rfl) rfl
theorem q1283 : (Jvm.Cond.soleField "ReflectMirror$Thing" "type") ∈ lw_all := lw_g (lw_at lw_m5 234 rfl) rfl
theorem q1285 : (Jvm.Cond.soleField "ReflectMirror$Thing" "size") ∈ lw_all := lw_g (lw_at lw_m5 236 rfl) rfl
theorem q2581 : (Jvm.Cond.sameMethod "ReflectMirror$Thing" "ReflectMirror$Thing" "number" "()I") ∈ lw_all := lw_g (lw_at lw_m11 92 rfl) rfl

/-! ReflectMirror$One -/
set_option maxRecDepth 100000
def RX24 : String := "ReflectMirror$One"
def TX24 : u_T := fun k => match k with
  | 0 => ("ReflectMirror$Thing", "number", "I", true)
  | 1 => ("ReflectMirror$Thing", "type", "LReflectMirror$Type;", true)
  | 2 => ("ReflectMirror$Thing", "size", "I", true)
  | _ => ("ReflectMirror$One", "values", "[Ljava/lang/Object;", true)
def tyX24 : Nat → FieldType := fun k => match k with
  | 0 => .int
  | 1 => .object "ReflectMirror$Type"
  | 2 => .int
  | _ => .array (.object "java/lang/Object")
abbrev wsX240 : List Cond := u_ws RX24 TX24 4
theorem nmX24 : ∀ a, a < 4 → ∀ b, b < 4 → a ≠ b → (TX24 a).2.1 ≠ (TX24 b).2.1 := by decide +kernel
theorem tyX24_ok : ∀ k, k < 4 → parseFieldDescriptor (TX24 k).2.2.1 = some (tyX24 k) := by decide +kernel
abbrev cX24_init : ByteArray := prog_16_method_1_code
def yX24_init : MethodName := ⟨RX24, "<init>", "(ILReflectMirror$Type;)V"⟩
def dkwX24_init_0 : List UInt8 := [42, 27, 44, 183, 0, 3, 42, 16, 100, 189, 0, 9, 181, 0, 11, 177]
abbrev dktX24_init_0 : List UInt8 := dkwX24_init_0 ++ []
theorem dksX24_init_0 : cX24_init.data.toList.drop 0 = dktX24_init_0 := by decide +kernel
theorem dX24_init_0 : decode cX24_init 0 = .ok (.aload_n 0, 1) := dk_42 (dk_at dksX24_init_0 0 rfl rfl)
theorem dX24_init_1 : decode cX24_init 1 = .ok (.iload_n 1, 1) := dk_27 (dk_at dksX24_init_0 1 rfl rfl)
theorem dX24_init_2 : decode cX24_init 2 = .ok (.aload_n 2, 1) := dk_44 (dk_at dksX24_init_0 2 rfl rfl)
theorem dX24_init_3 : decode cX24_init 3 = .ok (.invokespecial 3, 3) := dk_183 0 3 (dk_at dksX24_init_0 3 rfl rfl)
theorem dX24_init_6 : decode cX24_init 6 = .ok (.aload_n 0, 1) := dk_42 (dk_at dksX24_init_0 6 rfl rfl)
theorem dX24_init_7 : decode cX24_init 7 = .ok (.bipush 100, 2) := dk_16 100 (dk_at dksX24_init_0 7 rfl rfl)
theorem dX24_init_9 : decode cX24_init 9 = .ok (.anewarray 9, 3) := dk_189 0 9 (dk_at dksX24_init_0 9 rfl rfl)
theorem dX24_init_12 : decode cX24_init 12 = .ok (.putfield 11, 3) := dk_181 0 11 (dk_at dksX24_init_0 12 rfl rfl)
theorem dX24_init_15 : decode cX24_init 15 = .ok (.return_, 1) := dk_177 (dk_at dksX24_init_0 15 rfl rfl)
theorem q119 : (Jvm.Cond.initialized "ReflectMirror$One") ∈ lw_all := lw_g (lw_at lw_m1 30 rfl) rfl
theorem q503 : (Jvm.Cond.castable "ReflectMirror$One" "ReflectMirror$Numbered") ∈ lw_tbl := lw_at lw_m2 174 rfl
theorem q504 : (Jvm.Cond.selects "ReflectMirror$One" ({ cls := "ReflectMirror$Numbered", name := "number", desc := "()I" } : Jvm.MethodName) ({ cls := "ReflectMirror$Thing", name := "number", desc := "()I" } : Jvm.MethodName)) ∈ lw_all := lw_g (lw_at lw_m2 175 rfl) rfl
theorem q505 : (Jvm.Cond.unhidden "ReflectMirror$One" "number" "()I") ∈ lw_tbl := lw_at lw_m2 176 rfl
theorem q1258 : (Jvm.Cond.instantiable "ReflectMirror$One" (4 : Nat)) ∈ lw_all := lw_g (lw_at lw_m5 209 rfl) rfl
theorem q1260 : (Jvm.Cond.instanceMethod ({ cls := "ReflectMirror$One", name := "<init>", desc := "(ILReflectMirror$Type;)V" } : Jvm.MethodName)) ∈ lw_all := lw_g (lw_at lw_m5 211 rfl) rfl
theorem q1261 : (Jvm.Cond.code ({ cls := "ReflectMirror$One", name := "<init>", desc := "(ILReflectMirror$Type;)V" } : Jvm.MethodName) prog_16_method_1_code (3 : Nat) (Option.none : Option Jvm.ClassFile.FieldType)) ∈ lw_all := lw_g (lw_at lw_m5 212 rfl) rfl
theorem q1262 : (Jvm.Cond.methodLink "ReflectMirror$One" (3 : Nat) ({ cls := "ReflectMirror$Thing", name := "<init>", desc := "(ILReflectMirror$Type;)V" } : Jvm.MethodName)) ∈ lw_all := lw_g (lw_at lw_m5 213 rfl) rfl
theorem q1266 : (Jvm.Cond.classLink "ReflectMirror$One" (9 : Nat) "java/lang/Object") ∈ lw_all := lw_g (lw_at lw_m5 217 rfl) rfl
theorem q1268 : (Jvm.Cond.fieldLink "ReflectMirror$One" (11 : Nat) "ReflectMirror$One" "values" "[Ljava/lang/Object;") ∈ lw_all := lw_g (lw_at lw_m5 219 rfl) rfl
theorem q1276 : (Jvm.Cond.sameField "ReflectMirror$One" "ReflectMirror$Thing" "type" "LReflectMirror$Type;") ∈ lw_all := lw_g (lw_at lw_m5 227 rfl) rfl
theorem q1278 : (Jvm.Cond.laysFinal "ReflectMirror$One" "ReflectMirror$One" "values" "[Ljava/lang/Object;") ∈ lw_all := lw_g (lw_at lw_m5 229 rfl) rfl
theorem q1279 : (Jvm.Cond.soleField "ReflectMirror$One" "values") ∈ lw_all := lw_g (lw_at lw_m5 230 rfl) rfl
theorem q1280 : (Jvm.Cond.laysFinal "ReflectMirror$One" "ReflectMirror$Thing" "number" "I") ∈ lw_all := lw_g (lw_at lw_m5 231 rfl) rfl
theorem q1282 : (Jvm.Cond.laysFinal "ReflectMirror$One" "ReflectMirror$Thing" "type" "LReflectMirror$Type;") ∈ lw_all := lw_g (lw_at lw_m5 233 rfl) rfl
theorem q1284 : (Jvm.Cond.laysFinal "ReflectMirror$One" "ReflectMirror$Thing" "size" "I") ∈ lw_all := lw_g (lw_at lw_m5 235 rfl) rfl
theorem q1286 : (Jvm.Cond.superclass "ReflectMirror$One" "ReflectMirror$Thing") ∈ lw_all := lw_g (lw_at lw_m5 237 rfl) rfl
theorem q2583 : (Jvm.Cond.selects "ReflectMirror$One" ({ cls := "ReflectMirror$Thing", name := "number", desc := "()I" } : Jvm.MethodName) ({ cls := "ReflectMirror$Thing", name := "number", desc := "()I" } : Jvm.MethodName)) ∈ lw_all := lw_g (lw_at lw_m11 94 rfl) rfl
theorem q2588 : (Jvm.Cond.castable "ReflectMirror$One" "ReflectMirror$Thing") ∈ lw_tbl := lw_at lw_m11 99 rfl
theorem q2610 : (Jvm.Cond.castable "ReflectMirror$One" "java/lang/Object") ∈ lw_tbl := lw_at lw_m11 121 rfl
theorem in_X24 : ∀ w ∈ wsX240, w ∈ lw_all := lw_in wsX240 [1280, 1282, 1284, 1278] (by decide +kernel) (by decide +kernel)

/-! java/lang/Throwable -/
set_option maxRecDepth 100000
def RJ5 : String := "java/lang/Throwable"
def TJ5 : u_T := fun k => match k with
  | 0 => ("java/lang/Throwable", "cause", "Ljava/lang/Throwable;", false)
  | 1 => ("java/lang/Throwable", "stackTrace", "[Ljava/lang/StackTraceElement;", false)
  | 2 => ("java/lang/Throwable", "suppressedExceptions", "Ljava/util/List;", false)
  | 3 => ("java/lang/Throwable", "detailMessage", "Ljava/lang/String;", false)
  | _ => ("java/lang/Throwable", "backtrace", "Ljava/lang/Object;", false)
def tyJ5 : Nat → FieldType := fun k => match k with
  | 0 => .object "java/lang/Throwable"
  | 1 => .array (.object "java/lang/StackTraceElement")
  | 2 => .object "java/util/List"
  | 3 => .object "java/lang/String"
  | _ => .object "java/lang/Object"
abbrev wsJ50 : List Cond := u_ws RJ5 TJ5 5
theorem nmJ5 : ∀ a, a < 5 → ∀ b, b < 5 → a ≠ b → (TJ5 a).2.1 ≠ (TJ5 b).2.1 := by decide +kernel
theorem tyJ5_ok : ∀ k, k < 5 → parseFieldDescriptor (TJ5 k).2.2.1 = some (tyJ5 k) := by decide +kernel
abbrev cJ5_init : ByteArray := prog_57_method_1_code
def yJ5_init : MethodName := ⟨RJ5, "<init>", "()V"⟩
def dkwJ5_init_1 : List UInt8 := [182, 0, 27, 87, 177]
abbrev dktJ5_init_1 : List UInt8 := dkwJ5_init_1 ++ []
def dkwJ5_init_0 : List UInt8 := [42, 183, 0, 1, 42, 42, 181, 0, 7, 42, 178, 0, 13, 181, 0, 17, 42, 178, 0, 20, 181, 0, 24, 42]
abbrev dktJ5_init_0 : List UInt8 := dkwJ5_init_0 ++ dktJ5_init_1
theorem dksJ5_init_0 : cJ5_init.data.toList.drop 0 = dktJ5_init_0 := by decide +kernel
theorem dksJ5_init_1 : cJ5_init.data.toList.drop 24 = dktJ5_init_1 := dk_seg dksJ5_init_0 24 rfl rfl
theorem dJ5_init_0 : decode cJ5_init 0 = .ok (.aload_n 0, 1) := dk_42 (dk_at dksJ5_init_0 0 rfl rfl)
theorem dJ5_init_1 : decode cJ5_init 1 = .ok (.invokespecial 1, 3) := dk_183 0 1 (dk_at dksJ5_init_0 1 rfl rfl)
theorem dJ5_init_4 : decode cJ5_init 4 = .ok (.aload_n 0, 1) := dk_42 (dk_at dksJ5_init_0 4 rfl rfl)
theorem dJ5_init_5 : decode cJ5_init 5 = .ok (.aload_n 0, 1) := dk_42 (dk_at dksJ5_init_0 5 rfl rfl)
theorem dJ5_init_6 : decode cJ5_init 6 = .ok (.putfield 7, 3) := dk_181 0 7 (dk_at dksJ5_init_0 6 rfl rfl)
theorem dJ5_init_9 : decode cJ5_init 9 = .ok (.aload_n 0, 1) := dk_42 (dk_at dksJ5_init_0 9 rfl rfl)
theorem dJ5_init_10 : decode cJ5_init 10 = .ok (.getstatic 13, 3) := dk_178 0 13 (dk_at dksJ5_init_0 10 rfl rfl)
theorem dJ5_init_13 : decode cJ5_init 13 = .ok (.putfield 17, 3) := dk_181 0 17 (dk_at dksJ5_init_0 13 rfl rfl)
theorem dJ5_init_16 : decode cJ5_init 16 = .ok (.aload_n 0, 1) := dk_42 (dk_at dksJ5_init_0 16 rfl rfl)
theorem dJ5_init_17 : decode cJ5_init 17 = .ok (.getstatic 20, 3) := dk_178 0 20 (dk_at dksJ5_init_0 17 rfl rfl)
theorem dJ5_init_20 : decode cJ5_init 20 = .ok (.putfield 24, 3) := dk_181 0 24 (dk_at dksJ5_init_0 20 rfl rfl)
theorem dJ5_init_23 : decode cJ5_init 23 = .ok (.aload_n 0, 1) := dk_42 (dk_at dksJ5_init_0 23 rfl rfl)
theorem dJ5_init_24 : decode cJ5_init 24 = .ok (.invokevirtual 27, 3) := dk_182 0 27 (dk_at dksJ5_init_1 0 rfl rfl)
theorem dJ5_init_27 : decode cJ5_init 27 = .ok (.pop, 1) := dk_87 (dk_at dksJ5_init_1 3 rfl rfl)
theorem dJ5_init_28 : decode cJ5_init 28 = .ok (.return_, 1) := dk_177 (dk_at dksJ5_init_1 4 rfl rfl)
abbrev cJ5_init_2 : ByteArray := prog_57_method_2_code
def yJ5_init_2 : MethodName := ⟨RJ5, "<init>", "(Ljava/lang/String;)V"⟩
def dkwJ5_init_2_1 : List UInt8 := [182, 0, 27, 87, 42, 43, 181, 0, 31, 177]
abbrev dktJ5_init_2_1 : List UInt8 := dkwJ5_init_2_1 ++ []
def dkwJ5_init_2_0 : List UInt8 := [42, 183, 0, 1, 42, 42, 181, 0, 7, 42, 178, 0, 13, 181, 0, 17, 42, 178, 0, 20, 181, 0, 24, 42]
abbrev dktJ5_init_2_0 : List UInt8 := dkwJ5_init_2_0 ++ dktJ5_init_2_1
theorem dksJ5_init_2_0 : cJ5_init_2.data.toList.drop 0 = dktJ5_init_2_0 := by decide +kernel
theorem dksJ5_init_2_1 : cJ5_init_2.data.toList.drop 24 = dktJ5_init_2_1 := dk_seg dksJ5_init_2_0 24 rfl rfl
theorem dJ5_init_2_0 : decode cJ5_init_2 0 = .ok (.aload_n 0, 1) := dk_42 (dk_at dksJ5_init_2_0 0 rfl rfl)
theorem dJ5_init_2_1 : decode cJ5_init_2 1 = .ok (.invokespecial 1, 3) := dk_183 0 1 (dk_at dksJ5_init_2_0 1 rfl rfl)
theorem dJ5_init_2_4 : decode cJ5_init_2 4 = .ok (.aload_n 0, 1) := dk_42 (dk_at dksJ5_init_2_0 4 rfl rfl)
theorem dJ5_init_2_5 : decode cJ5_init_2 5 = .ok (.aload_n 0, 1) := dk_42 (dk_at dksJ5_init_2_0 5 rfl rfl)
theorem dJ5_init_2_6 : decode cJ5_init_2 6 = .ok (.putfield 7, 3) := dk_181 0 7 (dk_at dksJ5_init_2_0 6 rfl rfl)
theorem dJ5_init_2_9 : decode cJ5_init_2 9 = .ok (.aload_n 0, 1) := dk_42 (dk_at dksJ5_init_2_0 9 rfl rfl)
theorem dJ5_init_2_10 : decode cJ5_init_2 10 = .ok (.getstatic 13, 3) := dk_178 0 13 (dk_at dksJ5_init_2_0 10 rfl rfl)
theorem dJ5_init_2_13 : decode cJ5_init_2 13 = .ok (.putfield 17, 3) := dk_181 0 17 (dk_at dksJ5_init_2_0 13 rfl rfl)
theorem dJ5_init_2_16 : decode cJ5_init_2 16 = .ok (.aload_n 0, 1) := dk_42 (dk_at dksJ5_init_2_0 16 rfl rfl)
theorem dJ5_init_2_17 : decode cJ5_init_2 17 = .ok (.getstatic 20, 3) := dk_178 0 20 (dk_at dksJ5_init_2_0 17 rfl rfl)
theorem dJ5_init_2_20 : decode cJ5_init_2 20 = .ok (.putfield 24, 3) := dk_181 0 24 (dk_at dksJ5_init_2_0 20 rfl rfl)
theorem dJ5_init_2_23 : decode cJ5_init_2 23 = .ok (.aload_n 0, 1) := dk_42 (dk_at dksJ5_init_2_0 23 rfl rfl)
theorem dJ5_init_2_24 : decode cJ5_init_2 24 = .ok (.invokevirtual 27, 3) := dk_182 0 27 (dk_at dksJ5_init_2_1 0 rfl rfl)
theorem dJ5_init_2_27 : decode cJ5_init_2 27 = .ok (.pop, 1) := dk_87 (dk_at dksJ5_init_2_1 3 rfl rfl)
theorem dJ5_init_2_28 : decode cJ5_init_2 28 = .ok (.aload_n 0, 1) := dk_42 (dk_at dksJ5_init_2_1 4 rfl rfl)
theorem dJ5_init_2_29 : decode cJ5_init_2 29 = .ok (.aload_n 1, 1) := dk_43 (dk_at dksJ5_init_2_1 5 rfl rfl)
theorem dJ5_init_2_30 : decode cJ5_init_2 30 = .ok (.putfield 31, 3) := dk_181 0 31 (dk_at dksJ5_init_2_1 6 rfl rfl)
theorem dJ5_init_2_33 : decode cJ5_init_2 33 = .ok (.return_, 1) := dk_177 (dk_at dksJ5_init_2_1 9 rfl rfl)
abbrev cJ5_init_3 : ByteArray := prog_57_method_5_code
def yJ5_init_3 : MethodName := ⟨RJ5, "<init>", "(Ljava/lang/String;Ljava/lang/Throwable;ZZ)V"⟩
def dkwJ5_init_3_2 : List UInt8 := [44, 181, 0, 7, 29, 154, 0, 8, 42, 1, 181, 0, 24, 177]
abbrev dktJ5_init_3_2 : List UInt8 := dkwJ5_init_3_2 ++ []
def dkwJ5_init_3_1 : List UInt8 := [21, 4, 153, 0, 11, 42, 182, 0, 27, 87, 167, 0, 8, 42, 1, 181, 0, 17, 42, 43, 181, 0, 31, 42]
abbrev dktJ5_init_3_1 : List UInt8 := dkwJ5_init_3_1 ++ dktJ5_init_3_2
def dkwJ5_init_3_0 : List UInt8 := [42, 183, 0, 1, 42, 42, 181, 0, 7, 42, 178, 0, 13, 181, 0, 17, 42, 178, 0, 20, 181, 0, 24]
abbrev dktJ5_init_3_0 : List UInt8 := dkwJ5_init_3_0 ++ dktJ5_init_3_1
theorem dksJ5_init_3_0 : cJ5_init_3.data.toList.drop 0 = dktJ5_init_3_0 := by decide +kernel
theorem dksJ5_init_3_1 : cJ5_init_3.data.toList.drop 23 = dktJ5_init_3_1 := dk_seg dksJ5_init_3_0 23 rfl rfl
theorem dksJ5_init_3_2 : cJ5_init_3.data.toList.drop 47 = dktJ5_init_3_2 := dk_seg dksJ5_init_3_1 24 rfl rfl
theorem dJ5_init_3_0 : decode cJ5_init_3 0 = .ok (.aload_n 0, 1) := dk_42 (dk_at dksJ5_init_3_0 0 rfl rfl)
theorem dJ5_init_3_1 : decode cJ5_init_3 1 = .ok (.invokespecial 1, 3) := dk_183 0 1 (dk_at dksJ5_init_3_0 1 rfl rfl)
theorem dJ5_init_3_4 : decode cJ5_init_3 4 = .ok (.aload_n 0, 1) := dk_42 (dk_at dksJ5_init_3_0 4 rfl rfl)
theorem dJ5_init_3_5 : decode cJ5_init_3 5 = .ok (.aload_n 0, 1) := dk_42 (dk_at dksJ5_init_3_0 5 rfl rfl)
theorem dJ5_init_3_6 : decode cJ5_init_3 6 = .ok (.putfield 7, 3) := dk_181 0 7 (dk_at dksJ5_init_3_0 6 rfl rfl)
theorem dJ5_init_3_9 : decode cJ5_init_3 9 = .ok (.aload_n 0, 1) := dk_42 (dk_at dksJ5_init_3_0 9 rfl rfl)
theorem dJ5_init_3_10 : decode cJ5_init_3 10 = .ok (.getstatic 13, 3) := dk_178 0 13 (dk_at dksJ5_init_3_0 10 rfl rfl)
theorem dJ5_init_3_13 : decode cJ5_init_3 13 = .ok (.putfield 17, 3) := dk_181 0 17 (dk_at dksJ5_init_3_0 13 rfl rfl)
theorem dJ5_init_3_16 : decode cJ5_init_3 16 = .ok (.aload_n 0, 1) := dk_42 (dk_at dksJ5_init_3_0 16 rfl rfl)
theorem dJ5_init_3_17 : decode cJ5_init_3 17 = .ok (.getstatic 20, 3) := dk_178 0 20 (dk_at dksJ5_init_3_0 17 rfl rfl)
theorem dJ5_init_3_20 : decode cJ5_init_3 20 = .ok (.putfield 24, 3) := dk_181 0 24 (dk_at dksJ5_init_3_0 20 rfl rfl)
theorem dJ5_init_3_23 : decode cJ5_init_3 23 = .ok (.iload 4, 2) := dk_21 4 (dk_at dksJ5_init_3_1 0 rfl rfl)
theorem dJ5_init_3_25 : decode cJ5_init_3 25 = .ok (.ifCond .eq 11, 3) := dk_153 0 11 (dk_at dksJ5_init_3_1 2 rfl rfl)
theorem dJ5_init_3_28 : decode cJ5_init_3 28 = .ok (.aload_n 0, 1) := dk_42 (dk_at dksJ5_init_3_1 5 rfl rfl)
theorem dJ5_init_3_29 : decode cJ5_init_3 29 = .ok (.invokevirtual 27, 3) := dk_182 0 27 (dk_at dksJ5_init_3_1 6 rfl rfl)
theorem dJ5_init_3_32 : decode cJ5_init_3 32 = .ok (.pop, 1) := dk_87 (dk_at dksJ5_init_3_1 9 rfl rfl)
theorem dJ5_init_3_33 : decode cJ5_init_3 33 = .ok (.goto 8, 3) := dk_167 0 8 (dk_at dksJ5_init_3_1 10 rfl rfl)
theorem dJ5_init_3_36 : decode cJ5_init_3 36 = .ok (.aload_n 0, 1) := dk_42 (dk_at dksJ5_init_3_1 13 rfl rfl)
theorem dJ5_init_3_37 : decode cJ5_init_3 37 = .ok (.aconst_null, 1) := dk_1 (dk_at dksJ5_init_3_1 14 rfl rfl)
theorem dJ5_init_3_38 : decode cJ5_init_3 38 = .ok (.putfield 17, 3) := dk_181 0 17 (dk_at dksJ5_init_3_1 15 rfl rfl)
theorem dJ5_init_3_41 : decode cJ5_init_3 41 = .ok (.aload_n 0, 1) := dk_42 (dk_at dksJ5_init_3_1 18 rfl rfl)
theorem dJ5_init_3_42 : decode cJ5_init_3 42 = .ok (.aload_n 1, 1) := dk_43 (dk_at dksJ5_init_3_1 19 rfl rfl)
theorem dJ5_init_3_43 : decode cJ5_init_3 43 = .ok (.putfield 31, 3) := dk_181 0 31 (dk_at dksJ5_init_3_1 20 rfl rfl)
theorem dJ5_init_3_46 : decode cJ5_init_3 46 = .ok (.aload_n 0, 1) := dk_42 (dk_at dksJ5_init_3_1 23 rfl rfl)
theorem dJ5_init_3_47 : decode cJ5_init_3 47 = .ok (.aload_n 2, 1) := dk_44 (dk_at dksJ5_init_3_2 0 rfl rfl)
theorem dJ5_init_3_48 : decode cJ5_init_3 48 = .ok (.putfield 7, 3) := dk_181 0 7 (dk_at dksJ5_init_3_2 1 rfl rfl)
theorem dJ5_init_3_51 : decode cJ5_init_3 51 = .ok (.iload_n 3, 1) := dk_29 (dk_at dksJ5_init_3_2 4 rfl rfl)
theorem dJ5_init_3_52 : decode cJ5_init_3 52 = .ok (.ifCond .ne 8, 3) := dk_154 0 8 (dk_at dksJ5_init_3_2 5 rfl rfl)
theorem dJ5_init_3_55 : decode cJ5_init_3 55 = .ok (.aload_n 0, 1) := dk_42 (dk_at dksJ5_init_3_2 8 rfl rfl)
theorem dJ5_init_3_56 : decode cJ5_init_3 56 = .ok (.aconst_null, 1) := dk_1 (dk_at dksJ5_init_3_2 9 rfl rfl)
theorem dJ5_init_3_57 : decode cJ5_init_3 57 = .ok (.putfield 24, 3) := dk_181 0 24 (dk_at dksJ5_init_3_2 10 rfl rfl)
theorem dJ5_init_3_60 : decode cJ5_init_3 60 = .ok (.return_, 1) := dk_177 (dk_at dksJ5_init_3_2 13 rfl rfl)
theorem q120 : (Jvm.Cond.initialized "java/lang/Throwable") ∈ lw_all := lw_g (lw_at lw_m1 31 rfl) rfl
theorem q1312 : (Jvm.Cond.instanceMethod ({ cls := "java/lang/Throwable", name := "<init>", desc := "()V" } : Jvm.MethodName)) ∈ lw_all := lw_g (lw_at lw_m6 23 rfl) rfl
theorem q1313 : (Jvm.Cond.code ({ cls := "java/lang/Throwable", name := "<init>", desc := "()V" } : Jvm.MethodName) prog_57_method_1_code (1 : Nat) (Option.none : Option Jvm.ClassFile.FieldType)) ∈ lw_all := lw_g (lw_at lw_m6 24 rfl) rfl
theorem q1314 : (Jvm.Cond.methodLink "java/lang/Throwable" (1 : Nat) ({ cls := "java/lang/Object", name := "<init>", desc := "()V" } : Jvm.MethodName)) ∈ lw_all := lw_g (lw_at lw_m6 25 rfl) rfl
theorem q1315 : (Jvm.Cond.fieldLink "java/lang/Throwable" (13 : Nat) "java/lang/Throwable" "UNASSIGNED_STACK" "[Ljava/lang/StackTraceElement;") ∈ lw_all := lw_g (lw_at lw_m6 26 rfl) rfl
theorem q1316 : (Jvm.Cond.laysStatic "java/lang/Throwable" "UNASSIGNED_STACK" "[Ljava/lang/StackTraceElement;") ∈ lw_tbl := lw_at lw_m6 27 rfl
theorem q1317 : (Jvm.Cond.fieldLink "java/lang/Throwable" (20 : Nat) "java/lang/Throwable" "SUPPRESSED_SENTINEL" "Ljava/util/List;") ∈ lw_all := lw_g (lw_at lw_m6 28 rfl) rfl
theorem q1318 : (Jvm.Cond.laysStatic "java/lang/Throwable" "SUPPRESSED_SENTINEL" "Ljava/util/List;") ∈ lw_tbl := lw_at lw_m6 29 rfl
theorem q1319 : (Jvm.Cond.methodLink "java/lang/Throwable" (27 : Nat) ({ cls := "java/lang/Throwable", name := "fillInStackTrace", desc := "()Ljava/lang/Throwable;" } : Jvm.MethodName)) ∈ lw_all := lw_g (lw_at lw_m6 30 rfl) rfl
theorem q1320 : (Jvm.Cond.instanceMethod ({ cls := "java/lang/Throwable", name := "fillInStackTrace", desc := "()Ljava/lang/Throwable;" } : Jvm.MethodName)) ∈ lw_all := lw_g (lw_at lw_m6 31 rfl) rfl
theorem q1321 : (Jvm.Cond.sameMethod "java/lang/Throwable" "java/lang/Throwable" "fillInStackTrace" "()Ljava/lang/Throwable;") ∈ lw_all := lw_g (lw_at lw_m6 32 rfl) rfl
theorem q1337 : (Jvm.Cond.declares ({ cls := "java/lang/Throwable", name := "fillInStackTrace", desc := "()Ljava/lang/Throwable;" } : Jvm.MethodName)) ∈ lw_tbl := lw_at lw_m6 48 rfl
theorem q1341 : (Jvm.Cond.codeSync ({ cls := "java/lang/Throwable", name := "fillInStackTrace", desc := "()Ljava/lang/Throwable;" } : Jvm.MethodName) prog_57_method_18_code (1 : Nat) (Option.some (Jvm.ClassFile.FieldType.object "java/lang/Throwable"))) ∈ lw_all := lw_g (lw_at lw_m6 52 rfl) rfl
theorem q1342 : (Jvm.Cond.methodLink "java/lang/Throwable" (202 : Nat) ({ cls := "java/lang/Throwable", name := "fillInStackTrace", desc := "(I)Ljava/lang/Throwable;" } : Jvm.MethodName)) ∈ lw_all := lw_g (lw_at lw_m6 53 rfl) rfl
theorem q1343 : (Jvm.Cond.privateMethod ({ cls := "java/lang/Throwable", name := "fillInStackTrace", desc := "(I)Ljava/lang/Throwable;" } : Jvm.MethodName)) ∈ lw_tbl := lw_at lw_m6 54 rfl
theorem q1344 : (Jvm.Cond.instanceMethod ({ cls := "java/lang/Throwable", name := "fillInStackTrace", desc := "(I)Ljava/lang/Throwable;" } : Jvm.MethodName)) ∈ lw_all := lw_g (lw_at lw_m6 55 rfl) rfl
theorem q1345 : (Jvm.Cond.instantiable "java/lang/Throwable" (6 : Nat)) ∈ lw_all := lw_g (lw_at lw_m6 56 rfl) rfl
theorem q1346 : (Jvm.Cond.native ({ cls := "java/lang/Throwable", name := "fillInStackTrace", desc := "(I)Ljava/lang/Throwable;" } : Jvm.MethodName)) ∈ lw_all := lw_g (lw_at lw_m6 57 rfl) rfl
theorem q1349 : (Jvm.Cond.fieldLink "java/lang/Throwable" (198 : Nat) "java/lang/Throwable" "backtrace" "Ljava/lang/Object;") ∈ lw_all := lw_g (lw_at lw_m6 60 rfl) rfl
theorem q1350 : (Jvm.Cond.fieldLink "java/lang/Throwable" (31 : Nat) "java/lang/Throwable" "detailMessage" "Ljava/lang/String;") ∈ lw_all := lw_g (lw_at lw_m6 61 rfl) rfl
theorem q1351 : (Jvm.Cond.fieldLink "java/lang/Throwable" (7 : Nat) "java/lang/Throwable" "cause" "Ljava/lang/Throwable;") ∈ lw_all := lw_g (lw_at lw_m6 62 rfl) rfl
theorem q1352 : (Jvm.Cond.fieldLink "java/lang/Throwable" (17 : Nat) "java/lang/Throwable" "stackTrace" "[Ljava/lang/StackTraceElement;") ∈ lw_all := lw_g (lw_at lw_m6 63 rfl) rfl
theorem q1353 : (Jvm.Cond.fieldLink "java/lang/Throwable" (24 : Nat) "java/lang/Throwable" "suppressedExceptions" "Ljava/util/List;") ∈ lw_all := lw_g (lw_at lw_m6 64 rfl) rfl
theorem q1359 : (Jvm.Cond.soleField "java/lang/Throwable" "backtrace") ∈ lw_all := lw_g (lw_at lw_m6 70 rfl) rfl
theorem q1361 : (Jvm.Cond.soleField "java/lang/Throwable" "detailMessage") ∈ lw_all := lw_g (lw_at lw_m6 72 rfl) rfl
theorem q1363 : (Jvm.Cond.soleField "java/lang/Throwable" "cause") ∈ lw_all := lw_g (lw_at lw_m6 74 rfl) rfl
theorem q1365 : (Jvm.Cond.soleField "java/lang/Throwable" "stackTrace") ∈ lw_all := lw_g (lw_at lw_m6 76 rfl) rfl
theorem q1367 : (Jvm.Cond.soleField "java/lang/Throwable" "depth") ∈ lw_all := lw_g (lw_at lw_m6 78 rfl) rfl
theorem q1369 : (Jvm.Cond.soleField "java/lang/Throwable" "suppressedExceptions") ∈ lw_all := lw_g (lw_at lw_m6 80 rfl) rfl
theorem q1375 : (Jvm.Cond.declares ({ cls := "java/lang/Throwable", name := "<init>", desc := "()V" } : Jvm.MethodName)) ∈ lw_tbl := lw_at lw_m6 86 rfl
theorem q1376 : (Jvm.Cond.declares ({ cls := "java/lang/Throwable", name := "<init>", desc := "(Ljava/lang/String;)V" } : Jvm.MethodName)) ∈ lw_tbl := lw_at lw_m6 87 rfl
theorem q1378 : (Jvm.Cond.lays "java/lang/Throwable" "java/lang/Throwable" "cause" "Ljava/lang/Throwable;") ∈ lw_all := lw_g (lw_at lw_m6 89 rfl) rfl
theorem q1379 : (Jvm.Cond.lays "java/lang/Throwable" "java/lang/Throwable" "stackTrace" "[Ljava/lang/StackTraceElement;") ∈ lw_all := lw_g (lw_at lw_m6 90 rfl) rfl
theorem q1380 : (Jvm.Cond.lays "java/lang/Throwable" "java/lang/Throwable" "suppressedExceptions" "Ljava/util/List;") ∈ lw_all := lw_g (lw_at lw_m6 91 rfl) rfl
theorem q1381 : (Jvm.Cond.lays "java/lang/Throwable" "java/lang/Throwable" "detailMessage" "Ljava/lang/String;") ∈ lw_all := lw_g (lw_at lw_m6 92 rfl) rfl
theorem q1382 : (Jvm.Cond.lays "java/lang/Throwable" "java/lang/Throwable" "backtrace" "Ljava/lang/Object;") ∈ lw_all := lw_g (lw_at lw_m6 93 rfl) rfl
theorem q1383 : (Jvm.Cond.fieldLink "java/lang/Throwable" (198 : Nat) "java/lang/Throwable" "backtrace" "Ljava/lang/Object;") ∈ lw_all := lw_g (lw_at lw_m6 94 rfl) rfl
theorem q1384 : (Jvm.Cond.superclass "java/lang/Throwable" "java/lang/Object") ∈ lw_all := lw_g (lw_at lw_m6 95 rfl) rfl
theorem q1397 : (Jvm.Cond.instanceMethod ({ cls := "java/lang/Throwable", name := "<init>", desc := "(Ljava/lang/String;)V" } : Jvm.MethodName)) ∈ lw_all := lw_g (lw_at lw_m6 108 rfl) rfl
theorem q1398 : (Jvm.Cond.code ({ cls := "java/lang/Throwable", name := "<init>", desc := "(Ljava/lang/String;)V" } : Jvm.MethodName) prog_57_method_2_code (2 : Nat) (Option.none : Option Jvm.ClassFile.FieldType)) ∈ lw_all := lw_g (lw_at lw_m6 109 rfl) rfl
theorem q1510 : (Jvm.Cond.instanceMethod ({ cls := "java/lang/Throwable", name := "<init>", desc := "(Ljava/lang/String;Ljava/lang/Throwable;ZZ)V" } : Jvm.MethodName)) ∈ lw_all := lw_g (lw_at lw_m6 221 rfl) rfl
theorem q1511 : (Jvm.Cond.code ({ cls := "java/lang/Throwable", name := "<init>", desc := "(Ljava/lang/String;Ljava/lang/Throwable;ZZ)V" } : Jvm.MethodName) prog_57_method_5_code (5 : Nat) (Option.none : Option Jvm.ClassFile.FieldType)) ∈ lw_all := lw_g (lw_at lw_m6 222 rfl) rfl
theorem q2584 : (Jvm.Cond.sameMethod "java/lang/Throwable" "java/lang/Throwable" "fillInStackTrace" "(I)Ljava/lang/Throwable;") ∈ lw_all := lw_g (lw_at lw_m11 95 rfl) rfl
theorem q2620 : (Jvm.Cond.castable "java/lang/Throwable" "java/lang/Object") ∈ lw_tbl := lw_at lw_m11 131 rfl
theorem in_J5 : ∀ w ∈ wsJ50, w ∈ lw_all := lw_in wsJ50 [1378, 1379, 1380, 1381, 1382] (by decide +kernel) (by decide +kernel)

/-! java/lang/Exception -/
set_option maxRecDepth 100000
def RJ6 : String := "java/lang/Exception"
abbrev cJ6_init : ByteArray := prog_41_method_1_code
def yJ6_init : MethodName := ⟨RJ6, "<init>", "()V"⟩
theorem dJ6_init_0 : decode cJ6_init 0 = .ok (.aload_n 0, 1) := by decide +kernel
theorem dJ6_init_1 : decode cJ6_init 1 = .ok (.invokespecial 1, 3) := by decide +kernel
theorem dJ6_init_4 : decode cJ6_init 4 = .ok (.return_, 1) := by decide +kernel
abbrev cJ6_init_2 : ByteArray := prog_41_method_2_code
def yJ6_init_2 : MethodName := ⟨RJ6, "<init>", "(Ljava/lang/String;)V"⟩
def dkwJ6_init_2_0 : List UInt8 := [42, 43, 183, 0, 7, 177]
abbrev dktJ6_init_2_0 : List UInt8 := dkwJ6_init_2_0 ++ []
theorem dksJ6_init_2_0 : cJ6_init_2.data.toList.drop 0 = dktJ6_init_2_0 := by decide +kernel
theorem dJ6_init_2_0 : decode cJ6_init_2 0 = .ok (.aload_n 0, 1) := dk_42 (dk_at dksJ6_init_2_0 0 rfl rfl)
theorem dJ6_init_2_1 : decode cJ6_init_2 1 = .ok (.aload_n 1, 1) := dk_43 (dk_at dksJ6_init_2_0 1 rfl rfl)
theorem dJ6_init_2_2 : decode cJ6_init_2 2 = .ok (.invokespecial 7, 3) := dk_183 0 7 (dk_at dksJ6_init_2_0 2 rfl rfl)
theorem dJ6_init_2_5 : decode cJ6_init_2 5 = .ok (.return_, 1) := dk_177 (dk_at dksJ6_init_2_0 5 rfl rfl)
abbrev cJ6_init_3 : ByteArray := prog_41_method_5_code
def yJ6_init_3 : MethodName := ⟨RJ6, "<init>", "(Ljava/lang/String;Ljava/lang/Throwable;ZZ)V"⟩
def dkwJ6_init_3_0 : List UInt8 := [42, 43, 44, 29, 21, 4, 183, 0, 16, 177]
abbrev dktJ6_init_3_0 : List UInt8 := dkwJ6_init_3_0 ++ []
theorem dksJ6_init_3_0 : cJ6_init_3.data.toList.drop 0 = dktJ6_init_3_0 := by decide +kernel
theorem dJ6_init_3_0 : decode cJ6_init_3 0 = .ok (.aload_n 0, 1) := dk_42 (dk_at dksJ6_init_3_0 0 rfl rfl)
theorem dJ6_init_3_1 : decode cJ6_init_3 1 = .ok (.aload_n 1, 1) := dk_43 (dk_at dksJ6_init_3_0 1 rfl rfl)
theorem dJ6_init_3_2 : decode cJ6_init_3 2 = .ok (.aload_n 2, 1) := dk_44 (dk_at dksJ6_init_3_0 2 rfl rfl)
theorem dJ6_init_3_3 : decode cJ6_init_3 3 = .ok (.iload_n 3, 1) := dk_29 (dk_at dksJ6_init_3_0 3 rfl rfl)
theorem dJ6_init_3_4 : decode cJ6_init_3 4 = .ok (.iload 4, 2) := dk_21 4 (dk_at dksJ6_init_3_0 4 rfl rfl)
theorem dJ6_init_3_6 : decode cJ6_init_3 6 = .ok (.invokespecial 16, 3) := dk_183 0 16 (dk_at dksJ6_init_3_0 6 rfl rfl)
theorem dJ6_init_3_9 : decode cJ6_init_3 9 = .ok (.return_, 1) := dk_177 (dk_at dksJ6_init_3_0 9 rfl rfl)
theorem q121 : (Jvm.Cond.initialized "java/lang/Exception") ∈ lw_all := lw_g (lw_at lw_m1 32 rfl) rfl
theorem q1309 : (Jvm.Cond.instanceMethod ({ cls := "java/lang/Exception", name := "<init>", desc := "()V" } : Jvm.MethodName)) ∈ lw_all := lw_g (lw_at lw_m6 20 rfl) rfl
theorem q1310 : (Jvm.Cond.code ({ cls := "java/lang/Exception", name := "<init>", desc := "()V" } : Jvm.MethodName) prog_41_method_1_code (1 : Nat) (Option.none : Option Jvm.ClassFile.FieldType)) ∈ lw_all := lw_g (lw_at lw_m6 21 rfl) rfl
theorem q1311 : (Jvm.Cond.methodLink "java/lang/Exception" (1 : Nat) ({ cls := "java/lang/Throwable", name := "<init>", desc := "()V" } : Jvm.MethodName)) ∈ lw_all := lw_g (lw_at lw_m6 22 rfl) rfl
theorem q1340 : (Jvm.Cond.superclass "java/lang/Exception" "java/lang/Throwable") ∈ lw_all := lw_g (lw_at lw_m6 51 rfl) rfl
theorem q1373 : (Jvm.Cond.declares ({ cls := "java/lang/Exception", name := "<init>", desc := "()V" } : Jvm.MethodName)) ∈ lw_tbl := lw_at lw_m6 84 rfl
theorem q1374 : (Jvm.Cond.declares ({ cls := "java/lang/Exception", name := "<init>", desc := "(Ljava/lang/String;)V" } : Jvm.MethodName)) ∈ lw_tbl := lw_at lw_m6 85 rfl
theorem q1394 : (Jvm.Cond.instanceMethod ({ cls := "java/lang/Exception", name := "<init>", desc := "(Ljava/lang/String;)V" } : Jvm.MethodName)) ∈ lw_all := lw_g (lw_at lw_m6 105 rfl) rfl
theorem q1395 : (Jvm.Cond.code ({ cls := "java/lang/Exception", name := "<init>", desc := "(Ljava/lang/String;)V" } : Jvm.MethodName) prog_41_method_2_code (2 : Nat) (Option.none : Option Jvm.ClassFile.FieldType)) ∈ lw_all := lw_g (lw_at lw_m6 106 rfl) rfl
theorem q1396 : (Jvm.Cond.methodLink "java/lang/Exception" (7 : Nat) ({ cls := "java/lang/Throwable", name := "<init>", desc := "(Ljava/lang/String;)V" } : Jvm.MethodName)) ∈ lw_all := lw_g (lw_at lw_m6 107 rfl) rfl
theorem q1507 : (Jvm.Cond.instanceMethod ({ cls := "java/lang/Exception", name := "<init>", desc := "(Ljava/lang/String;Ljava/lang/Throwable;ZZ)V" } : Jvm.MethodName)) ∈ lw_all := lw_g (lw_at lw_m6 218 rfl) rfl
theorem q1508 : (Jvm.Cond.code ({ cls := "java/lang/Exception", name := "<init>", desc := "(Ljava/lang/String;Ljava/lang/Throwable;ZZ)V" } : Jvm.MethodName) prog_41_method_5_code (5 : Nat) (Option.none : Option Jvm.ClassFile.FieldType)) ∈ lw_all := lw_g (lw_at lw_m6 219 rfl) rfl
theorem q1509 : (Jvm.Cond.methodLink "java/lang/Exception" (16 : Nat) ({ cls := "java/lang/Throwable", name := "<init>", desc := "(Ljava/lang/String;Ljava/lang/Throwable;ZZ)V" } : Jvm.MethodName)) ∈ lw_all := lw_g (lw_at lw_m6 220 rfl) rfl

/-! java/lang/RuntimeException -/
set_option maxRecDepth 100000
def RJ7 : String := "java/lang/RuntimeException"
abbrev cJ7_init : ByteArray := prog_51_method_1_code
def yJ7_init : MethodName := ⟨RJ7, "<init>", "()V"⟩
theorem dJ7_init_0 : decode cJ7_init 0 = .ok (.aload_n 0, 1) := by decide +kernel
theorem dJ7_init_1 : decode cJ7_init 1 = .ok (.invokespecial 1, 3) := by decide +kernel
theorem dJ7_init_4 : decode cJ7_init 4 = .ok (.return_, 1) := by decide +kernel
abbrev cJ7_init_2 : ByteArray := prog_51_method_2_code
def yJ7_init_2 : MethodName := ⟨RJ7, "<init>", "(Ljava/lang/String;)V"⟩
def dkwJ7_init_2_0 : List UInt8 := [42, 43, 183, 0, 7, 177]
abbrev dktJ7_init_2_0 : List UInt8 := dkwJ7_init_2_0 ++ []
theorem dksJ7_init_2_0 : cJ7_init_2.data.toList.drop 0 = dktJ7_init_2_0 := by decide +kernel
theorem dJ7_init_2_0 : decode cJ7_init_2 0 = .ok (.aload_n 0, 1) := dk_42 (dk_at dksJ7_init_2_0 0 rfl rfl)
theorem dJ7_init_2_1 : decode cJ7_init_2 1 = .ok (.aload_n 1, 1) := dk_43 (dk_at dksJ7_init_2_0 1 rfl rfl)
theorem dJ7_init_2_2 : decode cJ7_init_2 2 = .ok (.invokespecial 7, 3) := dk_183 0 7 (dk_at dksJ7_init_2_0 2 rfl rfl)
theorem dJ7_init_2_5 : decode cJ7_init_2 5 = .ok (.return_, 1) := dk_177 (dk_at dksJ7_init_2_0 5 rfl rfl)
theorem q122 : (Jvm.Cond.initialized "java/lang/RuntimeException") ∈ lw_all := lw_g (lw_at lw_m1 33 rfl) rfl
theorem q1306 : (Jvm.Cond.instanceMethod ({ cls := "java/lang/RuntimeException", name := "<init>", desc := "()V" } : Jvm.MethodName)) ∈ lw_all := lw_g (lw_at lw_m6 17 rfl) rfl
theorem q1307 : (Jvm.Cond.code ({ cls := "java/lang/RuntimeException", name := "<init>", desc := "()V" } : Jvm.MethodName) prog_51_method_1_code (1 : Nat) (Option.none : Option Jvm.ClassFile.FieldType)) ∈ lw_all := lw_g (lw_at lw_m6 18 rfl) rfl
theorem q1308 : (Jvm.Cond.methodLink "java/lang/RuntimeException" (1 : Nat) ({ cls := "java/lang/Exception", name := "<init>", desc := "()V" } : Jvm.MethodName)) ∈ lw_all := lw_g (lw_at lw_m6 19 rfl) rfl
theorem q1336 : (Jvm.Cond.sameMethod "java/lang/RuntimeException" "java/lang/Throwable" "fillInStackTrace" "()Ljava/lang/Throwable;") ∈ lw_all := lw_g (lw_at lw_m6 47 rfl) rfl
theorem q1339 : (Jvm.Cond.superclass "java/lang/RuntimeException" "java/lang/Exception") ∈ lw_all := lw_g (lw_at lw_m6 50 rfl) rfl
theorem q1371 : (Jvm.Cond.declares ({ cls := "java/lang/RuntimeException", name := "<init>", desc := "()V" } : Jvm.MethodName)) ∈ lw_tbl := lw_at lw_m6 82 rfl
theorem q1372 : (Jvm.Cond.declares ({ cls := "java/lang/RuntimeException", name := "<init>", desc := "(Ljava/lang/String;)V" } : Jvm.MethodName)) ∈ lw_tbl := lw_at lw_m6 83 rfl
theorem q1385 : (Jvm.Cond.castable "java/lang/RuntimeException" "java/lang/Throwable") ∈ lw_tbl := lw_at lw_m6 96 rfl
theorem q1391 : (Jvm.Cond.instanceMethod ({ cls := "java/lang/RuntimeException", name := "<init>", desc := "(Ljava/lang/String;)V" } : Jvm.MethodName)) ∈ lw_all := lw_g (lw_at lw_m6 102 rfl) rfl
theorem q1392 : (Jvm.Cond.code ({ cls := "java/lang/RuntimeException", name := "<init>", desc := "(Ljava/lang/String;)V" } : Jvm.MethodName) prog_51_method_2_code (2 : Nat) (Option.none : Option Jvm.ClassFile.FieldType)) ∈ lw_all := lw_g (lw_at lw_m6 103 rfl) rfl
theorem q1393 : (Jvm.Cond.methodLink "java/lang/RuntimeException" (7 : Nat) ({ cls := "java/lang/Exception", name := "<init>", desc := "(Ljava/lang/String;)V" } : Jvm.MethodName)) ∈ lw_all := lw_g (lw_at lw_m6 104 rfl) rfl

/-! java/lang/NullPointerException -/
set_option maxRecDepth 100000
def RJ8 : String := "java/lang/NullPointerException"
def TJ8 : u_T := fun k => match k with
  | 0 => ("java/lang/Throwable", "backtrace", "Ljava/lang/Object;", false)
  | 1 => ("java/lang/Throwable", "detailMessage", "Ljava/lang/String;", false)
  | 2 => ("java/lang/Throwable", "cause", "Ljava/lang/Throwable;", false)
  | 3 => ("java/lang/Throwable", "stackTrace", "[Ljava/lang/StackTraceElement;", false)
  | 4 => ("java/lang/Throwable", "depth", "I", false)
  | 5 => ("java/lang/Throwable", "suppressedExceptions", "Ljava/util/List;", false)
  | 6 => ("java/lang/NullPointerException", "extendedMessageState", "I", false)
  | _ => ("java/lang/NullPointerException", "extendedMessage", "Ljava/lang/String;", false)
def tyJ8 : Nat → FieldType := fun k => match k with
  | 0 => .object "java/lang/Object"
  | 1 => .object "java/lang/String"
  | 2 => .object "java/lang/Throwable"
  | 3 => .array (.object "java/lang/StackTraceElement")
  | 4 => .int
  | 5 => .object "java/util/List"
  | 6 => .int
  | _ => .object "java/lang/String"
abbrev wsJ80 : List Cond := u_ws RJ8 TJ8 8
theorem nmJ8 : ∀ a, a < 8 → ∀ b, b < 8 → a ≠ b → (TJ8 a).2.1 ≠ (TJ8 b).2.1 := by decide +kernel
theorem tyJ8_ok : ∀ k, k < 8 → parseFieldDescriptor (TJ8 k).2.2.1 = some (tyJ8 k) := by decide +kernel
abbrev cJ8_init : ByteArray := prog_49_method_1_code
def yJ8_init : MethodName := ⟨RJ8, "<init>", "()V"⟩
theorem dJ8_init_0 : decode cJ8_init 0 = .ok (.aload_n 0, 1) := by decide +kernel
theorem dJ8_init_1 : decode cJ8_init 1 = .ok (.invokespecial 1, 3) := by decide +kernel
theorem dJ8_init_4 : decode cJ8_init 4 = .ok (.return_, 1) := by decide +kernel
theorem q123 : (Jvm.Cond.initialized "java/lang/NullPointerException") ∈ lw_all := lw_g (lw_at lw_m1 34 rfl) rfl
theorem q1302 : (Jvm.Cond.instantiable "java/lang/NullPointerException" (8 : Nat)) ∈ lw_all := lw_g (lw_at lw_m6 13 rfl) rfl
theorem q1303 : (Jvm.Cond.instanceMethod ({ cls := "java/lang/NullPointerException", name := "<init>", desc := "()V" } : Jvm.MethodName)) ∈ lw_all := lw_g (lw_at lw_m6 14 rfl) rfl
theorem q1304 : (Jvm.Cond.code ({ cls := "java/lang/NullPointerException", name := "<init>", desc := "()V" } : Jvm.MethodName) prog_49_method_1_code (1 : Nat) (Option.none : Option Jvm.ClassFile.FieldType)) ∈ lw_all := lw_g (lw_at lw_m6 15 rfl) rfl
theorem q1305 : (Jvm.Cond.methodLink "java/lang/NullPointerException" (1 : Nat) ({ cls := "java/lang/RuntimeException", name := "<init>", desc := "()V" } : Jvm.MethodName)) ∈ lw_all := lw_g (lw_at lw_m6 16 rfl) rfl
theorem q1328 : (Jvm.Cond.selects "java/lang/NullPointerException" ({ cls := "java/lang/Throwable", name := "fillInStackTrace", desc := "()Ljava/lang/Throwable;" } : Jvm.MethodName) ({ cls := "java/lang/NullPointerException", name := "fillInStackTrace", desc := "()Ljava/lang/Throwable;" } : Jvm.MethodName)) ∈ lw_all := lw_g (lw_at lw_m6 39 rfl) rfl
theorem q1329 : (Jvm.Cond.instanceMethod ({ cls := "java/lang/NullPointerException", name := "fillInStackTrace", desc := "()Ljava/lang/Throwable;" } : Jvm.MethodName)) ∈ lw_all := lw_g (lw_at lw_m6 40 rfl) rfl
theorem q1330 : (Jvm.Cond.codeSync ({ cls := "java/lang/NullPointerException", name := "fillInStackTrace", desc := "()Ljava/lang/Throwable;" } : Jvm.MethodName) prog_49_method_3_code (1 : Nat) (Option.some (Jvm.ClassFile.FieldType.object "java/lang/Throwable"))) ∈ lw_all := lw_g (lw_at lw_m6 41 rfl) rfl
theorem q1331 : (Jvm.Cond.methodLink "java/lang/NullPointerException" (16 : Nat) ({ cls := "java/lang/NullPointerException", name := "getExtendedNPEMessage", desc := "()Ljava/lang/String;" } : Jvm.MethodName)) ∈ lw_all := lw_g (lw_at lw_m6 42 rfl) rfl
theorem q1332 : (Jvm.Cond.privateMethod ({ cls := "java/lang/NullPointerException", name := "getExtendedNPEMessage", desc := "()Ljava/lang/String;" } : Jvm.MethodName)) ∈ lw_tbl := lw_at lw_m6 43 rfl
theorem q1333 : (Jvm.Cond.instanceMethod ({ cls := "java/lang/NullPointerException", name := "getExtendedNPEMessage", desc := "()Ljava/lang/String;" } : Jvm.MethodName)) ∈ lw_all := lw_g (lw_at lw_m6 44 rfl) rfl
theorem q1334 : (Jvm.Cond.native ({ cls := "java/lang/NullPointerException", name := "getExtendedNPEMessage", desc := "()Ljava/lang/String;" } : Jvm.MethodName)) ∈ lw_all := lw_g (lw_at lw_m6 45 rfl) rfl
theorem q1335 : (Jvm.Cond.methodLink "java/lang/NullPointerException" (24 : Nat) ({ cls := "java/lang/RuntimeException", name := "fillInStackTrace", desc := "()Ljava/lang/Throwable;" } : Jvm.MethodName)) ∈ lw_all := lw_g (lw_at lw_m6 46 rfl) rfl
theorem q1338 : (Jvm.Cond.superclass "java/lang/NullPointerException" "java/lang/RuntimeException") ∈ lw_all := lw_g (lw_at lw_m6 49 rfl) rfl
theorem q1347 : (Jvm.Cond.fieldLink "java/lang/NullPointerException" (10 : Nat) "java/lang/NullPointerException" "extendedMessageState" "I") ∈ lw_all := lw_g (lw_at lw_m6 58 rfl) rfl
theorem q1348 : (Jvm.Cond.fieldLink "java/lang/NullPointerException" (20 : Nat) "java/lang/NullPointerException" "extendedMessage" "Ljava/lang/String;") ∈ lw_all := lw_g (lw_at lw_m6 59 rfl) rfl
theorem q1354 : (Jvm.Cond.lays "java/lang/NullPointerException" "java/lang/NullPointerException" "extendedMessageState" "I") ∈ lw_all := lw_g (lw_at lw_m6 65 rfl) rfl
theorem q1355 : (Jvm.Cond.soleField "java/lang/NullPointerException" "extendedMessageState") ∈ lw_all := lw_g (lw_at lw_m6 66 rfl) rfl
theorem q1356 : (Jvm.Cond.lays "java/lang/NullPointerException" "java/lang/NullPointerException" "extendedMessage" "Ljava/lang/String;") ∈ lw_all := lw_g (lw_at lw_m6 67 rfl) rfl
theorem q1357 : (Jvm.Cond.soleField "java/lang/NullPointerException" "extendedMessage") ∈ lw_all := lw_g (lw_at lw_m6 68 rfl) rfl
theorem q1358 : (Jvm.Cond.lays "java/lang/NullPointerException" "java/lang/Throwable" "backtrace" "Ljava/lang/Object;") ∈ lw_all := lw_g (lw_at lw_m6 69 rfl) rfl
theorem q1360 : (Jvm.Cond.lays "java/lang/NullPointerException" "java/lang/Throwable" "detailMessage" "Ljava/lang/String;") ∈ lw_all := lw_g (lw_at lw_m6 71 rfl) rfl
theorem q1362 : (Jvm.Cond.lays "java/lang/NullPointerException" "java/lang/Throwable" "cause" "Ljava/lang/Throwable;") ∈ lw_all := lw_g (lw_at lw_m6 73 rfl) rfl
theorem q1364 : (Jvm.Cond.lays "java/lang/NullPointerException" "java/lang/Throwable" "stackTrace" "[Ljava/lang/StackTraceElement;") ∈ lw_all := lw_g (lw_at lw_m6 75 rfl) rfl
theorem q1366 : (Jvm.Cond.lays "java/lang/NullPointerException" "java/lang/Throwable" "depth" "I") ∈ lw_all := lw_g (lw_at lw_m6 77 rfl) rfl
theorem q1368 : (Jvm.Cond.lays "java/lang/NullPointerException" "java/lang/Throwable" "suppressedExceptions" "Ljava/util/List;") ∈ lw_all := lw_g (lw_at lw_m6 79 rfl) rfl
theorem q1370 : (Jvm.Cond.castable "java/lang/NullPointerException" "java/lang/NullPointerException") ∈ lw_tbl := lw_at lw_m6 81 rfl
theorem q1377 : (Jvm.Cond.selects "java/lang/NullPointerException" ({ cls := "java/lang/Throwable", name := "fillInStackTrace", desc := "(I)Ljava/lang/Throwable;" } : Jvm.MethodName) ({ cls := "java/lang/Throwable", name := "fillInStackTrace", desc := "(I)Ljava/lang/Throwable;" } : Jvm.MethodName)) ∈ lw_all := lw_g (lw_at lw_m6 88 rfl) rfl
theorem q2611 : (Jvm.Cond.castable "java/lang/NullPointerException" "java/lang/Object") ∈ lw_tbl := lw_at lw_m11 122 rfl
theorem in_J8 : ∀ w ∈ wsJ80, w ∈ lw_all := lw_in wsJ80 [1358, 1360, 1362, 1364, 1366, 1368, 1354, 1356] (by decide +kernel) (by decide +kernel)

/-! java/lang/IllegalArgumentException -/
set_option maxRecDepth 100000
def RJ9 : String := "java/lang/IllegalArgumentException"
def TJ9 : u_T := fun k => match k with
  | 0 => ("java/lang/Throwable", "backtrace", "Ljava/lang/Object;", false)
  | 1 => ("java/lang/Throwable", "detailMessage", "Ljava/lang/String;", false)
  | 2 => ("java/lang/Throwable", "cause", "Ljava/lang/Throwable;", false)
  | 3 => ("java/lang/Throwable", "stackTrace", "[Ljava/lang/StackTraceElement;", false)
  | 4 => ("java/lang/Throwable", "depth", "I", false)
  | _ => ("java/lang/Throwable", "suppressedExceptions", "Ljava/util/List;", false)
def tyJ9 : Nat → FieldType := fun k => match k with
  | 0 => .object "java/lang/Object"
  | 1 => .object "java/lang/String"
  | 2 => .object "java/lang/Throwable"
  | 3 => .array (.object "java/lang/StackTraceElement")
  | 4 => .int
  | _ => .object "java/util/List"
abbrev wsJ90 : List Cond := u_ws RJ9 TJ9 6
theorem nmJ9 : ∀ a, a < 6 → ∀ b, b < 6 → a ≠ b → (TJ9 a).2.1 ≠ (TJ9 b).2.1 := by decide +kernel
theorem tyJ9_ok : ∀ k, k < 6 → parseFieldDescriptor (TJ9 k).2.2.1 = some (tyJ9 k) := by decide +kernel
abbrev cJ9_init : ByteArray := prog_43_method_2_code
def yJ9_init : MethodName := ⟨RJ9, "<init>", "(Ljava/lang/String;)V"⟩
def dkwJ9_init_0 : List UInt8 := [42, 43, 183, 0, 7, 177]
abbrev dktJ9_init_0 : List UInt8 := dkwJ9_init_0 ++ []
theorem dksJ9_init_0 : cJ9_init.data.toList.drop 0 = dktJ9_init_0 := by decide +kernel
theorem dJ9_init_0 : decode cJ9_init 0 = .ok (.aload_n 0, 1) := dk_42 (dk_at dksJ9_init_0 0 rfl rfl)
theorem dJ9_init_1 : decode cJ9_init 1 = .ok (.aload_n 1, 1) := dk_43 (dk_at dksJ9_init_0 1 rfl rfl)
theorem dJ9_init_2 : decode cJ9_init 2 = .ok (.invokespecial 7, 3) := dk_183 0 7 (dk_at dksJ9_init_0 2 rfl rfl)
theorem dJ9_init_5 : decode cJ9_init 5 = .ok (.return_, 1) := dk_177 (dk_at dksJ9_init_0 5 rfl rfl)
abbrev cJ9_init_2 : ByteArray := prog_43_method_1_code
def yJ9_init_2 : MethodName := ⟨RJ9, "<init>", "()V"⟩
theorem dJ9_init_2_0 : decode cJ9_init_2 0 = .ok (.aload_n 0, 1) := by decide +kernel
theorem dJ9_init_2_1 : decode cJ9_init_2 1 = .ok (.invokespecial 1, 3) := by decide +kernel
theorem dJ9_init_2_4 : decode cJ9_init_2 4 = .ok (.return_, 1) := by decide +kernel
theorem q124 : (Jvm.Cond.initialized "java/lang/IllegalArgumentException") ∈ lw_all := lw_g (lw_at lw_m1 35 rfl) rfl
theorem q1326 : (Jvm.Cond.selects "java/lang/IllegalArgumentException" ({ cls := "java/lang/Throwable", name := "fillInStackTrace", desc := "()Ljava/lang/Throwable;" } : Jvm.MethodName) ({ cls := "java/lang/Throwable", name := "fillInStackTrace", desc := "()Ljava/lang/Throwable;" } : Jvm.MethodName)) ∈ lw_all := lw_g (lw_at lw_m6 37 rfl) rfl
theorem q1387 : (Jvm.Cond.instantiable "java/lang/IllegalArgumentException" (6 : Nat)) ∈ lw_all := lw_g (lw_at lw_m6 98 rfl) rfl
theorem q1388 : (Jvm.Cond.instanceMethod ({ cls := "java/lang/IllegalArgumentException", name := "<init>", desc := "(Ljava/lang/String;)V" } : Jvm.MethodName)) ∈ lw_all := lw_g (lw_at lw_m6 99 rfl) rfl
theorem q1389 : (Jvm.Cond.code ({ cls := "java/lang/IllegalArgumentException", name := "<init>", desc := "(Ljava/lang/String;)V" } : Jvm.MethodName) prog_43_method_2_code (2 : Nat) (Option.none : Option Jvm.ClassFile.FieldType)) ∈ lw_all := lw_g (lw_at lw_m6 100 rfl) rfl
theorem q1390 : (Jvm.Cond.methodLink "java/lang/IllegalArgumentException" (7 : Nat) ({ cls := "java/lang/RuntimeException", name := "<init>", desc := "(Ljava/lang/String;)V" } : Jvm.MethodName)) ∈ lw_all := lw_g (lw_at lw_m6 101 rfl) rfl
theorem q1399 : (Jvm.Cond.lays "java/lang/IllegalArgumentException" "java/lang/Throwable" "backtrace" "Ljava/lang/Object;") ∈ lw_all := lw_g (lw_at lw_m6 110 rfl) rfl
theorem q1400 : (Jvm.Cond.lays "java/lang/IllegalArgumentException" "java/lang/Throwable" "detailMessage" "Ljava/lang/String;") ∈ lw_all := lw_g (lw_at lw_m6 111 rfl) rfl
theorem q1401 : (Jvm.Cond.lays "java/lang/IllegalArgumentException" "java/lang/Throwable" "cause" "Ljava/lang/Throwable;") ∈ lw_all := lw_g (lw_at lw_m6 112 rfl) rfl
theorem q1402 : (Jvm.Cond.lays "java/lang/IllegalArgumentException" "java/lang/Throwable" "stackTrace" "[Ljava/lang/StackTraceElement;") ∈ lw_all := lw_g (lw_at lw_m6 113 rfl) rfl
theorem q1403 : (Jvm.Cond.lays "java/lang/IllegalArgumentException" "java/lang/Throwable" "depth" "I") ∈ lw_all := lw_g (lw_at lw_m6 114 rfl) rfl
theorem q1404 : (Jvm.Cond.lays "java/lang/IllegalArgumentException" "java/lang/Throwable" "suppressedExceptions" "Ljava/util/List;") ∈ lw_all := lw_g (lw_at lw_m6 115 rfl) rfl
theorem q1405 : (Jvm.Cond.superclass "java/lang/IllegalArgumentException" "java/lang/RuntimeException") ∈ lw_all := lw_g (lw_at lw_m6 116 rfl) rfl
theorem q1406 : (Jvm.Cond.castable "java/lang/IllegalArgumentException" "java/lang/IllegalArgumentException") ∈ lw_tbl := lw_at lw_m6 117 rfl
theorem q1407 : (Jvm.Cond.selects "java/lang/IllegalArgumentException" ({ cls := "java/lang/Throwable", name := "fillInStackTrace", desc := "(I)Ljava/lang/Throwable;" } : Jvm.MethodName) ({ cls := "java/lang/Throwable", name := "fillInStackTrace", desc := "(I)Ljava/lang/Throwable;" } : Jvm.MethodName)) ∈ lw_all := lw_g (lw_at lw_m6 118 rfl) rfl
theorem q1413 : (Jvm.Cond.instanceMethod ({ cls := "java/lang/IllegalArgumentException", name := "<init>", desc := "()V" } : Jvm.MethodName)) ∈ lw_all := lw_g (lw_at lw_m6 124 rfl) rfl
theorem q1414 : (Jvm.Cond.code ({ cls := "java/lang/IllegalArgumentException", name := "<init>", desc := "()V" } : Jvm.MethodName) prog_43_method_1_code (1 : Nat) (Option.none : Option Jvm.ClassFile.FieldType)) ∈ lw_all := lw_g (lw_at lw_m6 125 rfl) rfl
theorem q1415 : (Jvm.Cond.methodLink "java/lang/IllegalArgumentException" (1 : Nat) ({ cls := "java/lang/RuntimeException", name := "<init>", desc := "()V" } : Jvm.MethodName)) ∈ lw_all := lw_g (lw_at lw_m6 126 rfl) rfl
theorem q2612 : (Jvm.Cond.castable "java/lang/IllegalArgumentException" "java/lang/Object") ∈ lw_tbl := lw_at lw_m11 123 rfl
theorem in_J9 : ∀ w ∈ wsJ90, w ∈ lw_all := lw_in wsJ90 [1399, 1400, 1401, 1402, 1403, 1404] (by decide +kernel) (by decide +kernel)

/-! java/lang/IndexOutOfBoundsException -/
set_option maxRecDepth 100000
def RJ10 : String := "java/lang/IndexOutOfBoundsException"
abbrev cJ10_init : ByteArray := prog_44_method_2_code
def yJ10_init : MethodName := ⟨RJ10, "<init>", "(Ljava/lang/String;)V"⟩
def dkwJ10_init_0 : List UInt8 := [42, 43, 183, 0, 7, 177]
abbrev dktJ10_init_0 : List UInt8 := dkwJ10_init_0 ++ []
theorem dksJ10_init_0 : cJ10_init.data.toList.drop 0 = dktJ10_init_0 := by decide +kernel
theorem dJ10_init_0 : decode cJ10_init 0 = .ok (.aload_n 0, 1) := dk_42 (dk_at dksJ10_init_0 0 rfl rfl)
theorem dJ10_init_1 : decode cJ10_init 1 = .ok (.aload_n 1, 1) := dk_43 (dk_at dksJ10_init_0 1 rfl rfl)
theorem dJ10_init_2 : decode cJ10_init 2 = .ok (.invokespecial 7, 3) := dk_183 0 7 (dk_at dksJ10_init_0 2 rfl rfl)
theorem dJ10_init_5 : decode cJ10_init 5 = .ok (.return_, 1) := dk_177 (dk_at dksJ10_init_0 5 rfl rfl)
abbrev cJ10_init_2 : ByteArray := prog_44_method_1_code
def yJ10_init_2 : MethodName := ⟨RJ10, "<init>", "()V"⟩
theorem dJ10_init_2_0 : decode cJ10_init_2 0 = .ok (.aload_n 0, 1) := by decide +kernel
theorem dJ10_init_2_1 : decode cJ10_init_2 1 = .ok (.invokespecial 1, 3) := by decide +kernel
theorem dJ10_init_2_4 : decode cJ10_init_2 4 = .ok (.return_, 1) := by decide +kernel
theorem q125 : (Jvm.Cond.initialized "java/lang/IndexOutOfBoundsException") ∈ lw_all := lw_g (lw_at lw_m1 36 rfl) rfl
theorem q1421 : (Jvm.Cond.instanceMethod ({ cls := "java/lang/IndexOutOfBoundsException", name := "<init>", desc := "(Ljava/lang/String;)V" } : Jvm.MethodName)) ∈ lw_all := lw_g (lw_at lw_m6 132 rfl) rfl
theorem q1422 : (Jvm.Cond.code ({ cls := "java/lang/IndexOutOfBoundsException", name := "<init>", desc := "(Ljava/lang/String;)V" } : Jvm.MethodName) prog_44_method_2_code (2 : Nat) (Option.none : Option Jvm.ClassFile.FieldType)) ∈ lw_all := lw_g (lw_at lw_m6 133 rfl) rfl
theorem q1423 : (Jvm.Cond.methodLink "java/lang/IndexOutOfBoundsException" (7 : Nat) ({ cls := "java/lang/RuntimeException", name := "<init>", desc := "(Ljava/lang/String;)V" } : Jvm.MethodName)) ∈ lw_all := lw_g (lw_at lw_m6 134 rfl) rfl
theorem q1432 : (Jvm.Cond.declares ({ cls := "java/lang/IndexOutOfBoundsException", name := "<init>", desc := "()V" } : Jvm.MethodName)) ∈ lw_tbl := lw_at lw_m6 143 rfl
theorem q1433 : (Jvm.Cond.declares ({ cls := "java/lang/IndexOutOfBoundsException", name := "<init>", desc := "(Ljava/lang/String;)V" } : Jvm.MethodName)) ∈ lw_tbl := lw_at lw_m6 144 rfl
theorem q1438 : (Jvm.Cond.instanceMethod ({ cls := "java/lang/IndexOutOfBoundsException", name := "<init>", desc := "()V" } : Jvm.MethodName)) ∈ lw_all := lw_g (lw_at lw_m6 149 rfl) rfl
theorem q1439 : (Jvm.Cond.code ({ cls := "java/lang/IndexOutOfBoundsException", name := "<init>", desc := "()V" } : Jvm.MethodName) prog_44_method_1_code (1 : Nat) (Option.none : Option Jvm.ClassFile.FieldType)) ∈ lw_all := lw_g (lw_at lw_m6 150 rfl) rfl
theorem q1440 : (Jvm.Cond.methodLink "java/lang/IndexOutOfBoundsException" (1 : Nat) ({ cls := "java/lang/RuntimeException", name := "<init>", desc := "()V" } : Jvm.MethodName)) ∈ lw_all := lw_g (lw_at lw_m6 151 rfl) rfl

/-! java/lang/ArrayIndexOutOfBoundsException -/
set_option maxRecDepth 100000
def RJ11 : String := "java/lang/ArrayIndexOutOfBoundsException"
def TJ11 : u_T := fun k => match k with
  | 0 => ("java/lang/Throwable", "backtrace", "Ljava/lang/Object;", false)
  | 1 => ("java/lang/Throwable", "detailMessage", "Ljava/lang/String;", false)
  | 2 => ("java/lang/Throwable", "cause", "Ljava/lang/Throwable;", false)
  | 3 => ("java/lang/Throwable", "stackTrace", "[Ljava/lang/StackTraceElement;", false)
  | 4 => ("java/lang/Throwable", "depth", "I", false)
  | _ => ("java/lang/Throwable", "suppressedExceptions", "Ljava/util/List;", false)
def tyJ11 : Nat → FieldType := fun k => match k with
  | 0 => .object "java/lang/Object"
  | 1 => .object "java/lang/String"
  | 2 => .object "java/lang/Throwable"
  | 3 => .array (.object "java/lang/StackTraceElement")
  | 4 => .int
  | _ => .object "java/util/List"
abbrev wsJ110 : List Cond := u_ws RJ11 TJ11 6
theorem nmJ11 : ∀ a, a < 6 → ∀ b, b < 6 → a ≠ b → (TJ11 a).2.1 ≠ (TJ11 b).2.1 := by decide +kernel
theorem tyJ11_ok : ∀ k, k < 6 → parseFieldDescriptor (TJ11 k).2.2.1 = some (tyJ11 k) := by decide +kernel
abbrev cJ11_init : ByteArray := prog_32_method_2_code
def yJ11_init : MethodName := ⟨RJ11, "<init>", "(Ljava/lang/String;)V"⟩
def dkwJ11_init_0 : List UInt8 := [42, 43, 183, 0, 7, 177]
abbrev dktJ11_init_0 : List UInt8 := dkwJ11_init_0 ++ []
theorem dksJ11_init_0 : cJ11_init.data.toList.drop 0 = dktJ11_init_0 := by decide +kernel
theorem dJ11_init_0 : decode cJ11_init 0 = .ok (.aload_n 0, 1) := dk_42 (dk_at dksJ11_init_0 0 rfl rfl)
theorem dJ11_init_1 : decode cJ11_init 1 = .ok (.aload_n 1, 1) := dk_43 (dk_at dksJ11_init_0 1 rfl rfl)
theorem dJ11_init_2 : decode cJ11_init 2 = .ok (.invokespecial 7, 3) := dk_183 0 7 (dk_at dksJ11_init_0 2 rfl rfl)
theorem dJ11_init_5 : decode cJ11_init 5 = .ok (.return_, 1) := dk_177 (dk_at dksJ11_init_0 5 rfl rfl)
abbrev cJ11_init_2 : ByteArray := prog_32_method_1_code
def yJ11_init_2 : MethodName := ⟨RJ11, "<init>", "()V"⟩
theorem dJ11_init_2_0 : decode cJ11_init_2 0 = .ok (.aload_n 0, 1) := by decide +kernel
theorem dJ11_init_2_1 : decode cJ11_init_2 1 = .ok (.invokespecial 1, 3) := by decide +kernel
theorem dJ11_init_2_4 : decode cJ11_init_2 4 = .ok (.return_, 1) := by decide +kernel
theorem q126 : (Jvm.Cond.initialized "java/lang/ArrayIndexOutOfBoundsException") ∈ lw_all := lw_g (lw_at lw_m1 37 rfl) rfl
theorem q1323 : (Jvm.Cond.selects "java/lang/ArrayIndexOutOfBoundsException" ({ cls := "java/lang/Throwable", name := "fillInStackTrace", desc := "()Ljava/lang/Throwable;" } : Jvm.MethodName) ({ cls := "java/lang/Throwable", name := "fillInStackTrace", desc := "()Ljava/lang/Throwable;" } : Jvm.MethodName)) ∈ lw_all := lw_g (lw_at lw_m6 34 rfl) rfl
theorem q1417 : (Jvm.Cond.instantiable "java/lang/ArrayIndexOutOfBoundsException" (6 : Nat)) ∈ lw_all := lw_g (lw_at lw_m6 128 rfl) rfl
theorem q1418 : (Jvm.Cond.instanceMethod ({ cls := "java/lang/ArrayIndexOutOfBoundsException", name := "<init>", desc := "(Ljava/lang/String;)V" } : Jvm.MethodName)) ∈ lw_all := lw_g (lw_at lw_m6 129 rfl) rfl
theorem q1419 : (Jvm.Cond.code ({ cls := "java/lang/ArrayIndexOutOfBoundsException", name := "<init>", desc := "(Ljava/lang/String;)V" } : Jvm.MethodName) prog_32_method_2_code (2 : Nat) (Option.none : Option Jvm.ClassFile.FieldType)) ∈ lw_all := lw_g (lw_at lw_m6 130 rfl) rfl
theorem q1420 : (Jvm.Cond.methodLink "java/lang/ArrayIndexOutOfBoundsException" (7 : Nat) ({ cls := "java/lang/IndexOutOfBoundsException", name := "<init>", desc := "(Ljava/lang/String;)V" } : Jvm.MethodName)) ∈ lw_all := lw_g (lw_at lw_m6 131 rfl) rfl
theorem q1424 : (Jvm.Cond.lays "java/lang/ArrayIndexOutOfBoundsException" "java/lang/Throwable" "backtrace" "Ljava/lang/Object;") ∈ lw_all := lw_g (lw_at lw_m6 135 rfl) rfl
theorem q1425 : (Jvm.Cond.lays "java/lang/ArrayIndexOutOfBoundsException" "java/lang/Throwable" "detailMessage" "Ljava/lang/String;") ∈ lw_all := lw_g (lw_at lw_m6 136 rfl) rfl
theorem q1426 : (Jvm.Cond.lays "java/lang/ArrayIndexOutOfBoundsException" "java/lang/Throwable" "cause" "Ljava/lang/Throwable;") ∈ lw_all := lw_g (lw_at lw_m6 137 rfl) rfl
theorem q1427 : (Jvm.Cond.lays "java/lang/ArrayIndexOutOfBoundsException" "java/lang/Throwable" "stackTrace" "[Ljava/lang/StackTraceElement;") ∈ lw_all := lw_g (lw_at lw_m6 138 rfl) rfl
theorem q1428 : (Jvm.Cond.lays "java/lang/ArrayIndexOutOfBoundsException" "java/lang/Throwable" "depth" "I") ∈ lw_all := lw_g (lw_at lw_m6 139 rfl) rfl
theorem q1429 : (Jvm.Cond.lays "java/lang/ArrayIndexOutOfBoundsException" "java/lang/Throwable" "suppressedExceptions" "Ljava/util/List;") ∈ lw_all := lw_g (lw_at lw_m6 140 rfl) rfl
theorem q1430 : (Jvm.Cond.superclass "java/lang/ArrayIndexOutOfBoundsException" "java/lang/IndexOutOfBoundsException") ∈ lw_all := lw_g (lw_at lw_m6 141 rfl) rfl
theorem q1431 : (Jvm.Cond.castable "java/lang/ArrayIndexOutOfBoundsException" "java/lang/ArrayIndexOutOfBoundsException") ∈ lw_tbl := lw_at lw_m6 142 rfl
theorem q1434 : (Jvm.Cond.selects "java/lang/ArrayIndexOutOfBoundsException" ({ cls := "java/lang/Throwable", name := "fillInStackTrace", desc := "(I)Ljava/lang/Throwable;" } : Jvm.MethodName) ({ cls := "java/lang/Throwable", name := "fillInStackTrace", desc := "(I)Ljava/lang/Throwable;" } : Jvm.MethodName)) ∈ lw_all := lw_g (lw_at lw_m6 145 rfl) rfl
theorem q1435 : (Jvm.Cond.instanceMethod ({ cls := "java/lang/ArrayIndexOutOfBoundsException", name := "<init>", desc := "()V" } : Jvm.MethodName)) ∈ lw_all := lw_g (lw_at lw_m6 146 rfl) rfl
theorem q1436 : (Jvm.Cond.code ({ cls := "java/lang/ArrayIndexOutOfBoundsException", name := "<init>", desc := "()V" } : Jvm.MethodName) prog_32_method_1_code (1 : Nat) (Option.none : Option Jvm.ClassFile.FieldType)) ∈ lw_all := lw_g (lw_at lw_m6 147 rfl) rfl
theorem q1437 : (Jvm.Cond.methodLink "java/lang/ArrayIndexOutOfBoundsException" (1 : Nat) ({ cls := "java/lang/IndexOutOfBoundsException", name := "<init>", desc := "()V" } : Jvm.MethodName)) ∈ lw_all := lw_g (lw_at lw_m6 148 rfl) rfl
theorem q2587 : (Jvm.Cond.castable "java/lang/ArrayIndexOutOfBoundsException" "java/lang/IndexOutOfBoundsException") ∈ lw_tbl := lw_at lw_m11 98 rfl
theorem q2613 : (Jvm.Cond.castable "java/lang/ArrayIndexOutOfBoundsException" "java/lang/Object") ∈ lw_tbl := lw_at lw_m11 124 rfl
theorem in_J11 : ∀ w ∈ wsJ110, w ∈ lw_all := lw_in wsJ110 [1424, 1425, 1426, 1427, 1428, 1429] (by decide +kernel) (by decide +kernel)

/-! java/lang/ArrayStoreException -/
set_option maxRecDepth 100000
def RJ12 : String := "java/lang/ArrayStoreException"
def TJ12 : u_T := fun k => match k with
  | 0 => ("java/lang/Throwable", "backtrace", "Ljava/lang/Object;", false)
  | 1 => ("java/lang/Throwable", "detailMessage", "Ljava/lang/String;", false)
  | 2 => ("java/lang/Throwable", "cause", "Ljava/lang/Throwable;", false)
  | 3 => ("java/lang/Throwable", "stackTrace", "[Ljava/lang/StackTraceElement;", false)
  | 4 => ("java/lang/Throwable", "depth", "I", false)
  | _ => ("java/lang/Throwable", "suppressedExceptions", "Ljava/util/List;", false)
def tyJ12 : Nat → FieldType := fun k => match k with
  | 0 => .object "java/lang/Object"
  | 1 => .object "java/lang/String"
  | 2 => .object "java/lang/Throwable"
  | 3 => .array (.object "java/lang/StackTraceElement")
  | 4 => .int
  | _ => .object "java/util/List"
abbrev wsJ120 : List Cond := u_ws RJ12 TJ12 6
theorem nmJ12 : ∀ a, a < 6 → ∀ b, b < 6 → a ≠ b → (TJ12 a).2.1 ≠ (TJ12 b).2.1 := by decide +kernel
theorem tyJ12_ok : ∀ k, k < 6 → parseFieldDescriptor (TJ12 k).2.2.1 = some (tyJ12 k) := by decide +kernel
abbrev cJ12_init : ByteArray := prog_33_method_2_code
def yJ12_init : MethodName := ⟨RJ12, "<init>", "(Ljava/lang/String;)V"⟩
def dkwJ12_init_0 : List UInt8 := [42, 43, 183, 0, 7, 177]
abbrev dktJ12_init_0 : List UInt8 := dkwJ12_init_0 ++ []
theorem dksJ12_init_0 : cJ12_init.data.toList.drop 0 = dktJ12_init_0 := by decide +kernel
theorem dJ12_init_0 : decode cJ12_init 0 = .ok (.aload_n 0, 1) := dk_42 (dk_at dksJ12_init_0 0 rfl rfl)
theorem dJ12_init_1 : decode cJ12_init 1 = .ok (.aload_n 1, 1) := dk_43 (dk_at dksJ12_init_0 1 rfl rfl)
theorem dJ12_init_2 : decode cJ12_init 2 = .ok (.invokespecial 7, 3) := dk_183 0 7 (dk_at dksJ12_init_0 2 rfl rfl)
theorem dJ12_init_5 : decode cJ12_init 5 = .ok (.return_, 1) := dk_177 (dk_at dksJ12_init_0 5 rfl rfl)
abbrev cJ12_init_2 : ByteArray := prog_33_method_1_code
def yJ12_init_2 : MethodName := ⟨RJ12, "<init>", "()V"⟩
theorem dJ12_init_2_0 : decode cJ12_init_2 0 = .ok (.aload_n 0, 1) := by decide +kernel
theorem dJ12_init_2_1 : decode cJ12_init_2 1 = .ok (.invokespecial 1, 3) := by decide +kernel
theorem dJ12_init_2_4 : decode cJ12_init_2 4 = .ok (.return_, 1) := by decide +kernel
theorem q127 : (Jvm.Cond.initialized "java/lang/ArrayStoreException") ∈ lw_all := lw_g (lw_at lw_m1 38 rfl) rfl
theorem q1324 : (Jvm.Cond.selects "java/lang/ArrayStoreException" ({ cls := "java/lang/Throwable", name := "fillInStackTrace", desc := "()Ljava/lang/Throwable;" } : Jvm.MethodName) ({ cls := "java/lang/Throwable", name := "fillInStackTrace", desc := "()Ljava/lang/Throwable;" } : Jvm.MethodName)) ∈ lw_all := lw_g (lw_at lw_m6 35 rfl) rfl
theorem q1442 : (Jvm.Cond.instantiable "java/lang/ArrayStoreException" (6 : Nat)) ∈ lw_all := lw_g (lw_at lw_m6 153 rfl) rfl
theorem q1443 : (Jvm.Cond.instanceMethod ({ cls := "java/lang/ArrayStoreException", name := "<init>", desc := "(Ljava/lang/String;)V" } : Jvm.MethodName)) ∈ lw_all := lw_g (lw_at lw_m6 154 rfl) rfl
theorem q1444 : (Jvm.Cond.code ({ cls := "java/lang/ArrayStoreException", name := "<init>", desc := "(Ljava/lang/String;)V" } : Jvm.MethodName) prog_33_method_2_code (2 : Nat) (Option.none : Option Jvm.ClassFile.FieldType)) ∈ lw_all := lw_g (lw_at lw_m6 155 rfl) rfl
theorem q1445 : (Jvm.Cond.methodLink "java/lang/ArrayStoreException" (7 : Nat) ({ cls := "java/lang/RuntimeException", name := "<init>", desc := "(Ljava/lang/String;)V" } : Jvm.MethodName)) ∈ lw_all := lw_g (lw_at lw_m6 156 rfl) rfl
theorem q1446 : (Jvm.Cond.lays "java/lang/ArrayStoreException" "java/lang/Throwable" "backtrace" "Ljava/lang/Object;") ∈ lw_all := lw_g (lw_at lw_m6 157 rfl) rfl
theorem q1447 : (Jvm.Cond.lays "java/lang/ArrayStoreException" "java/lang/Throwable" "detailMessage" "Ljava/lang/String;") ∈ lw_all := lw_g (lw_at lw_m6 158 rfl) rfl
theorem q1448 : (Jvm.Cond.lays "java/lang/ArrayStoreException" "java/lang/Throwable" "cause" "Ljava/lang/Throwable;") ∈ lw_all := lw_g (lw_at lw_m6 159 rfl) rfl
theorem q1449 : (Jvm.Cond.lays "java/lang/ArrayStoreException" "java/lang/Throwable" "stackTrace" "[Ljava/lang/StackTraceElement;") ∈ lw_all := lw_g (lw_at lw_m6 160 rfl) rfl
theorem q1450 : (Jvm.Cond.lays "java/lang/ArrayStoreException" "java/lang/Throwable" "depth" "I") ∈ lw_all := lw_g (lw_at lw_m6 161 rfl) rfl
theorem q1451 : (Jvm.Cond.lays "java/lang/ArrayStoreException" "java/lang/Throwable" "suppressedExceptions" "Ljava/util/List;") ∈ lw_all := lw_g (lw_at lw_m6 162 rfl) rfl
theorem q1452 : (Jvm.Cond.superclass "java/lang/ArrayStoreException" "java/lang/RuntimeException") ∈ lw_all := lw_g (lw_at lw_m6 163 rfl) rfl
theorem q1453 : (Jvm.Cond.castable "java/lang/ArrayStoreException" "java/lang/ArrayStoreException") ∈ lw_tbl := lw_at lw_m6 164 rfl
theorem q1454 : (Jvm.Cond.selects "java/lang/ArrayStoreException" ({ cls := "java/lang/Throwable", name := "fillInStackTrace", desc := "(I)Ljava/lang/Throwable;" } : Jvm.MethodName) ({ cls := "java/lang/Throwable", name := "fillInStackTrace", desc := "(I)Ljava/lang/Throwable;" } : Jvm.MethodName)) ∈ lw_all := lw_g (lw_at lw_m6 165 rfl) rfl
theorem q1684 : (Jvm.Cond.instanceMethod ({ cls := "java/lang/ArrayStoreException", name := "<init>", desc := "()V" } : Jvm.MethodName)) ∈ lw_all := lw_g (lw_at lw_m7 155 rfl) rfl
theorem q1685 : (Jvm.Cond.code ({ cls := "java/lang/ArrayStoreException", name := "<init>", desc := "()V" } : Jvm.MethodName) prog_33_method_1_code (1 : Nat) (Option.none : Option Jvm.ClassFile.FieldType)) ∈ lw_all := lw_g (lw_at lw_m7 156 rfl) rfl
theorem q1686 : (Jvm.Cond.methodLink "java/lang/ArrayStoreException" (1 : Nat) ({ cls := "java/lang/RuntimeException", name := "<init>", desc := "()V" } : Jvm.MethodName)) ∈ lw_all := lw_g (lw_at lw_m7 157 rfl) rfl
theorem q2614 : (Jvm.Cond.castable "java/lang/ArrayStoreException" "java/lang/Object") ∈ lw_tbl := lw_at lw_m11 125 rfl
theorem in_J12 : ∀ w ∈ wsJ120, w ∈ lw_all := lw_in wsJ120 [1446, 1447, 1448, 1449, 1450, 1451] (by decide +kernel) (by decide +kernel)

/-! java/lang/NegativeArraySizeException -/
set_option maxRecDepth 100000
def RJ13 : String := "java/lang/NegativeArraySizeException"
def TJ13 : u_T := fun k => match k with
  | 0 => ("java/lang/Throwable", "backtrace", "Ljava/lang/Object;", false)
  | 1 => ("java/lang/Throwable", "detailMessage", "Ljava/lang/String;", false)
  | 2 => ("java/lang/Throwable", "cause", "Ljava/lang/Throwable;", false)
  | 3 => ("java/lang/Throwable", "stackTrace", "[Ljava/lang/StackTraceElement;", false)
  | 4 => ("java/lang/Throwable", "depth", "I", false)
  | _ => ("java/lang/Throwable", "suppressedExceptions", "Ljava/util/List;", false)
def tyJ13 : Nat → FieldType := fun k => match k with
  | 0 => .object "java/lang/Object"
  | 1 => .object "java/lang/String"
  | 2 => .object "java/lang/Throwable"
  | 3 => .array (.object "java/lang/StackTraceElement")
  | 4 => .int
  | _ => .object "java/util/List"
abbrev wsJ130 : List Cond := u_ws RJ13 TJ13 6
theorem nmJ13 : ∀ a, a < 6 → ∀ b, b < 6 → a ≠ b → (TJ13 a).2.1 ≠ (TJ13 b).2.1 := by decide +kernel
theorem tyJ13_ok : ∀ k, k < 6 → parseFieldDescriptor (TJ13 k).2.2.1 = some (tyJ13 k) := by decide +kernel
abbrev cJ13_init : ByteArray := prog_48_method_2_code
def yJ13_init : MethodName := ⟨RJ13, "<init>", "(Ljava/lang/String;)V"⟩
def dkwJ13_init_0 : List UInt8 := [42, 43, 183, 0, 7, 177]
abbrev dktJ13_init_0 : List UInt8 := dkwJ13_init_0 ++ []
theorem dksJ13_init_0 : cJ13_init.data.toList.drop 0 = dktJ13_init_0 := by decide +kernel
theorem dJ13_init_0 : decode cJ13_init 0 = .ok (.aload_n 0, 1) := dk_42 (dk_at dksJ13_init_0 0 rfl rfl)
theorem dJ13_init_1 : decode cJ13_init 1 = .ok (.aload_n 1, 1) := dk_43 (dk_at dksJ13_init_0 1 rfl rfl)
theorem dJ13_init_2 : decode cJ13_init 2 = .ok (.invokespecial 7, 3) := dk_183 0 7 (dk_at dksJ13_init_0 2 rfl rfl)
theorem dJ13_init_5 : decode cJ13_init 5 = .ok (.return_, 1) := dk_177 (dk_at dksJ13_init_0 5 rfl rfl)
theorem q128 : (Jvm.Cond.initialized "java/lang/NegativeArraySizeException") ∈ lw_all := lw_g (lw_at lw_m1 39 rfl) rfl
theorem q1327 : (Jvm.Cond.selects "java/lang/NegativeArraySizeException" ({ cls := "java/lang/Throwable", name := "fillInStackTrace", desc := "()Ljava/lang/Throwable;" } : Jvm.MethodName) ({ cls := "java/lang/Throwable", name := "fillInStackTrace", desc := "()Ljava/lang/Throwable;" } : Jvm.MethodName)) ∈ lw_all := lw_g (lw_at lw_m6 38 rfl) rfl
theorem q1456 : (Jvm.Cond.instantiable "java/lang/NegativeArraySizeException" (6 : Nat)) ∈ lw_all := lw_g (lw_at lw_m6 167 rfl) rfl
theorem q1457 : (Jvm.Cond.instanceMethod ({ cls := "java/lang/NegativeArraySizeException", name := "<init>", desc := "(Ljava/lang/String;)V" } : Jvm.MethodName)) ∈ lw_all := lw_g (lw_at lw_m6 168 rfl) rfl
theorem q1458 : (Jvm.Cond.code ({ cls := "java/lang/NegativeArraySizeException", name := "<init>", desc := "(Ljava/lang/String;)V" } : Jvm.MethodName) prog_48_method_2_code (2 : Nat) (Option.none : Option Jvm.ClassFile.FieldType)) ∈ lw_all := lw_g (lw_at lw_m6 169 rfl) rfl
theorem q1459 : (Jvm.Cond.methodLink "java/lang/NegativeArraySizeException" (7 : Nat) ({ cls := "java/lang/RuntimeException", name := "<init>", desc := "(Ljava/lang/String;)V" } : Jvm.MethodName)) ∈ lw_all := lw_g (lw_at lw_m6 170 rfl) rfl
theorem q1460 : (Jvm.Cond.lays "java/lang/NegativeArraySizeException" "java/lang/Throwable" "backtrace" "Ljava/lang/Object;") ∈ lw_all := lw_g (lw_at lw_m6 171 rfl) rfl
theorem q1461 : (Jvm.Cond.lays "java/lang/NegativeArraySizeException" "java/lang/Throwable" "detailMessage" "Ljava/lang/String;") ∈ lw_all := lw_g (lw_at lw_m6 172 rfl) rfl
theorem q1462 : (Jvm.Cond.lays "java/lang/NegativeArraySizeException" "java/lang/Throwable" "cause" "Ljava/lang/Throwable;") ∈ lw_all := lw_g (lw_at lw_m6 173 rfl) rfl
theorem q1463 : (Jvm.Cond.lays "java/lang/NegativeArraySizeException" "java/lang/Throwable" "stackTrace" "[Ljava/lang/StackTraceElement;") ∈ lw_all := lw_g (lw_at lw_m6 174 rfl) rfl
theorem q1464 : (Jvm.Cond.lays "java/lang/NegativeArraySizeException" "java/lang/Throwable" "depth" "I") ∈ lw_all := lw_g (lw_at lw_m6 175 rfl) rfl
theorem q1465 : (Jvm.Cond.lays "java/lang/NegativeArraySizeException" "java/lang/Throwable" "suppressedExceptions" "Ljava/util/List;") ∈ lw_all := lw_g (lw_at lw_m6 176 rfl) rfl
theorem q1466 : (Jvm.Cond.superclass "java/lang/NegativeArraySizeException" "java/lang/RuntimeException") ∈ lw_all := lw_g (lw_at lw_m6 177 rfl) rfl
theorem q1467 : (Jvm.Cond.castable "java/lang/NegativeArraySizeException" "java/lang/NegativeArraySizeException") ∈ lw_tbl := lw_at lw_m6 178 rfl
theorem q1468 : (Jvm.Cond.selects "java/lang/NegativeArraySizeException" ({ cls := "java/lang/Throwable", name := "fillInStackTrace", desc := "(I)Ljava/lang/Throwable;" } : Jvm.MethodName) ({ cls := "java/lang/Throwable", name := "fillInStackTrace", desc := "(I)Ljava/lang/Throwable;" } : Jvm.MethodName)) ∈ lw_all := lw_g (lw_at lw_m6 179 rfl) rfl
theorem q2615 : (Jvm.Cond.castable "java/lang/NegativeArraySizeException" "java/lang/Object") ∈ lw_tbl := lw_at lw_m11 126 rfl
theorem in_J13 : ∀ w ∈ wsJ130, w ∈ lw_all := lw_in wsJ130 [1460, 1461, 1462, 1463, 1464, 1465] (by decide +kernel) (by decide +kernel)

/-! java/lang/ClassCastException -/
set_option maxRecDepth 100000
def RJ14 : String := "java/lang/ClassCastException"
def TJ14 : u_T := fun k => match k with
  | 0 => ("java/lang/Throwable", "backtrace", "Ljava/lang/Object;", false)
  | 1 => ("java/lang/Throwable", "detailMessage", "Ljava/lang/String;", false)
  | 2 => ("java/lang/Throwable", "cause", "Ljava/lang/Throwable;", false)
  | 3 => ("java/lang/Throwable", "stackTrace", "[Ljava/lang/StackTraceElement;", false)
  | 4 => ("java/lang/Throwable", "depth", "I", false)
  | _ => ("java/lang/Throwable", "suppressedExceptions", "Ljava/util/List;", false)
def tyJ14 : Nat → FieldType := fun k => match k with
  | 0 => .object "java/lang/Object"
  | 1 => .object "java/lang/String"
  | 2 => .object "java/lang/Throwable"
  | 3 => .array (.object "java/lang/StackTraceElement")
  | 4 => .int
  | _ => .object "java/util/List"
abbrev wsJ140 : List Cond := u_ws RJ14 TJ14 6
theorem nmJ14 : ∀ a, a < 6 → ∀ b, b < 6 → a ≠ b → (TJ14 a).2.1 ≠ (TJ14 b).2.1 := by decide +kernel
theorem tyJ14_ok : ∀ k, k < 6 → parseFieldDescriptor (TJ14 k).2.2.1 = some (tyJ14 k) := by decide +kernel
abbrev cJ14_init : ByteArray := prog_38_method_2_code
def yJ14_init : MethodName := ⟨RJ14, "<init>", "(Ljava/lang/String;)V"⟩
def dkwJ14_init_0 : List UInt8 := [42, 43, 183, 0, 7, 177]
abbrev dktJ14_init_0 : List UInt8 := dkwJ14_init_0 ++ []
theorem dksJ14_init_0 : cJ14_init.data.toList.drop 0 = dktJ14_init_0 := by decide +kernel
theorem dJ14_init_0 : decode cJ14_init 0 = .ok (.aload_n 0, 1) := dk_42 (dk_at dksJ14_init_0 0 rfl rfl)
theorem dJ14_init_1 : decode cJ14_init 1 = .ok (.aload_n 1, 1) := dk_43 (dk_at dksJ14_init_0 1 rfl rfl)
theorem dJ14_init_2 : decode cJ14_init 2 = .ok (.invokespecial 7, 3) := dk_183 0 7 (dk_at dksJ14_init_0 2 rfl rfl)
theorem dJ14_init_5 : decode cJ14_init 5 = .ok (.return_, 1) := dk_177 (dk_at dksJ14_init_0 5 rfl rfl)
theorem q129 : (Jvm.Cond.initialized "java/lang/ClassCastException") ∈ lw_all := lw_g (lw_at lw_m1 40 rfl) rfl
theorem q1325 : (Jvm.Cond.selects "java/lang/ClassCastException" ({ cls := "java/lang/Throwable", name := "fillInStackTrace", desc := "()Ljava/lang/Throwable;" } : Jvm.MethodName) ({ cls := "java/lang/Throwable", name := "fillInStackTrace", desc := "()Ljava/lang/Throwable;" } : Jvm.MethodName)) ∈ lw_all := lw_g (lw_at lw_m6 36 rfl) rfl
theorem q1470 : (Jvm.Cond.instantiable "java/lang/ClassCastException" (6 : Nat)) ∈ lw_all := lw_g (lw_at lw_m6 181 rfl) rfl
theorem q1471 : (Jvm.Cond.instanceMethod ({ cls := "java/lang/ClassCastException", name := "<init>", desc := "(Ljava/lang/String;)V" } : Jvm.MethodName)) ∈ lw_all := lw_g (lw_at lw_m6 182 rfl) rfl
theorem q1472 : (Jvm.Cond.code ({ cls := "java/lang/ClassCastException", name := "<init>", desc := "(Ljava/lang/String;)V" } : Jvm.MethodName) prog_38_method_2_code (2 : Nat) (Option.none : Option Jvm.ClassFile.FieldType)) ∈ lw_all := lw_g (lw_at lw_m6 183 rfl) rfl
theorem q1473 : (Jvm.Cond.methodLink "java/lang/ClassCastException" (7 : Nat) ({ cls := "java/lang/RuntimeException", name := "<init>", desc := "(Ljava/lang/String;)V" } : Jvm.MethodName)) ∈ lw_all := lw_g (lw_at lw_m6 184 rfl) rfl
theorem q1474 : (Jvm.Cond.lays "java/lang/ClassCastException" "java/lang/Throwable" "backtrace" "Ljava/lang/Object;") ∈ lw_all := lw_g (lw_at lw_m6 185 rfl) rfl
theorem q1475 : (Jvm.Cond.lays "java/lang/ClassCastException" "java/lang/Throwable" "detailMessage" "Ljava/lang/String;") ∈ lw_all := lw_g (lw_at lw_m6 186 rfl) rfl
theorem q1476 : (Jvm.Cond.lays "java/lang/ClassCastException" "java/lang/Throwable" "cause" "Ljava/lang/Throwable;") ∈ lw_all := lw_g (lw_at lw_m6 187 rfl) rfl
theorem q1477 : (Jvm.Cond.lays "java/lang/ClassCastException" "java/lang/Throwable" "stackTrace" "[Ljava/lang/StackTraceElement;") ∈ lw_all := lw_g (lw_at lw_m6 188 rfl) rfl
theorem q1478 : (Jvm.Cond.lays "java/lang/ClassCastException" "java/lang/Throwable" "depth" "I") ∈ lw_all := lw_g (lw_at lw_m6 189 rfl) rfl
theorem q1479 : (Jvm.Cond.lays "java/lang/ClassCastException" "java/lang/Throwable" "suppressedExceptions" "Ljava/util/List;") ∈ lw_all := lw_g (lw_at lw_m6 190 rfl) rfl
theorem q1480 : (Jvm.Cond.superclass "java/lang/ClassCastException" "java/lang/RuntimeException") ∈ lw_all := lw_g (lw_at lw_m6 191 rfl) rfl
theorem q1481 : (Jvm.Cond.castable "java/lang/ClassCastException" "java/lang/ClassCastException") ∈ lw_tbl := lw_at lw_m6 192 rfl
theorem q1482 : (Jvm.Cond.selects "java/lang/ClassCastException" ({ cls := "java/lang/Throwable", name := "fillInStackTrace", desc := "(I)Ljava/lang/Throwable;" } : Jvm.MethodName) ({ cls := "java/lang/Throwable", name := "fillInStackTrace", desc := "(I)Ljava/lang/Throwable;" } : Jvm.MethodName)) ∈ lw_all := lw_g (lw_at lw_m6 193 rfl) rfl
theorem q2616 : (Jvm.Cond.castable "java/lang/ClassCastException" "java/lang/Object") ∈ lw_tbl := lw_at lw_m11 127 rfl
theorem in_J14 : ∀ w ∈ wsJ140, w ∈ lw_all := lw_in wsJ140 [1474, 1475, 1476, 1477, 1478, 1479] (by decide +kernel) (by decide +kernel)

/-! ReflectMirror$Refusal -/
set_option maxRecDepth 100000
def RX25 : String := "ReflectMirror$Refusal"
def TX25 : u_T := fun k => match k with
  | 0 => ("java/lang/Throwable", "cause", "Ljava/lang/Throwable;", false)
  | 1 => ("java/lang/Throwable", "stackTrace", "[Ljava/lang/StackTraceElement;", false)
  | 2 => ("java/lang/Throwable", "suppressedExceptions", "Ljava/util/List;", false)
  | 3 => ("java/lang/Throwable", "detailMessage", "Ljava/lang/String;", false)
  | 4 => ("java/lang/Throwable", "backtrace", "Ljava/lang/Object;", false)
  | 5 => ("java/lang/Throwable", "depth", "I", false)
  | _ => ("ReflectMirror$Refusal", "kind", "I", true)
def tyX25 : Nat → FieldType := fun k => match k with
  | 0 => .object "java/lang/Throwable"
  | 1 => .array (.object "java/lang/StackTraceElement")
  | 2 => .object "java/util/List"
  | 3 => .object "java/lang/String"
  | 4 => .object "java/lang/Object"
  | 5 => .int
  | _ => .int
abbrev wsX250 : List Cond := u_ws RX25 TX25 7
theorem nmX25 : ∀ a, a < 7 → ∀ b, b < 7 → a ≠ b → (TX25 a).2.1 ≠ (TX25 b).2.1 := by decide +kernel
theorem tyX25_ok : ∀ k, k < 7 → parseFieldDescriptor (TX25 k).2.2.1 = some (tyX25 k) := by decide +kernel
abbrev cX25_init : ByteArray := prog_22_method_1_code
def yX25_init : MethodName := ⟨RX25, "<init>", "(I)V"⟩
def dkwX25_init_0 : List UInt8 := [42, 1, 1, 3, 3, 183, 0, 1, 42, 27, 181, 0, 7, 177]
abbrev dktX25_init_0 : List UInt8 := dkwX25_init_0 ++ []
theorem dksX25_init_0 : cX25_init.data.toList.drop 0 = dktX25_init_0 := by decide +kernel
theorem dX25_init_0 : decode cX25_init 0 = .ok (.aload_n 0, 1) := dk_42 (dk_at dksX25_init_0 0 rfl rfl)
theorem dX25_init_1 : decode cX25_init 1 = .ok (.aconst_null, 1) := dk_1 (dk_at dksX25_init_0 1 rfl rfl)
theorem dX25_init_2 : decode cX25_init 2 = .ok (.aconst_null, 1) := dk_1 (dk_at dksX25_init_0 2 rfl rfl)
theorem dX25_init_3 : decode cX25_init 3 = .ok (.iconst 0, 1) := dk_3 (dk_at dksX25_init_0 3 rfl rfl)
theorem dX25_init_4 : decode cX25_init 4 = .ok (.iconst 0, 1) := dk_3 (dk_at dksX25_init_0 4 rfl rfl)
theorem dX25_init_5 : decode cX25_init 5 = .ok (.invokespecial 1, 3) := dk_183 0 1 (dk_at dksX25_init_0 5 rfl rfl)
theorem dX25_init_8 : decode cX25_init 8 = .ok (.aload_n 0, 1) := dk_42 (dk_at dksX25_init_0 8 rfl rfl)
theorem dX25_init_9 : decode cX25_init 9 = .ok (.iload_n 1, 1) := dk_27 (dk_at dksX25_init_0 9 rfl rfl)
theorem dX25_init_10 : decode cX25_init 10 = .ok (.putfield 7, 3) := dk_181 0 7 (dk_at dksX25_init_0 10 rfl rfl)
theorem dX25_init_13 : decode cX25_init 13 = .ok (.return_, 1) := dk_177 (dk_at dksX25_init_0 13 rfl rfl)
theorem q130 : (Jvm.Cond.initialized "ReflectMirror$Refusal") ∈ lw_all := lw_g (lw_at lw_m1 41 rfl) rfl
theorem q1322 : (Jvm.Cond.selects "ReflectMirror$Refusal" ({ cls := "java/lang/Throwable", name := "fillInStackTrace", desc := "()Ljava/lang/Throwable;" } : Jvm.MethodName) ({ cls := "java/lang/Throwable", name := "fillInStackTrace", desc := "()Ljava/lang/Throwable;" } : Jvm.MethodName)) ∈ lw_all := lw_g (lw_at lw_m6 33 rfl) rfl
theorem q1495 : (Jvm.Cond.instantiable "ReflectMirror$Refusal" (7 : Nat)) ∈ lw_all := lw_g (lw_at lw_m6 206 rfl) rfl
theorem q1496 : (Jvm.Cond.castable "ReflectMirror$Refusal" "ReflectMirror$Refusal") ∈ lw_tbl := lw_at lw_m6 207 rfl
theorem q1497 : (Jvm.Cond.selects "ReflectMirror$Refusal" ({ cls := "java/lang/Throwable", name := "fillInStackTrace", desc := "(I)Ljava/lang/Throwable;" } : Jvm.MethodName) ({ cls := "java/lang/Throwable", name := "fillInStackTrace", desc := "(I)Ljava/lang/Throwable;" } : Jvm.MethodName)) ∈ lw_all := lw_g (lw_at lw_m6 208 rfl) rfl
theorem q1498 : (Jvm.Cond.lays "ReflectMirror$Refusal" "java/lang/Throwable" "cause" "Ljava/lang/Throwable;") ∈ lw_all := lw_g (lw_at lw_m6 209 rfl) rfl
theorem q1499 : (Jvm.Cond.lays "ReflectMirror$Refusal" "java/lang/Throwable" "stackTrace" "[Ljava/lang/StackTraceElement;") ∈ lw_all := lw_g (lw_at lw_m6 210 rfl) rfl
theorem q1500 : (Jvm.Cond.lays "ReflectMirror$Refusal" "java/lang/Throwable" "suppressedExceptions" "Ljava/util/List;") ∈ lw_all := lw_g (lw_at lw_m6 211 rfl) rfl
theorem q1501 : (Jvm.Cond.lays "ReflectMirror$Refusal" "java/lang/Throwable" "detailMessage" "Ljava/lang/String;") ∈ lw_all := lw_g (lw_at lw_m6 212 rfl) rfl
theorem q1502 : (Jvm.Cond.lays "ReflectMirror$Refusal" "java/lang/Throwable" "backtrace" "Ljava/lang/Object;") ∈ lw_all := lw_g (lw_at lw_m6 213 rfl) rfl
theorem q1504 : (Jvm.Cond.instanceMethod ({ cls := "ReflectMirror$Refusal", name := "<init>", desc := "(I)V" } : Jvm.MethodName)) ∈ lw_all := lw_g (lw_at lw_m6 215 rfl) rfl
theorem q1505 : (Jvm.Cond.code ({ cls := "ReflectMirror$Refusal", name := "<init>", desc := "(I)V" } : Jvm.MethodName) prog_22_method_1_code (2 : Nat) (Option.none : Option Jvm.ClassFile.FieldType)) ∈ lw_all := lw_g (lw_at lw_m6 216 rfl) rfl
theorem q1506 : (Jvm.Cond.methodLink "ReflectMirror$Refusal" (1 : Nat) ({ cls := "java/lang/Exception", name := "<init>", desc := "(Ljava/lang/String;Ljava/lang/Throwable;ZZ)V" } : Jvm.MethodName)) ∈ lw_all := lw_g (lw_at lw_m6 217 rfl) rfl
theorem q1512 : (Jvm.Cond.fieldLink "ReflectMirror$Refusal" (7 : Nat) "ReflectMirror$Refusal" "kind" "I") ∈ lw_all := lw_g (lw_at lw_m6 223 rfl) rfl
theorem q1514 : (Jvm.Cond.laysFinal "ReflectMirror$Refusal" "ReflectMirror$Refusal" "kind" "I") ∈ lw_all := lw_g (lw_at lw_m6 225 rfl) rfl
theorem q1515 : (Jvm.Cond.soleField "ReflectMirror$Refusal" "kind") ∈ lw_all := lw_g (lw_at lw_m6 226 rfl) rfl
theorem q1516 : (Jvm.Cond.lays "ReflectMirror$Refusal" "java/lang/Throwable" "depth" "I") ∈ lw_all := lw_g (lw_at lw_m6 227 rfl) rfl
theorem q1517 : (Jvm.Cond.superclass "ReflectMirror$Refusal" "java/lang/Exception") ∈ lw_all := lw_g (lw_at lw_m6 228 rfl) rfl
theorem q2617 : (Jvm.Cond.castable "ReflectMirror$Refusal" "java/lang/Object") ∈ lw_tbl := lw_at lw_m11 128 rfl
theorem in_X25 : ∀ w ∈ wsX250, w ∈ lw_all := lw_in wsX250 [1498, 1499, 1500, 1501, 1502, 1516, 1514] (by decide +kernel) (by decide +kernel)

/-! java/lang/Float -/
set_option maxRecDepth 100000
def RJ15 : String := "java/lang/Float"
def TJ15 : u_T := fun k => match k with
  | _ => ("java/lang/Float", "value", "F", true)
def tyJ15 : Nat → FieldType := fun k => match k with
  | _ => .float
abbrev wsJ150 : List Cond := u_ws RJ15 TJ15 1
theorem nmJ15 : ∀ a, a < 1 → ∀ b, b < 1 → a ≠ b → (TJ15 a).2.1 ≠ (TJ15 b).2.1 := by decide +kernel
theorem tyJ15_ok : ∀ k, k < 1 → parseFieldDescriptor (TJ15 k).2.2.1 = some (tyJ15 k) := by decide +kernel
abbrev cJ15_floatToIntBits : ByteArray := prog_42_method_24_code
def yJ15_floatToIntBits : MethodName := ⟨RJ15, "floatToIntBits", "(F)I"⟩
def dkwJ15_floatToIntBits_0 : List UInt8 := [34, 184, 0, 59, 154, 0, 8, 34, 184, 0, 74, 172, 18, 77, 172]
abbrev dktJ15_floatToIntBits_0 : List UInt8 := dkwJ15_floatToIntBits_0 ++ []
theorem dksJ15_floatToIntBits_0 : cJ15_floatToIntBits.data.toList.drop 0 = dktJ15_floatToIntBits_0 := by decide +kernel
theorem dJ15_floatToIntBits_0 : decode cJ15_floatToIntBits 0 = .ok (.fload_n 0, 1) := dk_34 (dk_at dksJ15_floatToIntBits_0 0 rfl rfl)
theorem dJ15_floatToIntBits_1 : decode cJ15_floatToIntBits 1 = .ok (.invokestatic 59, 3) := dk_184 0 59 (dk_at dksJ15_floatToIntBits_0 1 rfl rfl)
theorem dJ15_floatToIntBits_4 : decode cJ15_floatToIntBits 4 = .ok (.ifCond .ne 8, 3) := dk_154 0 8 (dk_at dksJ15_floatToIntBits_0 4 rfl rfl)
theorem dJ15_floatToIntBits_7 : decode cJ15_floatToIntBits 7 = .ok (.fload_n 0, 1) := dk_34 (dk_at dksJ15_floatToIntBits_0 7 rfl rfl)
theorem dJ15_floatToIntBits_8 : decode cJ15_floatToIntBits 8 = .ok (.invokestatic 74, 3) := dk_184 0 74 (dk_at dksJ15_floatToIntBits_0 8 rfl rfl)
theorem dJ15_floatToIntBits_11 : decode cJ15_floatToIntBits 11 = .ok (.ireturn, 1) := dk_172 (dk_at dksJ15_floatToIntBits_0 11 rfl rfl)
theorem dJ15_floatToIntBits_12 : decode cJ15_floatToIntBits 12 = .ok (.ldc 77, 2) := dk_18 77 (dk_at dksJ15_floatToIntBits_0 12 rfl rfl)
theorem dJ15_floatToIntBits_14 : decode cJ15_floatToIntBits 14 = .ok (.ireturn, 1) := dk_172 (dk_at dksJ15_floatToIntBits_0 14 rfl rfl)
abbrev cJ15_isNaN : ByteArray := prog_42_method_6_code
def yJ15_isNaN : MethodName := ⟨RJ15, "isNaN", "(F)Z"⟩
def dkwJ15_isNaN_0 : List UInt8 := [34, 34, 149, 153, 0, 7, 4, 167, 0, 4, 3, 172]
abbrev dktJ15_isNaN_0 : List UInt8 := dkwJ15_isNaN_0 ++ []
theorem dksJ15_isNaN_0 : cJ15_isNaN.data.toList.drop 0 = dktJ15_isNaN_0 := by decide +kernel
theorem dJ15_isNaN_0 : decode cJ15_isNaN 0 = .ok (.fload_n 0, 1) := dk_34 (dk_at dksJ15_isNaN_0 0 rfl rfl)
theorem dJ15_isNaN_1 : decode cJ15_isNaN 1 = .ok (.fload_n 0, 1) := dk_34 (dk_at dksJ15_isNaN_0 1 rfl rfl)
theorem dJ15_isNaN_2 : decode cJ15_isNaN 2 = .ok (.fcmp .l, 1) := dk_149 (dk_at dksJ15_isNaN_0 2 rfl rfl)
theorem dJ15_isNaN_3 : decode cJ15_isNaN 3 = .ok (.ifCond .eq 7, 3) := dk_153 0 7 (dk_at dksJ15_isNaN_0 3 rfl rfl)
theorem dJ15_isNaN_6 : decode cJ15_isNaN 6 = .ok (.iconst 1, 1) := dk_4 (dk_at dksJ15_isNaN_0 6 rfl rfl)
theorem dJ15_isNaN_7 : decode cJ15_isNaN 7 = .ok (.goto 4, 3) := dk_167 0 4 (dk_at dksJ15_isNaN_0 7 rfl rfl)
theorem dJ15_isNaN_10 : decode cJ15_isNaN 10 = .ok (.iconst 0, 1) := dk_3 (dk_at dksJ15_isNaN_0 10 rfl rfl)
theorem dJ15_isNaN_11 : decode cJ15_isNaN 11 = .ok (.ireturn, 1) := dk_172 (dk_at dksJ15_isNaN_0 11 rfl rfl)
theorem q133 : (Jvm.Cond.initialized "java/lang/Float") ∈ lw_all := lw_g (lw_at lw_m1 44 rfl) rfl
theorem q1548 : (Jvm.Cond.static ({ cls := "java/lang/Float", name := "floatToIntBits", desc := "(F)I" } : Jvm.MethodName)) ∈ lw_all := lw_g (lw_at lw_m7 19 rfl) rfl
theorem q1549 : (Jvm.Cond.code ({ cls := "java/lang/Float", name := "floatToIntBits", desc := "(F)I" } : Jvm.MethodName) prog_42_method_24_code (1 : Nat) (Option.some Jvm.ClassFile.FieldType.int)) ∈ lw_all := lw_g (lw_at lw_m7 20 rfl) rfl
theorem q1550 : (Jvm.Cond.methodLink "java/lang/Float" (59 : Nat) ({ cls := "java/lang/Float", name := "isNaN", desc := "(F)Z" } : Jvm.MethodName)) ∈ lw_all := lw_g (lw_at lw_m7 21 rfl) rfl
theorem q1551 : (Jvm.Cond.static ({ cls := "java/lang/Float", name := "isNaN", desc := "(F)Z" } : Jvm.MethodName)) ∈ lw_all := lw_g (lw_at lw_m7 22 rfl) rfl
theorem q1552 : (Jvm.Cond.code ({ cls := "java/lang/Float", name := "isNaN", desc := "(F)Z" } : Jvm.MethodName) prog_42_method_6_code (1 : Nat) (Option.some Jvm.ClassFile.FieldType.boolean)) ∈ lw_all := lw_g (lw_at lw_m7 23 rfl) rfl
theorem q1553 : (Jvm.Cond.methodLink "java/lang/Float" (74 : Nat) ({ cls := "java/lang/Float", name := "floatToRawIntBits", desc := "(F)I" } : Jvm.MethodName)) ∈ lw_all := lw_g (lw_at lw_m7 24 rfl) rfl
theorem q1554 : (Jvm.Cond.static ({ cls := "java/lang/Float", name := "floatToRawIntBits", desc := "(F)I" } : Jvm.MethodName)) ∈ lw_all := lw_g (lw_at lw_m7 25 rfl) rfl
theorem q1555 : (Jvm.Cond.native ({ cls := "java/lang/Float", name := "floatToRawIntBits", desc := "(F)I" } : Jvm.MethodName)) ∈ lw_all := lw_g (lw_at lw_m7 26 rfl) rfl
theorem q1556 : (Jvm.Cond.constant "java/lang/Float" (77 : Nat) (2143289344 : Int32)) ∈ lw_all := lw_g (lw_at lw_m7 27 rfl) rfl
theorem q1612 : (Jvm.Cond.static ({ cls := "java/lang/Float", name := "intBitsToFloat", desc := "(I)F" } : Jvm.MethodName)) ∈ lw_all := lw_g (lw_at lw_m7 83 rfl) rfl
theorem q1613 : (Jvm.Cond.native ({ cls := "java/lang/Float", name := "intBitsToFloat", desc := "(I)F" } : Jvm.MethodName)) ∈ lw_all := lw_g (lw_at lw_m7 84 rfl) rfl
theorem q1659 : (Jvm.Cond.instantiable "java/lang/Float" (1 : Nat)) ∈ lw_all := lw_g (lw_at lw_m7 130 rfl) rfl
theorem q1660 : (Jvm.Cond.superclass "java/lang/Float" "java/lang/Number") ∈ lw_all := lw_g (lw_at lw_m7 131 rfl) rfl
theorem q1661 : (Jvm.Cond.laysFinal "java/lang/Float" "java/lang/Float" "value" "F") ∈ lw_all := lw_g (lw_at lw_m7 132 rfl) rfl
theorem q1662 : (Jvm.Cond.soleField "java/lang/Float" "value") ∈ lw_all := lw_g (lw_at lw_m7 133 rfl) rfl
theorem q2628 : (Jvm.Cond.castable "java/lang/Float" "java/lang/Object") ∈ lw_tbl := lw_at lw_m11 139 rfl
theorem in_J15 : ∀ w ∈ wsJ150, w ∈ lw_all := lw_in wsJ150 [1661] (by decide +kernel) (by decide +kernel)

/-! java/lang/Double -/
set_option maxRecDepth 100000
def RJ16 : String := "java/lang/Double"
def TJ16 : u_T := fun k => match k with
  | _ => ("java/lang/Double", "value", "D", true)
def tyJ16 : Nat → FieldType := fun k => match k with
  | _ => .double
abbrev wsJ160 : List Cond := u_ws RJ16 TJ16 1
theorem nmJ16 : ∀ a, a < 1 → ∀ b, b < 1 → a ≠ b → (TJ16 a).2.1 ≠ (TJ16 b).2.1 := by decide +kernel
theorem tyJ16_ok : ∀ k, k < 1 → parseFieldDescriptor (TJ16 k).2.2.1 = some (tyJ16 k) := by decide +kernel
abbrev cJ16_doubleToLongBits : ByteArray := prog_40_method_23_code
def yJ16_doubleToLongBits : MethodName := ⟨RJ16, "doubleToLongBits", "(D)J"⟩
def dkwJ16_doubleToLongBits_0 : List UInt8 := [38, 184, 0, 122, 154, 0, 8, 38, 184, 0, 134, 173, 20, 0, 137, 173]
abbrev dktJ16_doubleToLongBits_0 : List UInt8 := dkwJ16_doubleToLongBits_0 ++ []
theorem dksJ16_doubleToLongBits_0 : cJ16_doubleToLongBits.data.toList.drop 0 = dktJ16_doubleToLongBits_0 := by decide +kernel
theorem dJ16_doubleToLongBits_0 : decode cJ16_doubleToLongBits 0 = .ok (.dload_n 0, 1) := dk_38 (dk_at dksJ16_doubleToLongBits_0 0 rfl rfl)
theorem dJ16_doubleToLongBits_1 : decode cJ16_doubleToLongBits 1 = .ok (.invokestatic 122, 3) := dk_184 0 122 (dk_at dksJ16_doubleToLongBits_0 1 rfl rfl)
theorem dJ16_doubleToLongBits_4 : decode cJ16_doubleToLongBits 4 = .ok (.ifCond .ne 8, 3) := dk_154 0 8 (dk_at dksJ16_doubleToLongBits_0 4 rfl rfl)
theorem dJ16_doubleToLongBits_7 : decode cJ16_doubleToLongBits 7 = .ok (.dload_n 0, 1) := dk_38 (dk_at dksJ16_doubleToLongBits_0 7 rfl rfl)
theorem dJ16_doubleToLongBits_8 : decode cJ16_doubleToLongBits 8 = .ok (.invokestatic 134, 3) := dk_184 0 134 (dk_at dksJ16_doubleToLongBits_0 8 rfl rfl)
theorem dJ16_doubleToLongBits_11 : decode cJ16_doubleToLongBits 11 = .ok (.lreturn, 1) := dk_173 (dk_at dksJ16_doubleToLongBits_0 11 rfl rfl)
theorem dJ16_doubleToLongBits_12 : decode cJ16_doubleToLongBits 12 = .ok (.ldc2_w 137, 3) := dk_20 0 137 (dk_at dksJ16_doubleToLongBits_0 12 rfl rfl)
theorem dJ16_doubleToLongBits_15 : decode cJ16_doubleToLongBits 15 = .ok (.lreturn, 1) := dk_173 (dk_at dksJ16_doubleToLongBits_0 15 rfl rfl)
abbrev cJ16_isNaN : ByteArray := prog_40_method_6_code
def yJ16_isNaN : MethodName := ⟨RJ16, "isNaN", "(D)Z"⟩
def dkwJ16_isNaN_0 : List UInt8 := [38, 38, 151, 153, 0, 7, 4, 167, 0, 4, 3, 172]
abbrev dktJ16_isNaN_0 : List UInt8 := dkwJ16_isNaN_0 ++ []
theorem dksJ16_isNaN_0 : cJ16_isNaN.data.toList.drop 0 = dktJ16_isNaN_0 := by decide +kernel
theorem dJ16_isNaN_0 : decode cJ16_isNaN 0 = .ok (.dload_n 0, 1) := dk_38 (dk_at dksJ16_isNaN_0 0 rfl rfl)
theorem dJ16_isNaN_1 : decode cJ16_isNaN 1 = .ok (.dload_n 0, 1) := dk_38 (dk_at dksJ16_isNaN_0 1 rfl rfl)
theorem dJ16_isNaN_2 : decode cJ16_isNaN 2 = .ok (.dcmp .l, 1) := dk_151 (dk_at dksJ16_isNaN_0 2 rfl rfl)
theorem dJ16_isNaN_3 : decode cJ16_isNaN 3 = .ok (.ifCond .eq 7, 3) := dk_153 0 7 (dk_at dksJ16_isNaN_0 3 rfl rfl)
theorem dJ16_isNaN_6 : decode cJ16_isNaN 6 = .ok (.iconst 1, 1) := dk_4 (dk_at dksJ16_isNaN_0 6 rfl rfl)
theorem dJ16_isNaN_7 : decode cJ16_isNaN 7 = .ok (.goto 4, 3) := dk_167 0 4 (dk_at dksJ16_isNaN_0 7 rfl rfl)
theorem dJ16_isNaN_10 : decode cJ16_isNaN 10 = .ok (.iconst 0, 1) := dk_3 (dk_at dksJ16_isNaN_0 10 rfl rfl)
theorem dJ16_isNaN_11 : decode cJ16_isNaN 11 = .ok (.ireturn, 1) := dk_172 (dk_at dksJ16_isNaN_0 11 rfl rfl)
theorem q134 : (Jvm.Cond.initialized "java/lang/Double") ∈ lw_all := lw_g (lw_at lw_m1 45 rfl) rfl
theorem q1561 : (Jvm.Cond.static ({ cls := "java/lang/Double", name := "doubleToLongBits", desc := "(D)J" } : Jvm.MethodName)) ∈ lw_all := lw_g (lw_at lw_m7 32 rfl) rfl
theorem q1562 : (Jvm.Cond.code ({ cls := "java/lang/Double", name := "doubleToLongBits", desc := "(D)J" } : Jvm.MethodName) prog_40_method_23_code (2 : Nat) (Option.some Jvm.ClassFile.FieldType.long)) ∈ lw_all := lw_g (lw_at lw_m7 33 rfl) rfl
theorem q1563 : (Jvm.Cond.methodLink "java/lang/Double" (122 : Nat) ({ cls := "java/lang/Double", name := "isNaN", desc := "(D)Z" } : Jvm.MethodName)) ∈ lw_all := lw_g (lw_at lw_m7 34 rfl) rfl
theorem q1564 : (Jvm.Cond.static ({ cls := "java/lang/Double", name := "isNaN", desc := "(D)Z" } : Jvm.MethodName)) ∈ lw_all := lw_g (lw_at lw_m7 35 rfl) rfl
theorem q1565 : (Jvm.Cond.code ({ cls := "java/lang/Double", name := "isNaN", desc := "(D)Z" } : Jvm.MethodName) prog_40_method_6_code (2 : Nat) (Option.some Jvm.ClassFile.FieldType.boolean)) ∈ lw_all := lw_g (lw_at lw_m7 36 rfl) rfl
theorem q1566 : (Jvm.Cond.methodLink "java/lang/Double" (134 : Nat) ({ cls := "java/lang/Double", name := "doubleToRawLongBits", desc := "(D)J" } : Jvm.MethodName)) ∈ lw_all := lw_g (lw_at lw_m7 37 rfl) rfl
theorem q1567 : (Jvm.Cond.static ({ cls := "java/lang/Double", name := "doubleToRawLongBits", desc := "(D)J" } : Jvm.MethodName)) ∈ lw_all := lw_g (lw_at lw_m7 38 rfl) rfl
theorem q1568 : (Jvm.Cond.native ({ cls := "java/lang/Double", name := "doubleToRawLongBits", desc := "(D)J" } : Jvm.MethodName)) ∈ lw_all := lw_g (lw_at lw_m7 39 rfl) rfl
theorem q1569 : (Jvm.Cond.constantLong "java/lang/Double" (137 : Nat) (9221120237041090560 : Int64)) ∈ lw_all := lw_g (lw_at lw_m7 40 rfl) rfl
theorem q1622 : (Jvm.Cond.static ({ cls := "java/lang/Double", name := "longBitsToDouble", desc := "(J)D" } : Jvm.MethodName)) ∈ lw_all := lw_g (lw_at lw_m7 93 rfl) rfl
theorem q1623 : (Jvm.Cond.native ({ cls := "java/lang/Double", name := "longBitsToDouble", desc := "(J)D" } : Jvm.MethodName)) ∈ lw_all := lw_g (lw_at lw_m7 94 rfl) rfl
theorem q1663 : (Jvm.Cond.instantiable "java/lang/Double" (1 : Nat)) ∈ lw_all := lw_g (lw_at lw_m7 134 rfl) rfl
theorem q1664 : (Jvm.Cond.superclass "java/lang/Double" "java/lang/Number") ∈ lw_all := lw_g (lw_at lw_m7 135 rfl) rfl
theorem q1665 : (Jvm.Cond.laysFinal "java/lang/Double" "java/lang/Double" "value" "D") ∈ lw_all := lw_g (lw_at lw_m7 136 rfl) rfl
theorem q1666 : (Jvm.Cond.soleField "java/lang/Double" "value") ∈ lw_all := lw_g (lw_at lw_m7 137 rfl) rfl
theorem q2629 : (Jvm.Cond.castable "java/lang/Double" "java/lang/Object") ∈ lw_tbl := lw_at lw_m11 140 rfl
theorem in_J16 : ∀ w ∈ wsJ160, w ∈ lw_all := lw_in wsJ160 [1665] (by decide +kernel) (by decide +kernel)

/-! ReflectMirror$Frame -/
set_option maxRecDepth 100000
def RX26 : String := "ReflectMirror$Frame"
def TX26 : u_T := fun k => match k with
  | 0 => ("ReflectMirror$Frame", "self", "LReflectMirror$One;", true)
  | 1 => ("ReflectMirror$Frame", "args", "[LReflectMirror$Cell;", true)
  | 2 => ("ReflectMirror$Frame", "out", "LReflectMirror$Cell;", true)
  | _ => ("ReflectMirror$Frame", "within", "I", true)
def tyX26 : Nat → FieldType := fun k => match k with
  | 0 => .object "ReflectMirror$One"
  | 1 => .array (.object "ReflectMirror$Cell")
  | 2 => .object "ReflectMirror$Cell"
  | _ => .int
abbrev wsX260 : List Cond := u_ws RX26 TX26 4
theorem nmX26 : ∀ a, a < 4 → ∀ b, b < 4 → a ≠ b → (TX26 a).2.1 ≠ (TX26 b).2.1 := by decide +kernel
theorem tyX26_ok : ∀ k, k < 4 → parseFieldDescriptor (TX26 k).2.2.1 = some (tyX26 k) := by decide +kernel
abbrev cX26_init : ByteArray := prog_10_method_1_code
def yX26_init : MethodName := ⟨RX26, "<init>", "(LReflectMirror$One;[LReflectMirror$Cell;I)V"⟩
def dkwX26_init_1 : List UInt8 := [181, 0, 20, 42, 29, 181, 0, 24, 177]
abbrev dktX26_init_1 : List UInt8 := dkwX26_init_1 ++ []
def dkwX26_init_0 : List UInt8 := [42, 183, 0, 1, 42, 187, 0, 7, 89, 183, 0, 9, 181, 0, 10, 42, 43, 181, 0, 16, 42, 44]
abbrev dktX26_init_0 : List UInt8 := dkwX26_init_0 ++ dktX26_init_1
theorem dksX26_init_0 : cX26_init.data.toList.drop 0 = dktX26_init_0 := by decide +kernel
theorem dksX26_init_1 : cX26_init.data.toList.drop 22 = dktX26_init_1 := dk_seg dksX26_init_0 22 rfl rfl
theorem dX26_init_0 : decode cX26_init 0 = .ok (.aload_n 0, 1) := dk_42 (dk_at dksX26_init_0 0 rfl rfl)
theorem dX26_init_1 : decode cX26_init 1 = .ok (.invokespecial 1, 3) := dk_183 0 1 (dk_at dksX26_init_0 1 rfl rfl)
theorem dX26_init_4 : decode cX26_init 4 = .ok (.aload_n 0, 1) := dk_42 (dk_at dksX26_init_0 4 rfl rfl)
theorem dX26_init_5 : decode cX26_init 5 = .ok (.new 7, 3) := dk_187 0 7 (dk_at dksX26_init_0 5 rfl rfl)
theorem dX26_init_8 : decode cX26_init 8 = .ok (.dup, 1) := dk_89 (dk_at dksX26_init_0 8 rfl rfl)
theorem dX26_init_9 : decode cX26_init 9 = .ok (.invokespecial 9, 3) := dk_183 0 9 (dk_at dksX26_init_0 9 rfl rfl)
theorem dX26_init_12 : decode cX26_init 12 = .ok (.putfield 10, 3) := dk_181 0 10 (dk_at dksX26_init_0 12 rfl rfl)
theorem dX26_init_15 : decode cX26_init 15 = .ok (.aload_n 0, 1) := dk_42 (dk_at dksX26_init_0 15 rfl rfl)
theorem dX26_init_16 : decode cX26_init 16 = .ok (.aload_n 1, 1) := dk_43 (dk_at dksX26_init_0 16 rfl rfl)
theorem dX26_init_17 : decode cX26_init 17 = .ok (.putfield 16, 3) := dk_181 0 16 (dk_at dksX26_init_0 17 rfl rfl)
theorem dX26_init_20 : decode cX26_init 20 = .ok (.aload_n 0, 1) := dk_42 (dk_at dksX26_init_0 20 rfl rfl)
theorem dX26_init_21 : decode cX26_init 21 = .ok (.aload_n 2, 1) := dk_44 (dk_at dksX26_init_0 21 rfl rfl)
theorem dX26_init_22 : decode cX26_init 22 = .ok (.putfield 20, 3) := dk_181 0 20 (dk_at dksX26_init_1 0 rfl rfl)
theorem dX26_init_25 : decode cX26_init 25 = .ok (.aload_n 0, 1) := dk_42 (dk_at dksX26_init_1 3 rfl rfl)
theorem dX26_init_26 : decode cX26_init 26 = .ok (.iload_n 3, 1) := dk_29 (dk_at dksX26_init_1 4 rfl rfl)
theorem dX26_init_27 : decode cX26_init 27 = .ok (.putfield 24, 3) := dk_181 0 24 (dk_at dksX26_init_1 5 rfl rfl)
theorem dX26_init_30 : decode cX26_init 30 = .ok (.return_, 1) := dk_177 (dk_at dksX26_init_1 8 rfl rfl)
theorem q136 : (Jvm.Cond.initialized "ReflectMirror$Frame") ∈ lw_all := lw_g (lw_at lw_m1 47 rfl) rfl
theorem q1733 : (Jvm.Cond.instantiable "ReflectMirror$Frame" (4 : Nat)) ∈ lw_all := lw_g (lw_at lw_m7 204 rfl) rfl
theorem q1735 : (Jvm.Cond.instanceMethod ({ cls := "ReflectMirror$Frame", name := "<init>", desc := "(LReflectMirror$One;[LReflectMirror$Cell;I)V" } : Jvm.MethodName)) ∈ lw_all := lw_g (lw_at lw_m7 206 rfl) rfl
theorem q1736 : (Jvm.Cond.code ({ cls := "ReflectMirror$Frame", name := "<init>", desc := "(LReflectMirror$One;[LReflectMirror$Cell;I)V" } : Jvm.MethodName) prog_10_method_1_code (4 : Nat) (Option.none : Option Jvm.ClassFile.FieldType)) ∈ lw_all := lw_g (lw_at lw_m7 207 rfl) rfl
theorem q1737 : (Jvm.Cond.methodLink "ReflectMirror$Frame" (1 : Nat) ({ cls := "java/lang/Object", name := "<init>", desc := "()V" } : Jvm.MethodName)) ∈ lw_all := lw_g (lw_at lw_m7 208 rfl) rfl
theorem q1738 : (Jvm.Cond.classLink "ReflectMirror$Frame" (7 : Nat) "ReflectMirror$Cell") ∈ lw_all := lw_g (lw_at lw_m7 209 rfl) rfl
theorem q1739 : (Jvm.Cond.methodLinkNest "ReflectMirror$Frame" (9 : Nat) ({ cls := "ReflectMirror$Cell", name := "<init>", desc := "()V" } : Jvm.MethodName) "ReflectMirror") ∈ lw_tbl := lw_at lw_m7 210 rfl
theorem q1740 : (Jvm.Cond.fieldLink "ReflectMirror$Frame" (16 : Nat) "ReflectMirror$Frame" "self" "LReflectMirror$One;") ∈ lw_all := lw_g (lw_at lw_m7 211 rfl) rfl
theorem q1743 : (Jvm.Cond.fieldLink "ReflectMirror$Frame" (20 : Nat) "ReflectMirror$Frame" "args" "[LReflectMirror$Cell;") ∈ lw_all := lw_g (lw_at lw_m7 214 rfl) rfl
theorem q1749 : (Jvm.Cond.fieldLink "ReflectMirror$Frame" (10 : Nat) "ReflectMirror$Frame" "out" "LReflectMirror$Cell;") ∈ lw_all := lw_g (lw_at lw_m7 220 rfl) rfl
theorem q1753 : (Jvm.Cond.fieldLink "ReflectMirror$Frame" (24 : Nat) "ReflectMirror$Frame" "within" "I") ∈ lw_all := lw_g (lw_at lw_m7 224 rfl) rfl
theorem q1755 : (Jvm.Cond.laysFinal "ReflectMirror$Frame" "ReflectMirror$Frame" "self" "LReflectMirror$One;") ∈ lw_all := lw_g (lw_at lw_m7 226 rfl) rfl
theorem q1756 : (Jvm.Cond.soleField "ReflectMirror$Frame" "self") ∈ lw_all := lw_g (lw_at lw_m7 227 rfl) rfl
theorem q1757 : (Jvm.Cond.laysFinal "ReflectMirror$Frame" "ReflectMirror$Frame" "args" "[LReflectMirror$Cell;") ∈ lw_all := lw_g (lw_at lw_m7 228 rfl) rfl
theorem q1758 : (Jvm.Cond.soleField "ReflectMirror$Frame" "args") ∈ lw_all := lw_g (lw_at lw_m7 229 rfl) rfl
theorem q1759 : (Jvm.Cond.laysFinal "ReflectMirror$Frame" "ReflectMirror$Frame" "out" "LReflectMirror$Cell;") ∈ lw_all := lw_g (lw_at lw_m7 230 rfl) rfl
theorem q1760 : (Jvm.Cond.soleField "ReflectMirror$Frame" "out") ∈ lw_all := lw_g (lw_at lw_m7 231 rfl) rfl
theorem q1761 : (Jvm.Cond.laysFinal "ReflectMirror$Frame" "ReflectMirror$Frame" "within" "I") ∈ lw_all := lw_g (lw_at lw_m7 232 rfl) rfl
theorem q1762 : (Jvm.Cond.soleField "ReflectMirror$Frame" "within") ∈ lw_all := lw_g (lw_at lw_m7 233 rfl) rfl
theorem q1763 : (Jvm.Cond.superclass "ReflectMirror$Frame" "java/lang/Object") ∈ lw_all := lw_g (lw_at lw_m7 234 rfl) rfl
theorem q2618 : (Jvm.Cond.castable "ReflectMirror$Frame" "java/lang/Object") ∈ lw_tbl := lw_at lw_m11 129 rfl
theorem in_X26 : ∀ w ∈ wsX260, w ∈ lw_all := lw_in wsX260 [1755, 1757, 1759, 1761] (by decide +kernel) (by decide +kernel)

/-! ReflectMirror$Many -/
set_option maxRecDepth 100000
def RX27 : String := "ReflectMirror$Many"
def TX27 : u_T := fun k => match k with
  | 0 => ("ReflectMirror$Thing", "number", "I", true)
  | 1 => ("ReflectMirror$Thing", "type", "LReflectMirror$Type;", true)
  | 2 => ("ReflectMirror$Thing", "size", "I", true)
  | 3 => ("ReflectMirror$Many", "row", "Ljava/lang/Object;", true)
  | _ => ("ReflectMirror$Many", "size", "I", true)
def tyX27 : Nat → FieldType := fun k => match k with
  | 0 => .int
  | 1 => .object "ReflectMirror$Type"
  | 2 => .int
  | 3 => .object "java/lang/Object"
  | _ => .int
abbrev wsX270 : List Cond := u_ws RX27 TX27 5
-- two fields of one name: no nmX27
theorem tyX27_ok : ∀ k, k < 5 → parseFieldDescriptor (TX27 k).2.2.1 = some (tyX27 k) := by decide +kernel
abbrev cX27_init : ByteArray := prog_12_method_1_code
def yX27_init : MethodName := ⟨RX27, "<init>", "(ILReflectMirror$Type;Ljava/lang/Object;)V"⟩
def dkwX27_init_0 : List UInt8 := [42, 27, 44, 183, 0, 1, 42, 45, 181, 0, 7, 42, 45, 184, 0, 13, 181, 0, 19, 177]
abbrev dktX27_init_0 : List UInt8 := dkwX27_init_0 ++ []
theorem dksX27_init_0 : cX27_init.data.toList.drop 0 = dktX27_init_0 := by decide +kernel
theorem dX27_init_0 : decode cX27_init 0 = .ok (.aload_n 0, 1) := dk_42 (dk_at dksX27_init_0 0 rfl rfl)
theorem dX27_init_1 : decode cX27_init 1 = .ok (.iload_n 1, 1) := dk_27 (dk_at dksX27_init_0 1 rfl rfl)
theorem dX27_init_2 : decode cX27_init 2 = .ok (.aload_n 2, 1) := dk_44 (dk_at dksX27_init_0 2 rfl rfl)
theorem dX27_init_3 : decode cX27_init 3 = .ok (.invokespecial 1, 3) := dk_183 0 1 (dk_at dksX27_init_0 3 rfl rfl)
theorem dX27_init_6 : decode cX27_init 6 = .ok (.aload_n 0, 1) := dk_42 (dk_at dksX27_init_0 6 rfl rfl)
theorem dX27_init_7 : decode cX27_init 7 = .ok (.aload_n 3, 1) := dk_45 (dk_at dksX27_init_0 7 rfl rfl)
theorem dX27_init_8 : decode cX27_init 8 = .ok (.putfield 7, 3) := dk_181 0 7 (dk_at dksX27_init_0 8 rfl rfl)
theorem dX27_init_11 : decode cX27_init 11 = .ok (.aload_n 0, 1) := dk_42 (dk_at dksX27_init_0 11 rfl rfl)
theorem dX27_init_12 : decode cX27_init 12 = .ok (.aload_n 3, 1) := dk_45 (dk_at dksX27_init_0 12 rfl rfl)
theorem dX27_init_13 : decode cX27_init 13 = .ok (.invokestatic 13, 3) := dk_184 0 13 (dk_at dksX27_init_0 13 rfl rfl)
theorem dX27_init_16 : decode cX27_init 16 = .ok (.putfield 19, 3) := dk_181 0 19 (dk_at dksX27_init_0 16 rfl rfl)
theorem dX27_init_19 : decode cX27_init 19 = .ok (.return_, 1) := dk_177 (dk_at dksX27_init_0 19 rfl rfl)
theorem q137 : (Jvm.Cond.initialized "ReflectMirror$Many") ∈ lw_all := lw_g (lw_at lw_m1 48 rfl) rfl
theorem q491 : (Jvm.Cond.castable "ReflectMirror$Many" "ReflectMirror$Numbered") ∈ lw_tbl := lw_at lw_m2 162 rfl
theorem q492 : (Jvm.Cond.selects "ReflectMirror$Many" ({ cls := "ReflectMirror$Numbered", name := "number", desc := "()I" } : Jvm.MethodName) ({ cls := "ReflectMirror$Thing", name := "number", desc := "()I" } : Jvm.MethodName)) ∈ lw_all := lw_g (lw_at lw_m2 163 rfl) rfl
theorem q493 : (Jvm.Cond.unhidden "ReflectMirror$Many" "number" "()I") ∈ lw_tbl := lw_at lw_m2 164 rfl
theorem q1872 : (Jvm.Cond.instantiable "ReflectMirror$Many" (5 : Nat)) ∈ lw_all := lw_g (lw_at lw_m8 103 rfl) rfl
theorem q1874 : (Jvm.Cond.instanceMethod ({ cls := "ReflectMirror$Many", name := "<init>", desc := "(ILReflectMirror$Type;Ljava/lang/Object;)V" } : Jvm.MethodName)) ∈ lw_all := lw_g (lw_at lw_m8 105 rfl) rfl
theorem q1875 : (Jvm.Cond.code ({ cls := "ReflectMirror$Many", name := "<init>", desc := "(ILReflectMirror$Type;Ljava/lang/Object;)V" } : Jvm.MethodName) prog_12_method_1_code (4 : Nat) (Option.none : Option Jvm.ClassFile.FieldType)) ∈ lw_all := lw_g (lw_at lw_m8 106 rfl) rfl
theorem q1876 : (Jvm.Cond.methodLink "ReflectMirror$Many" (1 : Nat) ({ cls := "ReflectMirror$Thing", name := "<init>", desc := "(ILReflectMirror$Type;)V" } : Jvm.MethodName)) ∈ lw_all := lw_g (lw_at lw_m8 107 rfl) rfl
theorem q1877 : (Jvm.Cond.methodLink "ReflectMirror$Many" (13 : Nat) ({ cls := "java/lang/reflect/Array", name := "getLength", desc := "(Ljava/lang/Object;)I" } : Jvm.MethodName)) ∈ lw_all := lw_g (lw_at lw_m8 108 rfl) rfl
theorem q1880 : (Jvm.Cond.fieldLink "ReflectMirror$Many" (7 : Nat) "ReflectMirror$Many" "row" "Ljava/lang/Object;") ∈ lw_all := lw_g (lw_at lw_m8 111 rfl) rfl
theorem q1883 : (Jvm.Cond.fieldLink "ReflectMirror$Many" (19 : Nat) "ReflectMirror$Many" "size" "I") ∈ lw_all := lw_g (lw_at lw_m8 114 rfl) rfl
theorem q1885 : (Jvm.Cond.laysFinal "ReflectMirror$Many" "ReflectMirror$Many" "row" "Ljava/lang/Object;") ∈ lw_all := lw_g (lw_at lw_m8 116 rfl) rfl
theorem q1886 : (Jvm.Cond.soleField "ReflectMirror$Many" "row") ∈ lw_all := lw_g (lw_at lw_m8 117 rfl) rfl
theorem q1887 : (Jvm.Cond.laysFinal "ReflectMirror$Many" "ReflectMirror$Many" "size" "I") ∈ lw_all := lw_g (lw_at lw_m8 118 rfl) rfl
theorem q1888 : (Jvm.Cond.soleField "ReflectMirror$Many" "size") ∈ lw_all := lw_g (lw_at lw_m8 119 rfl) rfl
theorem q1889 : (Jvm.Cond.laysFinal "ReflectMirror$Many" "ReflectMirror$Thing" "number" "I") ∈ lw_all := lw_g (lw_at lw_m8 120 rfl) rfl
theorem q1890 : (Jvm.Cond.laysFinal "ReflectMirror$Many" "ReflectMirror$Thing" "type" "LReflectMirror$Type;") ∈ lw_all := lw_g (lw_at lw_m8 121 rfl) rfl
theorem q1891 : (Jvm.Cond.laysFinal "ReflectMirror$Many" "ReflectMirror$Thing" "size" "I") ∈ lw_all := lw_g (lw_at lw_m8 122 rfl) rfl
theorem q1892 : (Jvm.Cond.superclass "ReflectMirror$Many" "ReflectMirror$Thing") ∈ lw_all := lw_g (lw_at lw_m8 123 rfl) rfl
theorem q2582 : (Jvm.Cond.selects "ReflectMirror$Many" ({ cls := "ReflectMirror$Thing", name := "number", desc := "()I" } : Jvm.MethodName) ({ cls := "ReflectMirror$Thing", name := "number", desc := "()I" } : Jvm.MethodName)) ∈ lw_all := lw_g (lw_at lw_m11 93 rfl) rfl
theorem q2589 : (Jvm.Cond.castable "ReflectMirror$Many" "ReflectMirror$Thing") ∈ lw_tbl := lw_at lw_m11 100 rfl
theorem q2619 : (Jvm.Cond.castable "ReflectMirror$Many" "java/lang/Object") ∈ lw_tbl := lw_at lw_m11 130 rfl
theorem in_X27 : ∀ w ∈ wsX270, w ∈ lw_all := lw_in wsX270 [1889, 1890, 1891, 1885, 1887] (by decide +kernel) (by decide +kernel)

/-! java/util/Objects -/
set_option maxRecDepth 100000
def RJ17 : String := "java/util/Objects"
abbrev cJ17_requireNonNull : ByteArray := prog_61_method_10_code
def yJ17_requireNonNull : MethodName := ⟨RJ17, "requireNonNull", "(Ljava/lang/Object;)Ljava/lang/Object;"⟩
def dkwJ17_requireNonNull_0 : List UInt8 := [42, 199, 0, 11, 187, 0, 84, 89, 183, 0, 86, 191, 42, 176]
abbrev dktJ17_requireNonNull_0 : List UInt8 := dkwJ17_requireNonNull_0 ++ []
theorem dksJ17_requireNonNull_0 : cJ17_requireNonNull.data.toList.drop 0 = dktJ17_requireNonNull_0 := by decide +kernel
theorem dJ17_requireNonNull_0 : decode cJ17_requireNonNull 0 = .ok (.aload_n 0, 1) := dk_42 (dk_at dksJ17_requireNonNull_0 0 rfl rfl)
theorem dJ17_requireNonNull_1 : decode cJ17_requireNonNull 1 = .ok (.ifnonnull 11, 3) := dk_199 0 11 (dk_at dksJ17_requireNonNull_0 1 rfl rfl)
theorem dJ17_requireNonNull_4 : decode cJ17_requireNonNull 4 = .ok (.new 84, 3) := dk_187 0 84 (dk_at dksJ17_requireNonNull_0 4 rfl rfl)
theorem dJ17_requireNonNull_7 : decode cJ17_requireNonNull 7 = .ok (.dup, 1) := dk_89 (dk_at dksJ17_requireNonNull_0 7 rfl rfl)
theorem dJ17_requireNonNull_8 : decode cJ17_requireNonNull 8 = .ok (.invokespecial 86, 3) := dk_183 0 86 (dk_at dksJ17_requireNonNull_0 8 rfl rfl)
theorem dJ17_requireNonNull_11 : decode cJ17_requireNonNull 11 = .ok (.athrow, 1) := dk_191 (dk_at dksJ17_requireNonNull_0 11 rfl rfl)
theorem dJ17_requireNonNull_12 : decode cJ17_requireNonNull 12 = .ok (.aload_n 0, 1) := dk_42 (dk_at dksJ17_requireNonNull_0 12 rfl rfl)
theorem dJ17_requireNonNull_13 : decode cJ17_requireNonNull 13 = .ok (.areturn, 1) := dk_176 (dk_at dksJ17_requireNonNull_0 13 rfl rfl)
theorem q138 : (Jvm.Cond.initialized "java/util/Objects") ∈ lw_all := lw_g (lw_at lw_m1 49 rfl) rfl
theorem q1898 : (Jvm.Cond.static ({ cls := "java/util/Objects", name := "requireNonNull", desc := "(Ljava/lang/Object;)Ljava/lang/Object;" } : Jvm.MethodName)) ∈ lw_all := lw_g (lw_at lw_m8 129 rfl) rfl
theorem q1899 : (Jvm.Cond.code ({ cls := "java/util/Objects", name := "requireNonNull", desc := "(Ljava/lang/Object;)Ljava/lang/Object;" } : Jvm.MethodName) prog_61_method_10_code (1 : Nat) (Option.some (Jvm.ClassFile.FieldType.object "java/lang/Object"))) ∈ lw_all := lw_g (lw_at lw_m8 130 rfl) rfl
theorem q1900 : (Jvm.Cond.classLink "java/util/Objects" (84 : Nat) "java/lang/NullPointerException") ∈ lw_all := lw_g (lw_at lw_m8 131 rfl) rfl
theorem q1901 : (Jvm.Cond.methodLink "java/util/Objects" (86 : Nat) ({ cls := "java/lang/NullPointerException", name := "<init>", desc := "()V" } : Jvm.MethodName)) ∈ lw_all := lw_g (lw_at lw_m8 132 rfl) rfl

/-! java/lang/Object -/
set_option maxRecDepth 100000
def RJ18 : String := "java/lang/Object"
abbrev cJ18_init : ByteArray := object_method_1_code
def yJ18_init : MethodName := ⟨RJ18, "<init>", "()V"⟩
theorem dJ18_init_0 : decode cJ18_init 0 = .ok (.return_, 1) := by decide +kernel
theorem q145 : (Jvm.Cond.instanceMethod ({ cls := "java/lang/Object", name := "<init>", desc := "()V" } : Jvm.MethodName)) ∈ lw_all := lw_g (lw_at lw_m1 56 rfl) rfl
theorem q146 : (Jvm.Cond.code ({ cls := "java/lang/Object", name := "<init>", desc := "()V" } : Jvm.MethodName) object_method_1_code (1 : Nat) (Option.none : Option Jvm.ClassFile.FieldType)) ∈ lw_all := lw_g (lw_at lw_m1 57 rfl) rfl

/-! ReflectMirror$Numbered -/
set_option maxRecDepth 100000
def RX28 : String := "ReflectMirror$Numbered"
abbrev cX28_isBehind : ByteArray := prog_15_method_2_code
def yX28_isBehind : MethodName := ⟨RX28, "isBehind", "(LReflectMirror$Numbered;)Z"⟩
def dkwX28_isBehind_0 : List UInt8 := [42, 185, 0, 1, 1, 0, 43, 185, 0, 1, 1, 0, 164, 0, 7, 4, 167, 0, 4, 3, 172]
abbrev dktX28_isBehind_0 : List UInt8 := dkwX28_isBehind_0 ++ []
theorem dksX28_isBehind_0 : cX28_isBehind.data.toList.drop 0 = dktX28_isBehind_0 := by decide +kernel
theorem dX28_isBehind_0 : decode cX28_isBehind 0 = .ok (.aload_n 0, 1) := dk_42 (dk_at dksX28_isBehind_0 0 rfl rfl)
theorem dX28_isBehind_1 : decode cX28_isBehind 1 = .ok (.invokeinterface 1 1, 5) := by decide +kernel
theorem dX28_isBehind_6 : decode cX28_isBehind 6 = .ok (.aload_n 1, 1) := dk_43 (dk_at dksX28_isBehind_0 6 rfl rfl)
theorem dX28_isBehind_7 : decode cX28_isBehind 7 = .ok (.invokeinterface 1 1, 5) := by decide +kernel
theorem dX28_isBehind_12 : decode cX28_isBehind 12 = .ok (.if_icmp .le 7, 3) := dk_164 0 7 (dk_at dksX28_isBehind_0 12 rfl rfl)
theorem dX28_isBehind_15 : decode cX28_isBehind 15 = .ok (.iconst 1, 1) := dk_4 (dk_at dksX28_isBehind_0 15 rfl rfl)
theorem dX28_isBehind_16 : decode cX28_isBehind 16 = .ok (.goto 4, 3) := dk_167 0 4 (dk_at dksX28_isBehind_0 16 rfl rfl)
theorem dX28_isBehind_19 : decode cX28_isBehind 19 = .ok (.iconst 0, 1) := dk_3 (dk_at dksX28_isBehind_0 19 rfl rfl)
theorem dX28_isBehind_20 : decode cX28_isBehind 20 = .ok (.ireturn, 1) := dk_172 (dk_at dksX28_isBehind_0 20 rfl rfl)
theorem q475 : (Jvm.Cond.declares ({ cls := "ReflectMirror$Numbered", name := "isBehind", desc := "(LReflectMirror$Numbered;)Z" } : Jvm.MethodName)) ∈ lw_tbl := lw_at lw_m2 146 rfl
theorem q480 : (Jvm.Cond.instanceMethod ({ cls := "ReflectMirror$Numbered", name := "isBehind", desc := "(LReflectMirror$Numbered;)Z" } : Jvm.MethodName)) ∈ lw_all := lw_g (lw_at lw_m2 151 rfl) rfl
theorem q481 : (Jvm.Cond.publicMethod ({ cls := "ReflectMirror$Numbered", name := "isBehind", desc := "(LReflectMirror$Numbered;)Z" } : Jvm.MethodName)) ∈ lw_tbl := lw_at lw_m2 152 rfl
theorem q482 : (Jvm.Cond.code ({ cls := "ReflectMirror$Numbered", name := "isBehind", desc := "(LReflectMirror$Numbered;)Z" } : Jvm.MethodName) prog_15_method_2_code (2 : Nat) (Option.some Jvm.ClassFile.FieldType.boolean)) ∈ lw_all := lw_g (lw_at lw_m2 153 rfl) rfl
theorem q483 : (Jvm.Cond.interfaceEntry "ReflectMirror$Numbered" (1 : Nat)) ∈ lw_tbl := lw_at lw_m2 154 rfl
theorem q484 : (Jvm.Cond.methodLink "ReflectMirror$Numbered" (1 : Nat) ({ cls := "ReflectMirror$Numbered", name := "number", desc := "()I" } : Jvm.MethodName)) ∈ lw_all := lw_g (lw_at lw_m2 155 rfl) rfl
theorem q485 : (Jvm.Cond.interfaceMethod "ReflectMirror$Numbered" "ReflectMirror$Numbered" "number" "()I") ∈ lw_tbl := lw_at lw_m2 156 rfl
theorem q486 : (Jvm.Cond.declares ({ cls := "ReflectMirror$Numbered", name := "number", desc := "()I" } : Jvm.MethodName)) ∈ lw_tbl := lw_at lw_m2 157 rfl
theorem q2586 : (Jvm.Cond.initialized "ReflectMirror$Numbered") ∈ lw_all := lw_g (lw_at lw_m11 97 rfl) rfl

/-! java/lang/Boolean -/
set_option maxRecDepth 100000
def RJ19 : String := "java/lang/Boolean"
def TJ19 : u_T := fun k => match k with
  | _ => ("java/lang/Boolean", "value", "Z", true)
def tyJ19 : Nat → FieldType := fun k => match k with
  | _ => .boolean
abbrev wsJ190 : List Cond := u_ws RJ19 TJ19 1
theorem nmJ19 : ∀ a, a < 1 → ∀ b, b < 1 → a ≠ b → (TJ19 a).2.1 ≠ (TJ19 b).2.1 := by decide +kernel
theorem tyJ19_ok : ∀ k, k < 1 → parseFieldDescriptor (TJ19 k).2.2.1 = some (tyJ19 k) := by decide +kernel
theorem q1630 : (Jvm.Cond.initialized "java/lang/Boolean") ∈ lw_all := lw_g (lw_at lw_m7 101 rfl) rfl
theorem q1631 : (Jvm.Cond.instantiable "java/lang/Boolean" (1 : Nat)) ∈ lw_all := lw_g (lw_at lw_m7 102 rfl) rfl
theorem q1632 : (Jvm.Cond.laysFinal "java/lang/Boolean" "java/lang/Boolean" "value" "Z") ∈ lw_all := lw_g (lw_at lw_m7 103 rfl) rfl
theorem q1633 : (Jvm.Cond.soleField "java/lang/Boolean" "value") ∈ lw_all := lw_g (lw_at lw_m7 104 rfl) rfl
theorem q2622 : (Jvm.Cond.castable "java/lang/Boolean" "java/lang/Object") ∈ lw_tbl := lw_at lw_m11 133 rfl
theorem in_J19 : ∀ w ∈ wsJ190, w ∈ lw_all := lw_in wsJ190 [1632] (by decide +kernel) (by decide +kernel)

/-! java/lang/Byte -/
set_option maxRecDepth 100000
def RJ20 : String := "java/lang/Byte"
def TJ20 : u_T := fun k => match k with
  | _ => ("java/lang/Byte", "value", "B", true)
def tyJ20 : Nat → FieldType := fun k => match k with
  | _ => .byte
abbrev wsJ200 : List Cond := u_ws RJ20 TJ20 1
theorem nmJ20 : ∀ a, a < 1 → ∀ b, b < 1 → a ≠ b → (TJ20 a).2.1 ≠ (TJ20 b).2.1 := by decide +kernel
theorem tyJ20_ok : ∀ k, k < 1 → parseFieldDescriptor (TJ20 k).2.2.1 = some (tyJ20 k) := by decide +kernel
theorem q1634 : (Jvm.Cond.initialized "java/lang/Byte") ∈ lw_all := lw_g (lw_at lw_m7 105 rfl) rfl
theorem q1635 : (Jvm.Cond.instantiable "java/lang/Byte" (1 : Nat)) ∈ lw_all := lw_g (lw_at lw_m7 106 rfl) rfl
theorem q1636 : (Jvm.Cond.superclass "java/lang/Byte" "java/lang/Number") ∈ lw_all := lw_g (lw_at lw_m7 107 rfl) rfl
theorem q1638 : (Jvm.Cond.laysFinal "java/lang/Byte" "java/lang/Byte" "value" "B") ∈ lw_all := lw_g (lw_at lw_m7 109 rfl) rfl
theorem q1639 : (Jvm.Cond.soleField "java/lang/Byte" "value") ∈ lw_all := lw_g (lw_at lw_m7 110 rfl) rfl
theorem q2623 : (Jvm.Cond.castable "java/lang/Byte" "java/lang/Object") ∈ lw_tbl := lw_at lw_m11 134 rfl
theorem in_J20 : ∀ w ∈ wsJ200, w ∈ lw_all := lw_in wsJ200 [1638] (by decide +kernel) (by decide +kernel)

/-! java/lang/Character -/
set_option maxRecDepth 100000
def RJ21 : String := "java/lang/Character"
def TJ21 : u_T := fun k => match k with
  | _ => ("java/lang/Character", "value", "C", true)
def tyJ21 : Nat → FieldType := fun k => match k with
  | _ => .char
abbrev wsJ210 : List Cond := u_ws RJ21 TJ21 1
theorem nmJ21 : ∀ a, a < 1 → ∀ b, b < 1 → a ≠ b → (TJ21 a).2.1 ≠ (TJ21 b).2.1 := by decide +kernel
theorem tyJ21_ok : ∀ k, k < 1 → parseFieldDescriptor (TJ21 k).2.2.1 = some (tyJ21 k) := by decide +kernel
theorem q1640 : (Jvm.Cond.initialized "java/lang/Character") ∈ lw_all := lw_g (lw_at lw_m7 111 rfl) rfl
theorem q1641 : (Jvm.Cond.instantiable "java/lang/Character" (1 : Nat)) ∈ lw_all := lw_g (lw_at lw_m7 112 rfl) rfl
theorem q1642 : (Jvm.Cond.laysFinal "java/lang/Character" "java/lang/Character" "value" "C") ∈ lw_all := lw_g (lw_at lw_m7 113 rfl) rfl
theorem q1643 : (Jvm.Cond.soleField "java/lang/Character" "value") ∈ lw_all := lw_g (lw_at lw_m7 114 rfl) rfl
theorem q2624 : (Jvm.Cond.castable "java/lang/Character" "java/lang/Object") ∈ lw_tbl := lw_at lw_m11 135 rfl
theorem in_J21 : ∀ w ∈ wsJ210, w ∈ lw_all := lw_in wsJ210 [1642] (by decide +kernel) (by decide +kernel)

/-! java/lang/Short -/
set_option maxRecDepth 100000
def RJ22 : String := "java/lang/Short"
def TJ22 : u_T := fun k => match k with
  | _ => ("java/lang/Short", "value", "S", true)
def tyJ22 : Nat → FieldType := fun k => match k with
  | _ => .short
abbrev wsJ220 : List Cond := u_ws RJ22 TJ22 1
theorem nmJ22 : ∀ a, a < 1 → ∀ b, b < 1 → a ≠ b → (TJ22 a).2.1 ≠ (TJ22 b).2.1 := by decide +kernel
theorem tyJ22_ok : ∀ k, k < 1 → parseFieldDescriptor (TJ22 k).2.2.1 = some (tyJ22 k) := by decide +kernel
theorem q1644 : (Jvm.Cond.initialized "java/lang/Short") ∈ lw_all := lw_g (lw_at lw_m7 115 rfl) rfl
theorem q1645 : (Jvm.Cond.instantiable "java/lang/Short" (1 : Nat)) ∈ lw_all := lw_g (lw_at lw_m7 116 rfl) rfl
theorem q1646 : (Jvm.Cond.superclass "java/lang/Short" "java/lang/Number") ∈ lw_all := lw_g (lw_at lw_m7 117 rfl) rfl
theorem q1647 : (Jvm.Cond.laysFinal "java/lang/Short" "java/lang/Short" "value" "S") ∈ lw_all := lw_g (lw_at lw_m7 118 rfl) rfl
theorem q1648 : (Jvm.Cond.soleField "java/lang/Short" "value") ∈ lw_all := lw_g (lw_at lw_m7 119 rfl) rfl
theorem q2625 : (Jvm.Cond.castable "java/lang/Short" "java/lang/Object") ∈ lw_tbl := lw_at lw_m11 136 rfl
theorem in_J22 : ∀ w ∈ wsJ220, w ∈ lw_all := lw_in wsJ220 [1647] (by decide +kernel) (by decide +kernel)

/-! java/lang/Integer -/
set_option maxRecDepth 100000
def RJ23 : String := "java/lang/Integer"
def TJ23 : u_T := fun k => match k with
  | _ => ("java/lang/Integer", "value", "I", true)
def tyJ23 : Nat → FieldType := fun k => match k with
  | _ => .int
abbrev wsJ230 : List Cond := u_ws RJ23 TJ23 1
theorem nmJ23 : ∀ a, a < 1 → ∀ b, b < 1 → a ≠ b → (TJ23 a).2.1 ≠ (TJ23 b).2.1 := by decide +kernel
theorem tyJ23_ok : ∀ k, k < 1 → parseFieldDescriptor (TJ23 k).2.2.1 = some (tyJ23 k) := by decide +kernel
theorem q1649 : (Jvm.Cond.initialized "java/lang/Integer") ∈ lw_all := lw_g (lw_at lw_m7 120 rfl) rfl
theorem q1650 : (Jvm.Cond.instantiable "java/lang/Integer" (1 : Nat)) ∈ lw_all := lw_g (lw_at lw_m7 121 rfl) rfl
theorem q1651 : (Jvm.Cond.superclass "java/lang/Integer" "java/lang/Number") ∈ lw_all := lw_g (lw_at lw_m7 122 rfl) rfl
theorem q1652 : (Jvm.Cond.laysFinal "java/lang/Integer" "java/lang/Integer" "value" "I") ∈ lw_all := lw_g (lw_at lw_m7 123 rfl) rfl
theorem q1653 : (Jvm.Cond.soleField "java/lang/Integer" "value") ∈ lw_all := lw_g (lw_at lw_m7 124 rfl) rfl
theorem q2626 : (Jvm.Cond.castable "java/lang/Integer" "java/lang/Object") ∈ lw_tbl := lw_at lw_m11 137 rfl
theorem in_J23 : ∀ w ∈ wsJ230, w ∈ lw_all := lw_in wsJ230 [1652] (by decide +kernel) (by decide +kernel)

/-! java/lang/Long -/
set_option maxRecDepth 100000
def RJ24 : String := "java/lang/Long"
def TJ24 : u_T := fun k => match k with
  | _ => ("java/lang/Long", "value", "J", true)
def tyJ24 : Nat → FieldType := fun k => match k with
  | _ => .long
abbrev wsJ240 : List Cond := u_ws RJ24 TJ24 1
theorem nmJ24 : ∀ a, a < 1 → ∀ b, b < 1 → a ≠ b → (TJ24 a).2.1 ≠ (TJ24 b).2.1 := by decide +kernel
theorem tyJ24_ok : ∀ k, k < 1 → parseFieldDescriptor (TJ24 k).2.2.1 = some (tyJ24 k) := by decide +kernel
theorem q1654 : (Jvm.Cond.initialized "java/lang/Long") ∈ lw_all := lw_g (lw_at lw_m7 125 rfl) rfl
theorem q1655 : (Jvm.Cond.instantiable "java/lang/Long" (1 : Nat)) ∈ lw_all := lw_g (lw_at lw_m7 126 rfl) rfl
theorem q1656 : (Jvm.Cond.superclass "java/lang/Long" "java/lang/Number") ∈ lw_all := lw_g (lw_at lw_m7 127 rfl) rfl
theorem q1657 : (Jvm.Cond.laysFinal "java/lang/Long" "java/lang/Long" "value" "J") ∈ lw_all := lw_g (lw_at lw_m7 128 rfl) rfl
theorem q1658 : (Jvm.Cond.soleField "java/lang/Long" "value") ∈ lw_all := lw_g (lw_at lw_m7 129 rfl) rfl
theorem q2627 : (Jvm.Cond.castable "java/lang/Long" "java/lang/Object") ∈ lw_tbl := lw_at lw_m11 138 rfl
theorem in_J24 : ∀ w ∈ wsJ240, w ∈ lw_all := lw_in wsJ240 [1657] (by decide +kernel) (by decide +kernel)

theorem q148 : (Jvm.Cond.arrayOver (Jvm.ClassFile.FieldType.object "ReflectMirror$Type")) ∈ lw_tbl := lw_at lw_m1 59 rfl
set_option maxRecDepth 100000
theorem q150 : (Jvm.Cond.arrayOver (Jvm.ClassFile.FieldType.object "ReflectMirror$Member")) ∈ lw_tbl := lw_at lw_m1 61 rfl
theorem q152 : (Jvm.Cond.arrayOver (Jvm.ClassFile.FieldType.object "ReflectMirror$Thing")) ∈ lw_tbl := lw_at lw_m1 63 rfl
theorem q154 : (Jvm.Cond.arrayOver (Jvm.ClassFile.FieldType.object "ReflectMirror$Cell")) ∈ lw_tbl := lw_at lw_m1 65 rfl
theorem q216 : (Jvm.Cond.arrayClass Jvm.ClassFile.FieldType.boolean) ∈ lw_all := lw_g (lw_at lw_m1 127 rfl) rfl
theorem q636 : (Jvm.Cond.arrayClass Jvm.ClassFile.FieldType.byte) ∈ lw_all := lw_g (lw_at lw_m3 67 rfl) rfl
theorem q722 : (Jvm.Cond.arrayOver (Jvm.ClassFile.FieldType.object "ReflectMirror$One")) ∈ lw_tbl := lw_at lw_m3 153 rfl
theorem q735 : (Jvm.Cond.arrayOver (Jvm.ClassFile.FieldType.object "ReflectMirror$Many")) ∈ lw_tbl := lw_at lw_m3 166 rfl
theorem q739 : (Jvm.Cond.arrayClass Jvm.ClassFile.FieldType.char) ∈ lw_all := lw_g (lw_at lw_m3 170 rfl) rfl
theorem q740 : (Jvm.Cond.arrayClass Jvm.ClassFile.FieldType.short) ∈ lw_all := lw_g (lw_at lw_m3 171 rfl) rfl
theorem q741 : (Jvm.Cond.arrayClass Jvm.ClassFile.FieldType.int) ∈ lw_all := lw_g (lw_at lw_m3 172 rfl) rfl
theorem q742 : (Jvm.Cond.arrayClass Jvm.ClassFile.FieldType.long) ∈ lw_all := lw_g (lw_at lw_m3 173 rfl) rfl
theorem q743 : (Jvm.Cond.arrayClass Jvm.ClassFile.FieldType.float) ∈ lw_all := lw_g (lw_at lw_m3 174 rfl) rfl
theorem q744 : (Jvm.Cond.arrayClass Jvm.ClassFile.FieldType.double) ∈ lw_all := lw_g (lw_at lw_m3 175 rfl) rfl
theorem q1267 : (Jvm.Cond.arrayOver (Jvm.ClassFile.FieldType.object "java/lang/Object")) ∈ lw_tbl := lw_at lw_m5 218 rfl

theorem q89 : (Jvm.Cond.initialized "ReflectMirrorLaw") ∈ lw_all := lw_g (lw_at lw_m1 0 rfl) rfl
set_option maxRecDepth 100000
theorem q139 : (Jvm.Cond.classLink "ReflectMirrorLaw" (7 : Nat) "ReflectMirror") ∈ lw_all := lw_g (lw_at lw_m1 50 rfl) rfl
theorem q141 : (Jvm.Cond.methodLink "ReflectMirrorLaw" (9 : Nat) ({ cls := "ReflectMirror", name := "<init>", desc := "()V" } : Jvm.MethodName)) ∈ lw_all := lw_g (lw_at lw_m1 52 rfl) rfl
theorem q370 : (Jvm.Cond.methodLink "ReflectMirrorLaw" (13 : Nat) ({ cls := "ReflectMirror", name := "type", desc := "(IIZ)I" } : Jvm.MethodName)) ∈ lw_all := lw_g (lw_at lw_m2 41 rfl) rfl
theorem q404 : (Jvm.Cond.methodLink "ReflectMirrorLaw" (18 : Nat) ({ cls := "ReflectMirror", name := "face", desc := "(I)I" } : Jvm.MethodName)) ∈ lw_all := lw_g (lw_at lw_m2 75 rfl) rfl
theorem q419 : (Jvm.Cond.methodLink "ReflectMirrorLaw" (23 : Nat) ({ cls := "ReflectMirror", name := "rows", desc := "(I)I" } : Jvm.MethodName)) ∈ lw_all := lw_g (lw_at lw_m2 90 rfl) rfl
theorem q443 : (Jvm.Cond.methodLink "ReflectMirrorLaw" (27 : Nat) ({ cls := "ReflectMirror", name := "implement", desc := "(II)I" } : Jvm.MethodName)) ∈ lw_all := lw_g (lw_at lw_m2 114 rfl) rfl
theorem q515 : (Jvm.Cond.methodLink "ReflectMirrorLaw" (32 : Nat) ({ cls := "ReflectMirror", name := "about", desc := "(II)I" } : Jvm.MethodName)) ∈ lw_all := lw_g (lw_at lw_m2 186 rfl) rfl
theorem q579 : (Jvm.Cond.methodLink "ReflectMirrorLaw" (36 : Nat) ({ cls := "ReflectMirror", name := "ancestor", desc := "(II)I" } : Jvm.MethodName)) ∈ lw_all := lw_g (lw_at lw_m3 10 rfl) rfl
theorem q583 : (Jvm.Cond.methodLink "ReflectMirrorLaw" (40 : Nat) ({ cls := "ReflectMirror", name := "is", desc := "(II)I" } : Jvm.MethodName)) ∈ lw_all := lw_g (lw_at lw_m3 14 rfl) rfl
theorem q587 : (Jvm.Cond.methodLink "ReflectMirrorLaw" (44 : Nat) ({ cls := "ReflectMirror", name := "meet", desc := "(II)I" } : Jvm.MethodName)) ∈ lw_all := lw_g (lw_at lw_m3 18 rfl) rfl
theorem q591 : (Jvm.Cond.methodLink "ReflectMirrorLaw" (48 : Nat) ({ cls := "ReflectMirror", name := "letter", desc := "(II)I" } : Jvm.MethodName)) ∈ lw_all := lw_g (lw_at lw_m3 22 rfl) rfl
theorem q637 : (Jvm.Cond.methodLink "ReflectMirrorLaw" (52 : Nat) ({ cls := "ReflectMirror", name := "field", desc := "(IIII)I" } : Jvm.MethodName)) ∈ lw_all := lw_g (lw_at lw_m3 68 rfl) rfl
theorem q745 : (Jvm.Cond.methodLink "ReflectMirrorLaw" (57 : Nat) ({ cls := "ReflectMirror", name := "method", desc := "(IIIIIIII)I" } : Jvm.MethodName)) ∈ lw_all := lw_g (lw_at lw_m3 176 rfl) rfl
theorem q787 : (Jvm.Cond.methodLink "ReflectMirrorLaw" (62 : Nat) ({ cls := "ReflectMirror", name := "body", desc := "(IIII)I" } : Jvm.MethodName)) ∈ lw_all := lw_g (lw_at lw_m3 218 rfl) rfl
theorem q1139 : (Jvm.Cond.methodLink "ReflectMirrorLaw" (66 : Nat) ({ cls := "ReflectMirror", name := "member", desc := "(II)I" } : Jvm.MethodName)) ∈ lw_all := lw_g (lw_at lw_m5 90 rfl) rfl
theorem q1173 : (Jvm.Cond.methodLink "ReflectMirrorLaw" (70 : Nat) ({ cls := "ReflectMirror", name := "declared", desc := "(II)I" } : Jvm.MethodName)) ∈ lw_all := lw_g (lw_at lw_m5 124 rfl) rfl
theorem q1177 : (Jvm.Cond.methodLink "ReflectMirrorLaw" (74 : Nat) ({ cls := "ReflectMirror", name := "findField", desc := "(III)I" } : Jvm.MethodName)) ∈ lw_all := lw_g (lw_at lw_m5 128 rfl) rfl
theorem q1204 : (Jvm.Cond.methodLink "ReflectMirrorLaw" (79 : Nat) ({ cls := "ReflectMirror", name := "findMethod", desc := "(III)I" } : Jvm.MethodName)) ∈ lw_all := lw_g (lw_at lw_m5 155 rfl) rfl
theorem q1208 : (Jvm.Cond.methodLink "ReflectMirrorLaw" (83 : Nat) ({ cls := "ReflectMirror", name := "overrides", desc := "(II)I" } : Jvm.MethodName)) ∈ lw_all := lw_g (lw_at lw_m5 159 rfl) rfl
theorem q1219 : (Jvm.Cond.methodLink "ReflectMirrorLaw" (87 : Nat) ({ cls := "ReflectMirror", name := "inForce", desc := "(II)I" } : Jvm.MethodName)) ∈ lw_all := lw_g (lw_at lw_m5 170 rfl) rfl
theorem q1229 : (Jvm.Cond.methodLink "ReflectMirrorLaw" (91 : Nat) ({ cls := "ReflectMirror", name := "open", desc := "(IZ)I" } : Jvm.MethodName)) ∈ lw_all := lw_g (lw_at lw_m5 180 rfl) rfl
theorem q1233 : (Jvm.Cond.methodLink "ReflectMirrorLaw" (96 : Nat) ({ cls := "ReflectMirror", name := "caller", desc := "(I)I" } : Jvm.MethodName)) ∈ lw_all := lw_g (lw_at lw_m5 184 rfl) rfl
theorem q1237 : (Jvm.Cond.methodLink "ReflectMirrorLaw" (100 : Nat) ({ cls := "ReflectMirror", name := "may", desc := "(II)I" } : Jvm.MethodName)) ∈ lw_all := lw_g (lw_at lw_m5 188 rfl) rfl
theorem q1254 : (Jvm.Cond.methodLink "ReflectMirrorLaw" (104 : Nat) ({ cls := "ReflectMirror", name := "object", desc := "(I)I" } : Jvm.MethodName)) ∈ lw_all := lw_g (lw_at lw_m5 205 rfl) rfl
theorem q1292 : (Jvm.Cond.methodLink "ReflectMirrorLaw" (108 : Nat) ({ cls := "ReflectMirror", name := "row", desc := "(II)I" } : Jvm.MethodName)) ∈ lw_all := lw_g (lw_at lw_m6 3 rfl) rfl
theorem q1893 : (Jvm.Cond.methodLink "ReflectMirrorLaw" (112 : Nat) ({ cls := "ReflectMirror", name := "thing", desc := "(II)I" } : Jvm.MethodName)) ∈ lw_all := lw_g (lw_at lw_m8 124 rfl) rfl
theorem q1902 : (Jvm.Cond.methodLink "ReflectMirrorLaw" (118 : Nat) ({ cls := "ReflectMirror", name := "slot", desc := "(IIJ)I" } : Jvm.MethodName)) ∈ lw_all := lw_g (lw_at lw_m8 133 rfl) rfl
theorem q1919 : (Jvm.Cond.methodLink "ReflectMirrorLaw" (123 : Nat) ({ cls := "ReflectMirror", name := "kind", desc := "(I)I" } : Jvm.MethodName)) ∈ lw_all := lw_g (lw_at lw_m8 150 rfl) rfl
theorem q1923 : (Jvm.Cond.methodLink "ReflectMirrorLaw" (127 : Nat) ({ cls := "ReflectMirror", name := "bits", desc := "(I)J" } : Jvm.MethodName)) ∈ lw_all := lw_g (lw_at lw_m8 154 rfl) rfl
theorem q1928 : (Jvm.Cond.methodLink "ReflectMirrorLaw" (132 : Nat) ({ cls := "ReflectMirror", name := "get", desc := "(IIII)I" } : Jvm.MethodName)) ∈ lw_all := lw_g (lw_at lw_m8 159 rfl) rfl
theorem q1936 : (Jvm.Cond.methodLink "ReflectMirrorLaw" (136 : Nat) ({ cls := "ReflectMirror", name := "set", desc := "(III)I" } : Jvm.MethodName)) ∈ lw_all := lw_g (lw_at lw_m8 167 rfl) rfl
theorem q1940 : (Jvm.Cond.methodLink "ReflectMirrorLaw" (140 : Nat) ({ cls := "ReflectMirror", name := "item", desc := "(IIII)I" } : Jvm.MethodName)) ∈ lw_all := lw_g (lw_at lw_m8 171 rfl) rfl
theorem q1944 : (Jvm.Cond.methodLink "ReflectMirrorLaw" (144 : Nat) ({ cls := "ReflectMirror", name := "put", desc := "(III)I" } : Jvm.MethodName)) ∈ lw_all := lw_g (lw_at lw_m8 175 rfl) rfl
theorem q1948 : (Jvm.Cond.methodLink "ReflectMirrorLaw" (148 : Nat) ({ cls := "ReflectMirror", name := "store", desc := "(III)I" } : Jvm.MethodName)) ∈ lw_all := lw_g (lw_at lw_m8 179 rfl) rfl
theorem q1952 : (Jvm.Cond.methodLink "ReflectMirrorLaw" (152 : Nat) ({ cls := "ReflectMirror", name := "copy", desc := "(IIIII)I" } : Jvm.MethodName)) ∈ lw_all := lw_g (lw_at lw_m8 183 rfl) rfl
theorem q1956 : (Jvm.Cond.methodLink "ReflectMirrorLaw" (157 : Nat) ({ cls := "ReflectMirror", name := "call", desc := "(IIII)I" } : Jvm.MethodName)) ∈ lw_all := lw_g (lw_at lw_m8 187 rfl) rfl
theorem q1960 : (Jvm.Cond.methodLink "ReflectMirrorLaw" (161 : Nat) ({ cls := "ReflectMirror", name := "cause", desc := "(I)I" } : Jvm.MethodName)) ∈ lw_all := lw_g (lw_at lw_m8 191 rfl) rfl
theorem q1964 : (Jvm.Cond.methodLink "ReflectMirrorLaw" (165 : Nat) ({ cls := "ReflectMirror", name := "count", desc := "(I)I" } : Jvm.MethodName)) ∈ lw_all := lw_g (lw_at lw_m8 195 rfl) rfl
theorem q1969 : (Jvm.Cond.classLink "ReflectMirrorLaw" (10 : Nat) "ReflectMirrorModel") ∈ lw_all := lw_g (lw_at lw_m8 200 rfl) rfl
theorem q1971 : (Jvm.Cond.methodLink "ReflectMirrorLaw" (12 : Nat) ({ cls := "ReflectMirrorModel", name := "<init>", desc := "()V" } : Jvm.MethodName)) ∈ lw_all := lw_g (lw_at lw_m8 202 rfl) rfl
theorem q2152 : (Jvm.Cond.methodLink "ReflectMirrorLaw" (17 : Nat) ({ cls := "ReflectMirrorModel", name := "type", desc := "(IIZ)I" } : Jvm.MethodName)) ∈ lw_all := lw_g (lw_at lw_m9 143 rfl) rfl
theorem q2172 : (Jvm.Cond.methodLink "ReflectMirrorLaw" (22 : Nat) ({ cls := "ReflectMirrorModel", name := "face", desc := "(I)I" } : Jvm.MethodName)) ∈ lw_all := lw_g (lw_at lw_m9 163 rfl) rfl
theorem q2176 : (Jvm.Cond.methodLink "ReflectMirrorLaw" (26 : Nat) ({ cls := "ReflectMirrorModel", name := "rows", desc := "(I)I" } : Jvm.MethodName)) ∈ lw_all := lw_g (lw_at lw_m9 167 rfl) rfl
theorem q2180 : (Jvm.Cond.methodLink "ReflectMirrorLaw" (31 : Nat) ({ cls := "ReflectMirrorModel", name := "implement", desc := "(II)I" } : Jvm.MethodName)) ∈ lw_all := lw_g (lw_at lw_m9 171 rfl) rfl
theorem q2188 : (Jvm.Cond.methodLink "ReflectMirrorLaw" (35 : Nat) ({ cls := "ReflectMirrorModel", name := "about", desc := "(II)I" } : Jvm.MethodName)) ∈ lw_all := lw_g (lw_at lw_m9 179 rfl) rfl
theorem q2201 : (Jvm.Cond.methodLink "ReflectMirrorLaw" (39 : Nat) ({ cls := "ReflectMirrorModel", name := "ancestor", desc := "(II)I" } : Jvm.MethodName)) ∈ lw_all := lw_g (lw_at lw_m9 192 rfl) rfl
theorem q2205 : (Jvm.Cond.methodLink "ReflectMirrorLaw" (43 : Nat) ({ cls := "ReflectMirrorModel", name := "is", desc := "(II)I" } : Jvm.MethodName)) ∈ lw_all := lw_g (lw_at lw_m9 196 rfl) rfl
theorem q2216 : (Jvm.Cond.methodLink "ReflectMirrorLaw" (47 : Nat) ({ cls := "ReflectMirrorModel", name := "meet", desc := "(II)I" } : Jvm.MethodName)) ∈ lw_all := lw_g (lw_at lw_m9 207 rfl) rfl
theorem q2224 : (Jvm.Cond.methodLink "ReflectMirrorLaw" (51 : Nat) ({ cls := "ReflectMirrorModel", name := "letter", desc := "(II)I" } : Jvm.MethodName)) ∈ lw_all := lw_g (lw_at lw_m9 215 rfl) rfl
theorem q2228 : (Jvm.Cond.methodLink "ReflectMirrorLaw" (56 : Nat) ({ cls := "ReflectMirrorModel", name := "field", desc := "(IIII)I" } : Jvm.MethodName)) ∈ lw_all := lw_g (lw_at lw_m9 219 rfl) rfl
theorem q2246 : (Jvm.Cond.methodLink "ReflectMirrorLaw" (61 : Nat) ({ cls := "ReflectMirrorModel", name := "method", desc := "(IIIIIIII)I" } : Jvm.MethodName)) ∈ lw_all := lw_g (lw_at lw_m9 237 rfl) rfl
theorem q2255 : (Jvm.Cond.methodLink "ReflectMirrorLaw" (86 : Nat) ({ cls := "ReflectMirrorModel", name := "overrides", desc := "(II)I" } : Jvm.MethodName)) ∈ lw_all := lw_g (lw_at lw_m10 6 rfl) rfl
theorem q2283 : (Jvm.Cond.methodLink "ReflectMirrorLaw" (78 : Nat) ({ cls := "ReflectMirrorModel", name := "findField", desc := "(III)I" } : Jvm.MethodName)) ∈ lw_all := lw_g (lw_at lw_m10 34 rfl) rfl
theorem q2300 : (Jvm.Cond.methodLink "ReflectMirrorLaw" (82 : Nat) ({ cls := "ReflectMirrorModel", name := "findMethod", desc := "(III)I" } : Jvm.MethodName)) ∈ lw_all := lw_g (lw_at lw_m10 51 rfl) rfl
theorem q2316 : (Jvm.Cond.methodLink "ReflectMirrorLaw" (90 : Nat) ({ cls := "ReflectMirrorModel", name := "inForce", desc := "(II)I" } : Jvm.MethodName)) ∈ lw_all := lw_g (lw_at lw_m10 67 rfl) rfl
theorem q2324 : (Jvm.Cond.methodLink "ReflectMirrorLaw" (69 : Nat) ({ cls := "ReflectMirrorModel", name := "member", desc := "(II)I" } : Jvm.MethodName)) ∈ lw_all := lw_g (lw_at lw_m10 75 rfl) rfl
theorem q2329 : (Jvm.Cond.methodLink "ReflectMirrorLaw" (73 : Nat) ({ cls := "ReflectMirrorModel", name := "declared", desc := "(II)I" } : Jvm.MethodName)) ∈ lw_all := lw_g (lw_at lw_m10 80 rfl) rfl
theorem q2333 : (Jvm.Cond.methodLink "ReflectMirrorLaw" (95 : Nat) ({ cls := "ReflectMirrorModel", name := "open", desc := "(IZ)I" } : Jvm.MethodName)) ∈ lw_all := lw_g (lw_at lw_m10 84 rfl) rfl
theorem q2337 : (Jvm.Cond.methodLink "ReflectMirrorLaw" (99 : Nat) ({ cls := "ReflectMirrorModel", name := "caller", desc := "(I)I" } : Jvm.MethodName)) ∈ lw_all := lw_g (lw_at lw_m10 88 rfl) rfl
theorem q2341 : (Jvm.Cond.methodLink "ReflectMirrorLaw" (103 : Nat) ({ cls := "ReflectMirrorModel", name := "may", desc := "(II)I" } : Jvm.MethodName)) ∈ lw_all := lw_g (lw_at lw_m10 92 rfl) rfl
theorem q2357 : (Jvm.Cond.methodLink "ReflectMirrorLaw" (107 : Nat) ({ cls := "ReflectMirrorModel", name := "object", desc := "(I)I" } : Jvm.MethodName)) ∈ lw_all := lw_g (lw_at lw_m10 108 rfl) rfl
theorem q2365 : (Jvm.Cond.methodLink "ReflectMirrorLaw" (111 : Nat) ({ cls := "ReflectMirrorModel", name := "row", desc := "(II)I" } : Jvm.MethodName)) ∈ lw_all := lw_g (lw_at lw_m10 116 rfl) rfl
theorem q2369 : (Jvm.Cond.methodLink "ReflectMirrorLaw" (115 : Nat) ({ cls := "ReflectMirrorModel", name := "thing", desc := "(II)I" } : Jvm.MethodName)) ∈ lw_all := lw_g (lw_at lw_m10 120 rfl) rfl
theorem q2373 : (Jvm.Cond.methodLink "ReflectMirrorLaw" (122 : Nat) ({ cls := "ReflectMirrorModel", name := "slot", desc := "(IIJ)I" } : Jvm.MethodName)) ∈ lw_all := lw_g (lw_at lw_m10 124 rfl) rfl
theorem q2400 : (Jvm.Cond.methodLink "ReflectMirrorLaw" (126 : Nat) ({ cls := "ReflectMirrorModel", name := "kind", desc := "(I)I" } : Jvm.MethodName)) ∈ lw_all := lw_g (lw_at lw_m10 151 rfl) rfl
theorem q2404 : (Jvm.Cond.methodLink "ReflectMirrorLaw" (131 : Nat) ({ cls := "ReflectMirrorModel", name := "bits", desc := "(I)J" } : Jvm.MethodName)) ∈ lw_all := lw_g (lw_at lw_m10 155 rfl) rfl
theorem q2409 : (Jvm.Cond.methodLink "ReflectMirrorLaw" (135 : Nat) ({ cls := "ReflectMirrorModel", name := "get", desc := "(IIII)I" } : Jvm.MethodName)) ∈ lw_all := lw_g (lw_at lw_m10 160 rfl) rfl
theorem q2457 : (Jvm.Cond.methodLink "ReflectMirrorLaw" (139 : Nat) ({ cls := "ReflectMirrorModel", name := "set", desc := "(III)I" } : Jvm.MethodName)) ∈ lw_all := lw_g (lw_at lw_m10 208 rfl) rfl
theorem q2469 : (Jvm.Cond.methodLink "ReflectMirrorLaw" (143 : Nat) ({ cls := "ReflectMirrorModel", name := "item", desc := "(IIII)I" } : Jvm.MethodName)) ∈ lw_all := lw_g (lw_at lw_m10 220 rfl) rfl
theorem q2477 : (Jvm.Cond.methodLink "ReflectMirrorLaw" (147 : Nat) ({ cls := "ReflectMirrorModel", name := "put", desc := "(III)I" } : Jvm.MethodName)) ∈ lw_all := lw_g (lw_at lw_m10 228 rfl) rfl
theorem q2481 : (Jvm.Cond.methodLink "ReflectMirrorLaw" (151 : Nat) ({ cls := "ReflectMirrorModel", name := "store", desc := "(III)I" } : Jvm.MethodName)) ∈ lw_all := lw_g (lw_at lw_m10 232 rfl) rfl
theorem q2485 : (Jvm.Cond.methodLink "ReflectMirrorLaw" (156 : Nat) ({ cls := "ReflectMirrorModel", name := "copy", desc := "(IIIII)I" } : Jvm.MethodName)) ∈ lw_all := lw_g (lw_at lw_m10 236 rfl) rfl
theorem q2489 : (Jvm.Cond.methodLink "ReflectMirrorLaw" (65 : Nat) ({ cls := "ReflectMirrorModel", name := "body", desc := "(IIII)I" } : Jvm.MethodName)) ∈ lw_all := lw_g (lw_at lw_m11 0 rfl) rfl
theorem q2520 : (Jvm.Cond.methodLink "ReflectMirrorLaw" (160 : Nat) ({ cls := "ReflectMirrorModel", name := "call", desc := "(IIII)I" } : Jvm.MethodName)) ∈ lw_all := lw_g (lw_at lw_m11 31 rfl) rfl
theorem q2562 : (Jvm.Cond.methodLink "ReflectMirrorLaw" (164 : Nat) ({ cls := "ReflectMirrorModel", name := "cause", desc := "(I)I" } : Jvm.MethodName)) ∈ lw_all := lw_g (lw_at lw_m11 73 rfl) rfl
theorem q2566 : (Jvm.Cond.methodLink "ReflectMirrorLaw" (168 : Nat) ({ cls := "ReflectMirrorModel", name := "count", desc := "(I)I" } : Jvm.MethodName)) ∈ lw_all := lw_g (lw_at lw_m11 77 rfl) rfl
theorem q2570 : (Jvm.Cond.constantLong "ReflectMirrorLaw" (116 : Nat) (4294967295 : Int64)) ∈ lw_all := lw_g (lw_at lw_m11 81 rfl) rfl

theorem q131 : (Jvm.Cond.initialized "java/lang/reflect/Array") ∈ lw_all := lw_g (lw_at lw_m1 42 rfl) rfl
set_option maxRecDepth 100000
theorem q1527 : (Jvm.Cond.static ({ cls := "java/lang/reflect/Array", name := "getBoolean", desc := "(Ljava/lang/Object;I)Z" } : Jvm.MethodName)) ∈ lw_all := lw_g (lw_at lw_m6 238 rfl) rfl
theorem q1528 : (Jvm.Cond.native ({ cls := "java/lang/reflect/Array", name := "getBoolean", desc := "(Ljava/lang/Object;I)Z" } : Jvm.MethodName)) ∈ lw_all := lw_g (lw_at lw_m6 239 rfl) rfl
theorem q1530 : (Jvm.Cond.static ({ cls := "java/lang/reflect/Array", name := "getChar", desc := "(Ljava/lang/Object;I)C" } : Jvm.MethodName)) ∈ lw_all := lw_g (lw_at lw_m7 1 rfl) rfl
theorem q1531 : (Jvm.Cond.native ({ cls := "java/lang/reflect/Array", name := "getChar", desc := "(Ljava/lang/Object;I)C" } : Jvm.MethodName)) ∈ lw_all := lw_g (lw_at lw_m7 2 rfl) rfl
theorem q1533 : (Jvm.Cond.static ({ cls := "java/lang/reflect/Array", name := "getByte", desc := "(Ljava/lang/Object;I)B" } : Jvm.MethodName)) ∈ lw_all := lw_g (lw_at lw_m7 4 rfl) rfl
theorem q1534 : (Jvm.Cond.native ({ cls := "java/lang/reflect/Array", name := "getByte", desc := "(Ljava/lang/Object;I)B" } : Jvm.MethodName)) ∈ lw_all := lw_g (lw_at lw_m7 5 rfl) rfl
theorem q1536 : (Jvm.Cond.static ({ cls := "java/lang/reflect/Array", name := "getShort", desc := "(Ljava/lang/Object;I)S" } : Jvm.MethodName)) ∈ lw_all := lw_g (lw_at lw_m7 7 rfl) rfl
theorem q1537 : (Jvm.Cond.native ({ cls := "java/lang/reflect/Array", name := "getShort", desc := "(Ljava/lang/Object;I)S" } : Jvm.MethodName)) ∈ lw_all := lw_g (lw_at lw_m7 8 rfl) rfl
theorem q1539 : (Jvm.Cond.static ({ cls := "java/lang/reflect/Array", name := "getInt", desc := "(Ljava/lang/Object;I)I" } : Jvm.MethodName)) ∈ lw_all := lw_g (lw_at lw_m7 10 rfl) rfl
theorem q1540 : (Jvm.Cond.native ({ cls := "java/lang/reflect/Array", name := "getInt", desc := "(Ljava/lang/Object;I)I" } : Jvm.MethodName)) ∈ lw_all := lw_g (lw_at lw_m7 11 rfl) rfl
theorem q1542 : (Jvm.Cond.static ({ cls := "java/lang/reflect/Array", name := "getLong", desc := "(Ljava/lang/Object;I)J" } : Jvm.MethodName)) ∈ lw_all := lw_g (lw_at lw_m7 13 rfl) rfl
theorem q1543 : (Jvm.Cond.native ({ cls := "java/lang/reflect/Array", name := "getLong", desc := "(Ljava/lang/Object;I)J" } : Jvm.MethodName)) ∈ lw_all := lw_g (lw_at lw_m7 14 rfl) rfl
theorem q1545 : (Jvm.Cond.static ({ cls := "java/lang/reflect/Array", name := "getFloat", desc := "(Ljava/lang/Object;I)F" } : Jvm.MethodName)) ∈ lw_all := lw_g (lw_at lw_m7 16 rfl) rfl
theorem q1546 : (Jvm.Cond.native ({ cls := "java/lang/reflect/Array", name := "getFloat", desc := "(Ljava/lang/Object;I)F" } : Jvm.MethodName)) ∈ lw_all := lw_g (lw_at lw_m7 17 rfl) rfl
theorem q1558 : (Jvm.Cond.static ({ cls := "java/lang/reflect/Array", name := "getDouble", desc := "(Ljava/lang/Object;I)D" } : Jvm.MethodName)) ∈ lw_all := lw_g (lw_at lw_m7 29 rfl) rfl
theorem q1559 : (Jvm.Cond.native ({ cls := "java/lang/reflect/Array", name := "getDouble", desc := "(Ljava/lang/Object;I)D" } : Jvm.MethodName)) ∈ lw_all := lw_g (lw_at lw_m7 30 rfl) rfl
theorem q1590 : (Jvm.Cond.static ({ cls := "java/lang/reflect/Array", name := "setBoolean", desc := "(Ljava/lang/Object;IZ)V" } : Jvm.MethodName)) ∈ lw_all := lw_g (lw_at lw_m7 61 rfl) rfl
theorem q1591 : (Jvm.Cond.native ({ cls := "java/lang/reflect/Array", name := "setBoolean", desc := "(Ljava/lang/Object;IZ)V" } : Jvm.MethodName)) ∈ lw_all := lw_g (lw_at lw_m7 62 rfl) rfl
theorem q1593 : (Jvm.Cond.static ({ cls := "java/lang/reflect/Array", name := "setChar", desc := "(Ljava/lang/Object;IC)V" } : Jvm.MethodName)) ∈ lw_all := lw_g (lw_at lw_m7 64 rfl) rfl
theorem q1594 : (Jvm.Cond.native ({ cls := "java/lang/reflect/Array", name := "setChar", desc := "(Ljava/lang/Object;IC)V" } : Jvm.MethodName)) ∈ lw_all := lw_g (lw_at lw_m7 65 rfl) rfl
theorem q1596 : (Jvm.Cond.static ({ cls := "java/lang/reflect/Array", name := "setByte", desc := "(Ljava/lang/Object;IB)V" } : Jvm.MethodName)) ∈ lw_all := lw_g (lw_at lw_m7 67 rfl) rfl
theorem q1597 : (Jvm.Cond.native ({ cls := "java/lang/reflect/Array", name := "setByte", desc := "(Ljava/lang/Object;IB)V" } : Jvm.MethodName)) ∈ lw_all := lw_g (lw_at lw_m7 68 rfl) rfl
theorem q1599 : (Jvm.Cond.static ({ cls := "java/lang/reflect/Array", name := "setShort", desc := "(Ljava/lang/Object;IS)V" } : Jvm.MethodName)) ∈ lw_all := lw_g (lw_at lw_m7 70 rfl) rfl
theorem q1600 : (Jvm.Cond.native ({ cls := "java/lang/reflect/Array", name := "setShort", desc := "(Ljava/lang/Object;IS)V" } : Jvm.MethodName)) ∈ lw_all := lw_g (lw_at lw_m7 71 rfl) rfl
theorem q1602 : (Jvm.Cond.static ({ cls := "java/lang/reflect/Array", name := "setInt", desc := "(Ljava/lang/Object;II)V" } : Jvm.MethodName)) ∈ lw_all := lw_g (lw_at lw_m7 73 rfl) rfl
theorem q1603 : (Jvm.Cond.native ({ cls := "java/lang/reflect/Array", name := "setInt", desc := "(Ljava/lang/Object;II)V" } : Jvm.MethodName)) ∈ lw_all := lw_g (lw_at lw_m7 74 rfl) rfl
theorem q1605 : (Jvm.Cond.static ({ cls := "java/lang/reflect/Array", name := "setLong", desc := "(Ljava/lang/Object;IJ)V" } : Jvm.MethodName)) ∈ lw_all := lw_g (lw_at lw_m7 76 rfl) rfl
theorem q1606 : (Jvm.Cond.native ({ cls := "java/lang/reflect/Array", name := "setLong", desc := "(Ljava/lang/Object;IJ)V" } : Jvm.MethodName)) ∈ lw_all := lw_g (lw_at lw_m7 77 rfl) rfl
theorem q1615 : (Jvm.Cond.static ({ cls := "java/lang/reflect/Array", name := "setFloat", desc := "(Ljava/lang/Object;IF)V" } : Jvm.MethodName)) ∈ lw_all := lw_g (lw_at lw_m7 86 rfl) rfl
theorem q1616 : (Jvm.Cond.native ({ cls := "java/lang/reflect/Array", name := "setFloat", desc := "(Ljava/lang/Object;IF)V" } : Jvm.MethodName)) ∈ lw_all := lw_g (lw_at lw_m7 87 rfl) rfl
theorem q1625 : (Jvm.Cond.static ({ cls := "java/lang/reflect/Array", name := "setDouble", desc := "(Ljava/lang/Object;ID)V" } : Jvm.MethodName)) ∈ lw_all := lw_g (lw_at lw_m7 96 rfl) rfl
theorem q1626 : (Jvm.Cond.native ({ cls := "java/lang/reflect/Array", name := "setDouble", desc := "(Ljava/lang/Object;ID)V" } : Jvm.MethodName)) ∈ lw_all := lw_g (lw_at lw_m7 97 rfl) rfl
theorem q1628 : (Jvm.Cond.static ({ cls := "java/lang/reflect/Array", name := "set", desc := "(Ljava/lang/Object;ILjava/lang/Object;)V" } : Jvm.MethodName)) ∈ lw_all := lw_g (lw_at lw_m7 99 rfl) rfl
theorem q1629 : (Jvm.Cond.native ({ cls := "java/lang/reflect/Array", name := "set", desc := "(Ljava/lang/Object;ILjava/lang/Object;)V" } : Jvm.MethodName)) ∈ lw_all := lw_g (lw_at lw_m7 100 rfl) rfl
theorem q1878 : (Jvm.Cond.static ({ cls := "java/lang/reflect/Array", name := "getLength", desc := "(Ljava/lang/Object;)I" } : Jvm.MethodName)) ∈ lw_all := lw_g (lw_at lw_m8 109 rfl) rfl
theorem q1879 : (Jvm.Cond.native ({ cls := "java/lang/reflect/Array", name := "getLength", desc := "(Ljava/lang/Object;)I" } : Jvm.MethodName)) ∈ lw_all := lw_g (lw_at lw_m8 110 rfl) rfl

theorem q132 : (Jvm.Cond.initialized "java/lang/Number") ∈ lw_all := lw_g (lw_at lw_m1 43 rfl) rfl
set_option maxRecDepth 100000
theorem q1637 : (Jvm.Cond.superclass "java/lang/Number" "java/lang/Object") ∈ lw_all := lw_g (lw_at lw_m7 108 rfl) rfl

theorem q135 : (Jvm.Cond.initialized "java/lang/System") ∈ lw_all := lw_g (lw_at lw_m1 46 rfl) rfl
set_option maxRecDepth 100000
theorem q1692 : (Jvm.Cond.static ({ cls := "java/lang/System", name := "arraycopy", desc := "(Ljava/lang/Object;ILjava/lang/Object;II)V" } : Jvm.MethodName)) ∈ lw_all := lw_g (lw_at lw_m7 163 rfl) rfl
theorem q1693 : (Jvm.Cond.native ({ cls := "java/lang/System", name := "arraycopy", desc := "(Ljava/lang/Object;ILjava/lang/Object;II)V" } : Jvm.MethodName)) ∈ lw_all := lw_g (lw_at lw_m7 164 rfl) rfl

theorem q2634 : (Jvm.Cond.castable "[LReflectMirror$Type;" "java/lang/Object") ∈ lw_tbl := lw_at lw_m11 145 rfl
set_option maxRecDepth 100000

theorem q2635 : (Jvm.Cond.castable "[LReflectMirror$Member;" "java/lang/Object") ∈ lw_tbl := lw_at lw_m11 146 rfl
set_option maxRecDepth 100000

theorem q2636 : (Jvm.Cond.castable "[LReflectMirror$Thing;" "java/lang/Object") ∈ lw_tbl := lw_at lw_m11 147 rfl
set_option maxRecDepth 100000

theorem q2637 : (Jvm.Cond.castable "[LReflectMirror$Cell;" "java/lang/Object") ∈ lw_tbl := lw_at lw_m11 148 rfl
set_option maxRecDepth 100000

theorem q2638 : (Jvm.Cond.castable "[Z" "java/lang/Object") ∈ lw_tbl := lw_at lw_m11 149 rfl
set_option maxRecDepth 100000

theorem q2639 : (Jvm.Cond.castable "[B" "java/lang/Object") ∈ lw_tbl := lw_at lw_m11 150 rfl
set_option maxRecDepth 100000

theorem q2640 : (Jvm.Cond.castable "[LReflectMirror$One;" "java/lang/Object") ∈ lw_tbl := lw_at lw_m11 151 rfl
set_option maxRecDepth 100000

theorem q2641 : (Jvm.Cond.castable "[LReflectMirror$Many;" "java/lang/Object") ∈ lw_tbl := lw_at lw_m11 152 rfl
set_option maxRecDepth 100000

theorem q2642 : (Jvm.Cond.castable "[C" "java/lang/Object") ∈ lw_tbl := lw_at lw_m11 153 rfl
set_option maxRecDepth 100000

theorem q2643 : (Jvm.Cond.castable "[S" "java/lang/Object") ∈ lw_tbl := lw_at lw_m11 154 rfl
set_option maxRecDepth 100000

theorem q2644 : (Jvm.Cond.castable "[I" "java/lang/Object") ∈ lw_tbl := lw_at lw_m11 155 rfl
set_option maxRecDepth 100000

theorem q2645 : (Jvm.Cond.castable "[J" "java/lang/Object") ∈ lw_tbl := lw_at lw_m11 156 rfl
set_option maxRecDepth 100000

theorem q2646 : (Jvm.Cond.castable "[F" "java/lang/Object") ∈ lw_tbl := lw_at lw_m11 157 rfl
set_option maxRecDepth 100000

theorem q2647 : (Jvm.Cond.castable "[D" "java/lang/Object") ∈ lw_tbl := lw_at lw_m11 158 rfl
set_option maxRecDepth 100000

theorem q2648 : (Jvm.Cond.castable "[Ljava/lang/Object;" "java/lang/Object") ∈ lw_tbl := lw_at lw_m11 159 rfl
set_option maxRecDepth 100000
