/-! DECODE ROWS BY BYTES: one lemma an opcode; a method's code is cut into short pieces once, and a row reads its own piece alone. -/
set_option maxRecDepth 100000
/-- the code has just these bytes from pc on -/
def DkAt (code : ByteArray) (pc : Nat) (bs : List UInt8) : Prop := ∀ (j : Nat) (b : UInt8), bs[j]? = some b → code.data.toList[pc + j]? = some b
/-- the piece W has the bytes bs from its place j on -/
def dkIn (W : List UInt8) (j : Nat) (bs : List UInt8) : Bool := decide ((W.drop j).take bs.length = bs)
theorem dk_seg {l W T : List UInt8} {o o2 : Nat} (h : l.drop o = W ++ T) (n : Nat) (hn : W.length = n) (ho : o + n = o2) : l.drop o2 = T := by
  subst ho
  rw [← List.drop_drop, h, List.drop_left' hn]
theorem dk_at {code : ByteArray} {W T bs : List UInt8} {o pc : Nat} (h : code.data.toList.drop o = W ++ T) (j : Nat) (hp : o + j = pc) (hw : dkIn W j bs = true) : DkAt code pc bs := by
  subst hp
  intro i b e
  have h1 := of_decide_eq_true hw
  have h2 : i < bs.length := (List.getElem?_eq_some_iff.mp e).1
  have h3 : W[j + i]? = some b := by
    rw [← h1, List.getElem?_take, if_pos h2, List.getElem?_drop] at e
    exact e
  have h4 : j + i < W.length := (List.getElem?_eq_some_iff.mp h3).1
  have h5 : (code.data.toList.drop o)[j + i]? = some b := by
    rw [h, List.getElem?_append_left h4]
    exact h3
  rw [List.getElem?_drop, ← Nat.add_assoc] at h5
  exact h5
theorem dk_u1 {A : ByteArray} {p : Nat} {b : UInt8} (h : A.data.toList[p]? = some b) : (Reader.u1 : Reader DecodeError Nat) A p = .ok (b.toNat, p + 1) := by
  obtain ⟨h1, h2⟩ := List.getElem?_eq_some_iff.mp h
  have h3 : p < A.size := by simpa using h1
  have h4 : A[p]'h3 = b := h2
  have e : (Reader.u1 : Reader DecodeError Nat) A p = (if h : p < A.size then .ok (A[p].toNat, p + 1) else .error (HasTruncated.truncated p)) := by
    show (do if h : p < A.size then do set (p + 1); Pure.pure A[p].toNat else MonadExcept.throw (HasTruncated.truncated p) : Reader DecodeError Nat) A p = _
    by_cases hi : p < A.size
    · rw [dif_pos hi, dif_pos hi]; rfl
    · rw [dif_neg hi, dif_neg hi]; rfl
  rw [e, dif_pos h3, h4]
theorem dk_bind {α β : Type} {r : Reader DecodeError α} {f : α → Reader DecodeError β} {A : ByteArray} {p s : Nat} {a : α} (h : r A p = .ok (a, s)) : (r >>= f) A p = f a A s := by
  show (do let (a, s) ← r A p; f a A s : Except DecodeError (β × Nat)) = _
  rw [h]
  rfl
theorem dk_map {α β : Type} {r : Reader DecodeError α} {g : α → β} {A : ByteArray} {p s : Nat} {a : α} (h : r A p = .ok (a, s)) : (g <$> r) A p = .ok (g a, s) := by
  show (do let (a, s) ← r A p; .ok (g a, s) : Except DecodeError (β × Nat)) = _
  rw [h]
  rfl
theorem dk_u2 {A : ByteArray} {p : Nat} {a b : UInt8} (h : A.data.toList[p]? = some a) (h2 : A.data.toList[p + 1]? = some b) : (Reader.u2 : Reader DecodeError Nat) A p = .ok (a.toNat * 256 + b.toNat, p + 2) := by
  show (Reader.u1 >>= fun hi => Reader.u1 >>= fun lo => Pure.pure (hi * 256 + lo) : Reader DecodeError Nat) A p = _
  rw [dk_bind (dk_u1 h), dk_bind (dk_u1 h2)]
  rfl
theorem dk_of {code : ByteArray} {pc n : Nat} {i : Instr} (h : Decoder.instr pc code pc = .ok (i, pc + n)) : decode code pc = .ok (i, n) := by
  have e : decode code pc = (match Decoder.instr pc code pc with | .error x => .error x | .ok (j, s) => .ok (j, s - pc)) := by
    show (do let (j, s) ← Decoder.instr pc code pc; Pure.pure (j, s - pc) : Except DecodeError (Instr × Nat)) = _
    cases Decoder.instr pc code pc <;> rfl
  rw [e, h]
  show Except.ok (i, pc + n - pc) = _
  rw [Nat.add_sub_cancel_left]
theorem dk_1 {code : ByteArray} {pc : Nat} (h : DkAt code pc [1]) : decode code pc = .ok (.aconst_null, 1) := dk_of ((dk_bind (dk_u1 (h 0 _ rfl))).trans rfl)
theorem dk_2 {code : ByteArray} {pc : Nat} (h : DkAt code pc [2]) : decode code pc = .ok (.iconst (-1), 1) := dk_of ((dk_bind (dk_u1 (h 0 _ rfl))).trans rfl)
theorem dk_3 {code : ByteArray} {pc : Nat} (h : DkAt code pc [3]) : decode code pc = .ok (.iconst 0, 1) := dk_of ((dk_bind (dk_u1 (h 0 _ rfl))).trans rfl)
theorem dk_4 {code : ByteArray} {pc : Nat} (h : DkAt code pc [4]) : decode code pc = .ok (.iconst 1, 1) := dk_of ((dk_bind (dk_u1 (h 0 _ rfl))).trans rfl)
theorem dk_5 {code : ByteArray} {pc : Nat} (h : DkAt code pc [5]) : decode code pc = .ok (.iconst 2, 1) := dk_of ((dk_bind (dk_u1 (h 0 _ rfl))).trans rfl)
theorem dk_6 {code : ByteArray} {pc : Nat} (h : DkAt code pc [6]) : decode code pc = .ok (.iconst 3, 1) := dk_of ((dk_bind (dk_u1 (h 0 _ rfl))).trans rfl)
theorem dk_7 {code : ByteArray} {pc : Nat} (h : DkAt code pc [7]) : decode code pc = .ok (.iconst 4, 1) := dk_of ((dk_bind (dk_u1 (h 0 _ rfl))).trans rfl)
theorem dk_8 {code : ByteArray} {pc : Nat} (h : DkAt code pc [8]) : decode code pc = .ok (.iconst 5, 1) := dk_of ((dk_bind (dk_u1 (h 0 _ rfl))).trans rfl)
theorem dk_9 {code : ByteArray} {pc : Nat} (h : DkAt code pc [9]) : decode code pc = .ok (.lconst 0, 1) := dk_of ((dk_bind (dk_u1 (h 0 _ rfl))).trans rfl)
theorem dk_10 {code : ByteArray} {pc : Nat} (h : DkAt code pc [10]) : decode code pc = .ok (.lconst 1, 1) := dk_of ((dk_bind (dk_u1 (h 0 _ rfl))).trans rfl)
theorem dk_11 {code : ByteArray} {pc : Nat} (h : DkAt code pc [11]) : decode code pc = .ok (.fconst 0, 1) := dk_of ((dk_bind (dk_u1 (h 0 _ rfl))).trans rfl)
theorem dk_14 {code : ByteArray} {pc : Nat} (h : DkAt code pc [14]) : decode code pc = .ok (.dconst 0, 1) := dk_of ((dk_bind (dk_u1 (h 0 _ rfl))).trans rfl)
theorem dk_16 {code : ByteArray} {pc : Nat} (a : UInt8) (h : DkAt code pc [16, a]) : decode code pc = .ok (.bipush (Reader.signed 8 a.toNat), 2) := dk_of ((dk_bind (dk_u1 (h 0 _ rfl))).trans ((dk_bind (dk_map (dk_u1 (h 1 _ rfl)))).trans rfl))
theorem dk_17 {code : ByteArray} {pc : Nat} (a b : UInt8) (h : DkAt code pc [17, a, b]) : decode code pc = .ok (.sipush (Reader.signed 16 (a.toNat * 256 + b.toNat)), 3) := dk_of ((dk_bind (dk_u1 (h 0 _ rfl))).trans ((dk_bind (dk_map (dk_u2 (h 1 _ rfl) (h 2 _ rfl)))).trans rfl))
theorem dk_18 {code : ByteArray} {pc : Nat} (a : UInt8) (h : DkAt code pc [18, a]) : decode code pc = .ok (.ldc a.toNat, 2) := dk_of ((dk_bind (dk_u1 (h 0 _ rfl))).trans ((dk_bind (dk_u1 (h 1 _ rfl))).trans rfl))
theorem dk_19 {code : ByteArray} {pc : Nat} (a b : UInt8) (h : DkAt code pc [19, a, b]) : decode code pc = .ok (.ldc_w (a.toNat * 256 + b.toNat), 3) := dk_of ((dk_bind (dk_u1 (h 0 _ rfl))).trans ((dk_bind (dk_u2 (h 1 _ rfl) (h 2 _ rfl))).trans rfl))
theorem dk_20 {code : ByteArray} {pc : Nat} (a b : UInt8) (h : DkAt code pc [20, a, b]) : decode code pc = .ok (.ldc2_w (a.toNat * 256 + b.toNat), 3) := dk_of ((dk_bind (dk_u1 (h 0 _ rfl))).trans ((dk_bind (dk_u2 (h 1 _ rfl) (h 2 _ rfl))).trans rfl))
theorem dk_21 {code : ByteArray} {pc : Nat} (a : UInt8) (h : DkAt code pc [21, a]) : decode code pc = .ok (.iload a.toNat, 2) := dk_of ((dk_bind (dk_u1 (h 0 _ rfl))).trans ((dk_bind (dk_u1 (h 1 _ rfl))).trans rfl))
theorem dk_22 {code : ByteArray} {pc : Nat} (a : UInt8) (h : DkAt code pc [22, a]) : decode code pc = .ok (.lload a.toNat, 2) := dk_of ((dk_bind (dk_u1 (h 0 _ rfl))).trans ((dk_bind (dk_u1 (h 1 _ rfl))).trans rfl))
theorem dk_23 {code : ByteArray} {pc : Nat} (a : UInt8) (h : DkAt code pc [23, a]) : decode code pc = .ok (.fload a.toNat, 2) := dk_of ((dk_bind (dk_u1 (h 0 _ rfl))).trans ((dk_bind (dk_u1 (h 1 _ rfl))).trans rfl))
theorem dk_24 {code : ByteArray} {pc : Nat} (a : UInt8) (h : DkAt code pc [24, a]) : decode code pc = .ok (.dload a.toNat, 2) := dk_of ((dk_bind (dk_u1 (h 0 _ rfl))).trans ((dk_bind (dk_u1 (h 1 _ rfl))).trans rfl))
theorem dk_25 {code : ByteArray} {pc : Nat} (a : UInt8) (h : DkAt code pc [25, a]) : decode code pc = .ok (.aload a.toNat, 2) := dk_of ((dk_bind (dk_u1 (h 0 _ rfl))).trans ((dk_bind (dk_u1 (h 1 _ rfl))).trans rfl))
theorem dk_26 {code : ByteArray} {pc : Nat} (h : DkAt code pc [26]) : decode code pc = .ok (.iload_n 0, 1) := dk_of ((dk_bind (dk_u1 (h 0 _ rfl))).trans rfl)
theorem dk_27 {code : ByteArray} {pc : Nat} (h : DkAt code pc [27]) : decode code pc = .ok (.iload_n 1, 1) := dk_of ((dk_bind (dk_u1 (h 0 _ rfl))).trans rfl)
theorem dk_28 {code : ByteArray} {pc : Nat} (h : DkAt code pc [28]) : decode code pc = .ok (.iload_n 2, 1) := dk_of ((dk_bind (dk_u1 (h 0 _ rfl))).trans rfl)
theorem dk_29 {code : ByteArray} {pc : Nat} (h : DkAt code pc [29]) : decode code pc = .ok (.iload_n 3, 1) := dk_of ((dk_bind (dk_u1 (h 0 _ rfl))).trans rfl)
theorem dk_30 {code : ByteArray} {pc : Nat} (h : DkAt code pc [30]) : decode code pc = .ok (.lload_n 0, 1) := dk_of ((dk_bind (dk_u1 (h 0 _ rfl))).trans rfl)
theorem dk_31 {code : ByteArray} {pc : Nat} (h : DkAt code pc [31]) : decode code pc = .ok (.lload_n 1, 1) := dk_of ((dk_bind (dk_u1 (h 0 _ rfl))).trans rfl)
theorem dk_32 {code : ByteArray} {pc : Nat} (h : DkAt code pc [32]) : decode code pc = .ok (.lload_n 2, 1) := dk_of ((dk_bind (dk_u1 (h 0 _ rfl))).trans rfl)
theorem dk_42 {code : ByteArray} {pc : Nat} (h : DkAt code pc [42]) : decode code pc = .ok (.aload_n 0, 1) := dk_of ((dk_bind (dk_u1 (h 0 _ rfl))).trans rfl)
theorem dk_43 {code : ByteArray} {pc : Nat} (h : DkAt code pc [43]) : decode code pc = .ok (.aload_n 1, 1) := dk_of ((dk_bind (dk_u1 (h 0 _ rfl))).trans rfl)
theorem dk_44 {code : ByteArray} {pc : Nat} (h : DkAt code pc [44]) : decode code pc = .ok (.aload_n 2, 1) := dk_of ((dk_bind (dk_u1 (h 0 _ rfl))).trans rfl)
theorem dk_45 {code : ByteArray} {pc : Nat} (h : DkAt code pc [45]) : decode code pc = .ok (.aload_n 3, 1) := dk_of ((dk_bind (dk_u1 (h 0 _ rfl))).trans rfl)
theorem dk_46 {code : ByteArray} {pc : Nat} (h : DkAt code pc [46]) : decode code pc = .ok (.iaload, 1) := dk_of ((dk_bind (dk_u1 (h 0 _ rfl))).trans rfl)
theorem dk_47 {code : ByteArray} {pc : Nat} (h : DkAt code pc [47]) : decode code pc = .ok (.laload, 1) := dk_of ((dk_bind (dk_u1 (h 0 _ rfl))).trans rfl)
theorem dk_49 {code : ByteArray} {pc : Nat} (h : DkAt code pc [49]) : decode code pc = .ok (.daload, 1) := dk_of ((dk_bind (dk_u1 (h 0 _ rfl))).trans rfl)
theorem dk_50 {code : ByteArray} {pc : Nat} (h : DkAt code pc [50]) : decode code pc = .ok (.aaload, 1) := dk_of ((dk_bind (dk_u1 (h 0 _ rfl))).trans rfl)
theorem dk_51 {code : ByteArray} {pc : Nat} (h : DkAt code pc [51]) : decode code pc = .ok (.baload, 1) := dk_of ((dk_bind (dk_u1 (h 0 _ rfl))).trans rfl)
theorem dk_52 {code : ByteArray} {pc : Nat} (h : DkAt code pc [52]) : decode code pc = .ok (.caload, 1) := dk_of ((dk_bind (dk_u1 (h 0 _ rfl))).trans rfl)
theorem dk_53 {code : ByteArray} {pc : Nat} (h : DkAt code pc [53]) : decode code pc = .ok (.saload, 1) := dk_of ((dk_bind (dk_u1 (h 0 _ rfl))).trans rfl)
theorem dk_54 {code : ByteArray} {pc : Nat} (a : UInt8) (h : DkAt code pc [54, a]) : decode code pc = .ok (.istore a.toNat, 2) := dk_of ((dk_bind (dk_u1 (h 0 _ rfl))).trans ((dk_bind (dk_u1 (h 1 _ rfl))).trans rfl))
theorem dk_55 {code : ByteArray} {pc : Nat} (a : UInt8) (h : DkAt code pc [55, a]) : decode code pc = .ok (.lstore a.toNat, 2) := dk_of ((dk_bind (dk_u1 (h 0 _ rfl))).trans ((dk_bind (dk_u1 (h 1 _ rfl))).trans rfl))
theorem dk_56 {code : ByteArray} {pc : Nat} (a : UInt8) (h : DkAt code pc [56, a]) : decode code pc = .ok (.fstore a.toNat, 2) := dk_of ((dk_bind (dk_u1 (h 0 _ rfl))).trans ((dk_bind (dk_u1 (h 1 _ rfl))).trans rfl))
theorem dk_57 {code : ByteArray} {pc : Nat} (a : UInt8) (h : DkAt code pc [57, a]) : decode code pc = .ok (.dstore a.toNat, 2) := dk_of ((dk_bind (dk_u1 (h 0 _ rfl))).trans ((dk_bind (dk_u1 (h 1 _ rfl))).trans rfl))
theorem dk_58 {code : ByteArray} {pc : Nat} (a : UInt8) (h : DkAt code pc [58, a]) : decode code pc = .ok (.astore a.toNat, 2) := dk_of ((dk_bind (dk_u1 (h 0 _ rfl))).trans ((dk_bind (dk_u1 (h 1 _ rfl))).trans rfl))
theorem dk_59 {code : ByteArray} {pc : Nat} (h : DkAt code pc [59]) : decode code pc = .ok (.istore_n 0, 1) := dk_of ((dk_bind (dk_u1 (h 0 _ rfl))).trans rfl)
theorem dk_60 {code : ByteArray} {pc : Nat} (h : DkAt code pc [60]) : decode code pc = .ok (.istore_n 1, 1) := dk_of ((dk_bind (dk_u1 (h 0 _ rfl))).trans rfl)
theorem dk_61 {code : ByteArray} {pc : Nat} (h : DkAt code pc [61]) : decode code pc = .ok (.istore_n 2, 1) := dk_of ((dk_bind (dk_u1 (h 0 _ rfl))).trans rfl)
theorem dk_62 {code : ByteArray} {pc : Nat} (h : DkAt code pc [62]) : decode code pc = .ok (.istore_n 3, 1) := dk_of ((dk_bind (dk_u1 (h 0 _ rfl))).trans rfl)
theorem dk_75 {code : ByteArray} {pc : Nat} (h : DkAt code pc [75]) : decode code pc = .ok (.astore_n 0, 1) := dk_of ((dk_bind (dk_u1 (h 0 _ rfl))).trans rfl)
theorem dk_76 {code : ByteArray} {pc : Nat} (h : DkAt code pc [76]) : decode code pc = .ok (.astore_n 1, 1) := dk_of ((dk_bind (dk_u1 (h 0 _ rfl))).trans rfl)
theorem dk_77 {code : ByteArray} {pc : Nat} (h : DkAt code pc [77]) : decode code pc = .ok (.astore_n 2, 1) := dk_of ((dk_bind (dk_u1 (h 0 _ rfl))).trans rfl)
theorem dk_78 {code : ByteArray} {pc : Nat} (h : DkAt code pc [78]) : decode code pc = .ok (.astore_n 3, 1) := dk_of ((dk_bind (dk_u1 (h 0 _ rfl))).trans rfl)
theorem dk_79 {code : ByteArray} {pc : Nat} (h : DkAt code pc [79]) : decode code pc = .ok (.iastore, 1) := dk_of ((dk_bind (dk_u1 (h 0 _ rfl))).trans rfl)
theorem dk_80 {code : ByteArray} {pc : Nat} (h : DkAt code pc [80]) : decode code pc = .ok (.lastore, 1) := dk_of ((dk_bind (dk_u1 (h 0 _ rfl))).trans rfl)
theorem dk_82 {code : ByteArray} {pc : Nat} (h : DkAt code pc [82]) : decode code pc = .ok (.dastore, 1) := dk_of ((dk_bind (dk_u1 (h 0 _ rfl))).trans rfl)
theorem dk_83 {code : ByteArray} {pc : Nat} (h : DkAt code pc [83]) : decode code pc = .ok (.aastore, 1) := dk_of ((dk_bind (dk_u1 (h 0 _ rfl))).trans rfl)
theorem dk_84 {code : ByteArray} {pc : Nat} (h : DkAt code pc [84]) : decode code pc = .ok (.bastore, 1) := dk_of ((dk_bind (dk_u1 (h 0 _ rfl))).trans rfl)
theorem dk_87 {code : ByteArray} {pc : Nat} (h : DkAt code pc [87]) : decode code pc = .ok (.pop, 1) := dk_of ((dk_bind (dk_u1 (h 0 _ rfl))).trans rfl)
theorem dk_89 {code : ByteArray} {pc : Nat} (h : DkAt code pc [89]) : decode code pc = .ok (.dup, 1) := dk_of ((dk_bind (dk_u1 (h 0 _ rfl))).trans rfl)
theorem dk_90 {code : ByteArray} {pc : Nat} (h : DkAt code pc [90]) : decode code pc = .ok (.dup_x1, 1) := dk_of ((dk_bind (dk_u1 (h 0 _ rfl))).trans rfl)
theorem dk_91 {code : ByteArray} {pc : Nat} (h : DkAt code pc [91]) : decode code pc = .ok (.dup_x2, 1) := dk_of ((dk_bind (dk_u1 (h 0 _ rfl))).trans rfl)
theorem dk_92 {code : ByteArray} {pc : Nat} (h : DkAt code pc [92]) : decode code pc = .ok (.dup2, 1) := dk_of ((dk_bind (dk_u1 (h 0 _ rfl))).trans rfl)
theorem dk_96 {code : ByteArray} {pc : Nat} (h : DkAt code pc [96]) : decode code pc = .ok (.iadd, 1) := dk_of ((dk_bind (dk_u1 (h 0 _ rfl))).trans rfl)
theorem dk_97 {code : ByteArray} {pc : Nat} (h : DkAt code pc [97]) : decode code pc = .ok (.ladd, 1) := dk_of ((dk_bind (dk_u1 (h 0 _ rfl))).trans rfl)
theorem dk_100 {code : ByteArray} {pc : Nat} (h : DkAt code pc [100]) : decode code pc = .ok (.isub, 1) := dk_of ((dk_bind (dk_u1 (h 0 _ rfl))).trans rfl)
theorem dk_104 {code : ByteArray} {pc : Nat} (h : DkAt code pc [104]) : decode code pc = .ok (.imul, 1) := dk_of ((dk_bind (dk_u1 (h 0 _ rfl))).trans rfl)
theorem dk_106 {code : ByteArray} {pc : Nat} (h : DkAt code pc [106]) : decode code pc = .ok (.fmul, 1) := dk_of ((dk_bind (dk_u1 (h 0 _ rfl))).trans rfl)
theorem dk_108 {code : ByteArray} {pc : Nat} (h : DkAt code pc [108]) : decode code pc = .ok (.idiv, 1) := dk_of ((dk_bind (dk_u1 (h 0 _ rfl))).trans rfl)
theorem dk_110 {code : ByteArray} {pc : Nat} (h : DkAt code pc [110]) : decode code pc = .ok (.fdiv, 1) := dk_of ((dk_bind (dk_u1 (h 0 _ rfl))).trans rfl)
theorem dk_111 {code : ByteArray} {pc : Nat} (h : DkAt code pc [111]) : decode code pc = .ok (.ddiv, 1) := dk_of ((dk_bind (dk_u1 (h 0 _ rfl))).trans rfl)
theorem dk_112 {code : ByteArray} {pc : Nat} (h : DkAt code pc [112]) : decode code pc = .ok (.irem, 1) := dk_of ((dk_bind (dk_u1 (h 0 _ rfl))).trans rfl)
theorem dk_116 {code : ByteArray} {pc : Nat} (h : DkAt code pc [116]) : decode code pc = .ok (.ineg, 1) := dk_of ((dk_bind (dk_u1 (h 0 _ rfl))).trans rfl)
theorem dk_120 {code : ByteArray} {pc : Nat} (h : DkAt code pc [120]) : decode code pc = .ok (.ishl, 1) := dk_of ((dk_bind (dk_u1 (h 0 _ rfl))).trans rfl)
theorem dk_121 {code : ByteArray} {pc : Nat} (h : DkAt code pc [121]) : decode code pc = .ok (.lshl, 1) := dk_of ((dk_bind (dk_u1 (h 0 _ rfl))).trans rfl)
theorem dk_122 {code : ByteArray} {pc : Nat} (h : DkAt code pc [122]) : decode code pc = .ok (.ishr, 1) := dk_of ((dk_bind (dk_u1 (h 0 _ rfl))).trans rfl)
theorem dk_124 {code : ByteArray} {pc : Nat} (h : DkAt code pc [124]) : decode code pc = .ok (.iushr, 1) := dk_of ((dk_bind (dk_u1 (h 0 _ rfl))).trans rfl)
theorem dk_125 {code : ByteArray} {pc : Nat} (h : DkAt code pc [125]) : decode code pc = .ok (.lushr, 1) := dk_of ((dk_bind (dk_u1 (h 0 _ rfl))).trans rfl)
theorem dk_126 {code : ByteArray} {pc : Nat} (h : DkAt code pc [126]) : decode code pc = .ok (.iand, 1) := dk_of ((dk_bind (dk_u1 (h 0 _ rfl))).trans rfl)
theorem dk_127 {code : ByteArray} {pc : Nat} (h : DkAt code pc [127]) : decode code pc = .ok (.land, 1) := dk_of ((dk_bind (dk_u1 (h 0 _ rfl))).trans rfl)
theorem dk_128 {code : ByteArray} {pc : Nat} (h : DkAt code pc [128]) : decode code pc = .ok (.ior, 1) := dk_of ((dk_bind (dk_u1 (h 0 _ rfl))).trans rfl)
theorem dk_129 {code : ByteArray} {pc : Nat} (h : DkAt code pc [129]) : decode code pc = .ok (.lor, 1) := dk_of ((dk_bind (dk_u1 (h 0 _ rfl))).trans rfl)
theorem dk_130 {code : ByteArray} {pc : Nat} (h : DkAt code pc [130]) : decode code pc = .ok (.ixor, 1) := dk_of ((dk_bind (dk_u1 (h 0 _ rfl))).trans rfl)
theorem dk_131 {code : ByteArray} {pc : Nat} (h : DkAt code pc [131]) : decode code pc = .ok (.lxor, 1) := dk_of ((dk_bind (dk_u1 (h 0 _ rfl))).trans rfl)
theorem dk_132 {code : ByteArray} {pc : Nat} (a b : UInt8) (h : DkAt code pc [132, a, b]) : decode code pc = .ok (.iinc a.toNat (Reader.signed 8 b.toNat), 3) := dk_of ((dk_bind (dk_u1 (h 0 _ rfl))).trans ((dk_bind (dk_u1 (h 1 _ rfl))).trans ((dk_bind (dk_map (dk_u1 (h 2 _ rfl)))).trans rfl)))
theorem dk_133 {code : ByteArray} {pc : Nat} (h : DkAt code pc [133]) : decode code pc = .ok (.i2l, 1) := dk_of ((dk_bind (dk_u1 (h 0 _ rfl))).trans rfl)
theorem dk_134 {code : ByteArray} {pc : Nat} (h : DkAt code pc [134]) : decode code pc = .ok (.i2f, 1) := dk_of ((dk_bind (dk_u1 (h 0 _ rfl))).trans rfl)
theorem dk_135 {code : ByteArray} {pc : Nat} (h : DkAt code pc [135]) : decode code pc = .ok (.i2d, 1) := dk_of ((dk_bind (dk_u1 (h 0 _ rfl))).trans rfl)
theorem dk_136 {code : ByteArray} {pc : Nat} (h : DkAt code pc [136]) : decode code pc = .ok (.l2i, 1) := dk_of ((dk_bind (dk_u1 (h 0 _ rfl))).trans rfl)
theorem dk_139 {code : ByteArray} {pc : Nat} (h : DkAt code pc [139]) : decode code pc = .ok (.f2i, 1) := dk_of ((dk_bind (dk_u1 (h 0 _ rfl))).trans rfl)
theorem dk_141 {code : ByteArray} {pc : Nat} (h : DkAt code pc [141]) : decode code pc = .ok (.f2d, 1) := dk_of ((dk_bind (dk_u1 (h 0 _ rfl))).trans rfl)
theorem dk_145 {code : ByteArray} {pc : Nat} (h : DkAt code pc [145]) : decode code pc = .ok (.i2b, 1) := dk_of ((dk_bind (dk_u1 (h 0 _ rfl))).trans rfl)
theorem dk_146 {code : ByteArray} {pc : Nat} (h : DkAt code pc [146]) : decode code pc = .ok (.i2c, 1) := dk_of ((dk_bind (dk_u1 (h 0 _ rfl))).trans rfl)
theorem dk_148 {code : ByteArray} {pc : Nat} (h : DkAt code pc [148]) : decode code pc = .ok (.lcmp, 1) := dk_of ((dk_bind (dk_u1 (h 0 _ rfl))).trans rfl)
theorem dk_149 {code : ByteArray} {pc : Nat} (h : DkAt code pc [149]) : decode code pc = .ok (.fcmp .l, 1) := dk_of ((dk_bind (dk_u1 (h 0 _ rfl))).trans rfl)
theorem dk_150 {code : ByteArray} {pc : Nat} (h : DkAt code pc [150]) : decode code pc = .ok (.fcmp .g, 1) := dk_of ((dk_bind (dk_u1 (h 0 _ rfl))).trans rfl)
theorem dk_151 {code : ByteArray} {pc : Nat} (h : DkAt code pc [151]) : decode code pc = .ok (.dcmp .l, 1) := dk_of ((dk_bind (dk_u1 (h 0 _ rfl))).trans rfl)
theorem dk_153 {code : ByteArray} {pc : Nat} (a b : UInt8) (h : DkAt code pc [153, a, b]) : decode code pc = .ok (.ifCond .eq (Reader.signed 16 (a.toNat * 256 + b.toNat)), 3) := dk_of ((dk_bind (dk_u1 (h 0 _ rfl))).trans ((dk_bind (dk_map (dk_u2 (h 1 _ rfl) (h 2 _ rfl)))).trans rfl))
theorem dk_154 {code : ByteArray} {pc : Nat} (a b : UInt8) (h : DkAt code pc [154, a, b]) : decode code pc = .ok (.ifCond .ne (Reader.signed 16 (a.toNat * 256 + b.toNat)), 3) := dk_of ((dk_bind (dk_u1 (h 0 _ rfl))).trans ((dk_bind (dk_map (dk_u2 (h 1 _ rfl) (h 2 _ rfl)))).trans rfl))
theorem dk_155 {code : ByteArray} {pc : Nat} (a b : UInt8) (h : DkAt code pc [155, a, b]) : decode code pc = .ok (.ifCond .lt (Reader.signed 16 (a.toNat * 256 + b.toNat)), 3) := dk_of ((dk_bind (dk_u1 (h 0 _ rfl))).trans ((dk_bind (dk_map (dk_u2 (h 1 _ rfl) (h 2 _ rfl)))).trans rfl))
theorem dk_156 {code : ByteArray} {pc : Nat} (a b : UInt8) (h : DkAt code pc [156, a, b]) : decode code pc = .ok (.ifCond .ge (Reader.signed 16 (a.toNat * 256 + b.toNat)), 3) := dk_of ((dk_bind (dk_u1 (h 0 _ rfl))).trans ((dk_bind (dk_map (dk_u2 (h 1 _ rfl) (h 2 _ rfl)))).trans rfl))
theorem dk_157 {code : ByteArray} {pc : Nat} (a b : UInt8) (h : DkAt code pc [157, a, b]) : decode code pc = .ok (.ifCond .gt (Reader.signed 16 (a.toNat * 256 + b.toNat)), 3) := dk_of ((dk_bind (dk_u1 (h 0 _ rfl))).trans ((dk_bind (dk_map (dk_u2 (h 1 _ rfl) (h 2 _ rfl)))).trans rfl))
theorem dk_158 {code : ByteArray} {pc : Nat} (a b : UInt8) (h : DkAt code pc [158, a, b]) : decode code pc = .ok (.ifCond .le (Reader.signed 16 (a.toNat * 256 + b.toNat)), 3) := dk_of ((dk_bind (dk_u1 (h 0 _ rfl))).trans ((dk_bind (dk_map (dk_u2 (h 1 _ rfl) (h 2 _ rfl)))).trans rfl))
theorem dk_159 {code : ByteArray} {pc : Nat} (a b : UInt8) (h : DkAt code pc [159, a, b]) : decode code pc = .ok (.if_icmp .eq (Reader.signed 16 (a.toNat * 256 + b.toNat)), 3) := dk_of ((dk_bind (dk_u1 (h 0 _ rfl))).trans ((dk_bind (dk_map (dk_u2 (h 1 _ rfl) (h 2 _ rfl)))).trans rfl))
theorem dk_160 {code : ByteArray} {pc : Nat} (a b : UInt8) (h : DkAt code pc [160, a, b]) : decode code pc = .ok (.if_icmp .ne (Reader.signed 16 (a.toNat * 256 + b.toNat)), 3) := dk_of ((dk_bind (dk_u1 (h 0 _ rfl))).trans ((dk_bind (dk_map (dk_u2 (h 1 _ rfl) (h 2 _ rfl)))).trans rfl))
theorem dk_161 {code : ByteArray} {pc : Nat} (a b : UInt8) (h : DkAt code pc [161, a, b]) : decode code pc = .ok (.if_icmp .lt (Reader.signed 16 (a.toNat * 256 + b.toNat)), 3) := dk_of ((dk_bind (dk_u1 (h 0 _ rfl))).trans ((dk_bind (dk_map (dk_u2 (h 1 _ rfl) (h 2 _ rfl)))).trans rfl))
theorem dk_162 {code : ByteArray} {pc : Nat} (a b : UInt8) (h : DkAt code pc [162, a, b]) : decode code pc = .ok (.if_icmp .ge (Reader.signed 16 (a.toNat * 256 + b.toNat)), 3) := dk_of ((dk_bind (dk_u1 (h 0 _ rfl))).trans ((dk_bind (dk_map (dk_u2 (h 1 _ rfl) (h 2 _ rfl)))).trans rfl))
theorem dk_163 {code : ByteArray} {pc : Nat} (a b : UInt8) (h : DkAt code pc [163, a, b]) : decode code pc = .ok (.if_icmp .gt (Reader.signed 16 (a.toNat * 256 + b.toNat)), 3) := dk_of ((dk_bind (dk_u1 (h 0 _ rfl))).trans ((dk_bind (dk_map (dk_u2 (h 1 _ rfl) (h 2 _ rfl)))).trans rfl))
theorem dk_164 {code : ByteArray} {pc : Nat} (a b : UInt8) (h : DkAt code pc [164, a, b]) : decode code pc = .ok (.if_icmp .le (Reader.signed 16 (a.toNat * 256 + b.toNat)), 3) := dk_of ((dk_bind (dk_u1 (h 0 _ rfl))).trans ((dk_bind (dk_map (dk_u2 (h 1 _ rfl) (h 2 _ rfl)))).trans rfl))
theorem dk_165 {code : ByteArray} {pc : Nat} (a b : UInt8) (h : DkAt code pc [165, a, b]) : decode code pc = .ok (.if_acmp .eq (Reader.signed 16 (a.toNat * 256 + b.toNat)), 3) := dk_of ((dk_bind (dk_u1 (h 0 _ rfl))).trans ((dk_bind (dk_map (dk_u2 (h 1 _ rfl) (h 2 _ rfl)))).trans rfl))
theorem dk_166 {code : ByteArray} {pc : Nat} (a b : UInt8) (h : DkAt code pc [166, a, b]) : decode code pc = .ok (.if_acmp .ne (Reader.signed 16 (a.toNat * 256 + b.toNat)), 3) := dk_of ((dk_bind (dk_u1 (h 0 _ rfl))).trans ((dk_bind (dk_map (dk_u2 (h 1 _ rfl) (h 2 _ rfl)))).trans rfl))
theorem dk_167 {code : ByteArray} {pc : Nat} (a b : UInt8) (h : DkAt code pc [167, a, b]) : decode code pc = .ok (.goto (Reader.signed 16 (a.toNat * 256 + b.toNat)), 3) := dk_of ((dk_bind (dk_u1 (h 0 _ rfl))).trans ((dk_bind (dk_map (dk_u2 (h 1 _ rfl) (h 2 _ rfl)))).trans rfl))
theorem dk_172 {code : ByteArray} {pc : Nat} (h : DkAt code pc [172]) : decode code pc = .ok (.ireturn, 1) := dk_of ((dk_bind (dk_u1 (h 0 _ rfl))).trans rfl)
theorem dk_173 {code : ByteArray} {pc : Nat} (h : DkAt code pc [173]) : decode code pc = .ok (.lreturn, 1) := dk_of ((dk_bind (dk_u1 (h 0 _ rfl))).trans rfl)
theorem dk_174 {code : ByteArray} {pc : Nat} (h : DkAt code pc [174]) : decode code pc = .ok (.freturn, 1) := dk_of ((dk_bind (dk_u1 (h 0 _ rfl))).trans rfl)
theorem dk_175 {code : ByteArray} {pc : Nat} (h : DkAt code pc [175]) : decode code pc = .ok (.dreturn, 1) := dk_of ((dk_bind (dk_u1 (h 0 _ rfl))).trans rfl)
theorem dk_176 {code : ByteArray} {pc : Nat} (h : DkAt code pc [176]) : decode code pc = .ok (.areturn, 1) := dk_of ((dk_bind (dk_u1 (h 0 _ rfl))).trans rfl)
theorem dk_177 {code : ByteArray} {pc : Nat} (h : DkAt code pc [177]) : decode code pc = .ok (.return_, 1) := dk_of ((dk_bind (dk_u1 (h 0 _ rfl))).trans rfl)
theorem dk_178 {code : ByteArray} {pc : Nat} (a b : UInt8) (h : DkAt code pc [178, a, b]) : decode code pc = .ok (.getstatic (a.toNat * 256 + b.toNat), 3) := dk_of ((dk_bind (dk_u1 (h 0 _ rfl))).trans ((dk_bind (dk_u2 (h 1 _ rfl) (h 2 _ rfl))).trans rfl))
theorem dk_180 {code : ByteArray} {pc : Nat} (a b : UInt8) (h : DkAt code pc [180, a, b]) : decode code pc = .ok (.getfield (a.toNat * 256 + b.toNat), 3) := dk_of ((dk_bind (dk_u1 (h 0 _ rfl))).trans ((dk_bind (dk_u2 (h 1 _ rfl) (h 2 _ rfl))).trans rfl))
theorem dk_181 {code : ByteArray} {pc : Nat} (a b : UInt8) (h : DkAt code pc [181, a, b]) : decode code pc = .ok (.putfield (a.toNat * 256 + b.toNat), 3) := dk_of ((dk_bind (dk_u1 (h 0 _ rfl))).trans ((dk_bind (dk_u2 (h 1 _ rfl) (h 2 _ rfl))).trans rfl))
theorem dk_182 {code : ByteArray} {pc : Nat} (a b : UInt8) (h : DkAt code pc [182, a, b]) : decode code pc = .ok (.invokevirtual (a.toNat * 256 + b.toNat), 3) := dk_of ((dk_bind (dk_u1 (h 0 _ rfl))).trans ((dk_bind (dk_u2 (h 1 _ rfl) (h 2 _ rfl))).trans rfl))
theorem dk_183 {code : ByteArray} {pc : Nat} (a b : UInt8) (h : DkAt code pc [183, a, b]) : decode code pc = .ok (.invokespecial (a.toNat * 256 + b.toNat), 3) := dk_of ((dk_bind (dk_u1 (h 0 _ rfl))).trans ((dk_bind (dk_u2 (h 1 _ rfl) (h 2 _ rfl))).trans rfl))
theorem dk_184 {code : ByteArray} {pc : Nat} (a b : UInt8) (h : DkAt code pc [184, a, b]) : decode code pc = .ok (.invokestatic (a.toNat * 256 + b.toNat), 3) := dk_of ((dk_bind (dk_u1 (h 0 _ rfl))).trans ((dk_bind (dk_u2 (h 1 _ rfl) (h 2 _ rfl))).trans rfl))
theorem dk_187 {code : ByteArray} {pc : Nat} (a b : UInt8) (h : DkAt code pc [187, a, b]) : decode code pc = .ok (.new (a.toNat * 256 + b.toNat), 3) := dk_of ((dk_bind (dk_u1 (h 0 _ rfl))).trans ((dk_bind (dk_u2 (h 1 _ rfl) (h 2 _ rfl))).trans rfl))
theorem dk_188_4 {code : ByteArray} {pc : Nat} (h : DkAt code pc [188, 4]) : decode code pc = .ok (.newarray .boolean, 2) := dk_of ((dk_bind (dk_u1 (h 0 _ rfl))).trans ((dk_bind (dk_u1 (h 1 _ rfl))).trans rfl))
theorem dk_188_7 {code : ByteArray} {pc : Nat} (h : DkAt code pc [188, 7]) : decode code pc = .ok (.newarray .double, 2) := dk_of ((dk_bind (dk_u1 (h 0 _ rfl))).trans ((dk_bind (dk_u1 (h 1 _ rfl))).trans rfl))
theorem dk_188_8 {code : ByteArray} {pc : Nat} (h : DkAt code pc [188, 8]) : decode code pc = .ok (.newarray .byte, 2) := dk_of ((dk_bind (dk_u1 (h 0 _ rfl))).trans ((dk_bind (dk_u1 (h 1 _ rfl))).trans rfl))
theorem dk_188_10 {code : ByteArray} {pc : Nat} (h : DkAt code pc [188, 10]) : decode code pc = .ok (.newarray .int, 2) := dk_of ((dk_bind (dk_u1 (h 0 _ rfl))).trans ((dk_bind (dk_u1 (h 1 _ rfl))).trans rfl))
theorem dk_188_11 {code : ByteArray} {pc : Nat} (h : DkAt code pc [188, 11]) : decode code pc = .ok (.newarray .long, 2) := dk_of ((dk_bind (dk_u1 (h 0 _ rfl))).trans ((dk_bind (dk_u1 (h 1 _ rfl))).trans rfl))
theorem dk_189 {code : ByteArray} {pc : Nat} (a b : UInt8) (h : DkAt code pc [189, a, b]) : decode code pc = .ok (.anewarray (a.toNat * 256 + b.toNat), 3) := dk_of ((dk_bind (dk_u1 (h 0 _ rfl))).trans ((dk_bind (dk_u2 (h 1 _ rfl) (h 2 _ rfl))).trans rfl))
theorem dk_190 {code : ByteArray} {pc : Nat} (h : DkAt code pc [190]) : decode code pc = .ok (.arraylength, 1) := dk_of ((dk_bind (dk_u1 (h 0 _ rfl))).trans rfl)
theorem dk_191 {code : ByteArray} {pc : Nat} (h : DkAt code pc [191]) : decode code pc = .ok (.athrow, 1) := dk_of ((dk_bind (dk_u1 (h 0 _ rfl))).trans rfl)
theorem dk_192 {code : ByteArray} {pc : Nat} (a b : UInt8) (h : DkAt code pc [192, a, b]) : decode code pc = .ok (.checkcast (a.toNat * 256 + b.toNat), 3) := dk_of ((dk_bind (dk_u1 (h 0 _ rfl))).trans ((dk_bind (dk_u2 (h 1 _ rfl) (h 2 _ rfl))).trans rfl))
theorem dk_193 {code : ByteArray} {pc : Nat} (a b : UInt8) (h : DkAt code pc [193, a, b]) : decode code pc = .ok (.instanceof (a.toNat * 256 + b.toNat), 3) := dk_of ((dk_bind (dk_u1 (h 0 _ rfl))).trans ((dk_bind (dk_u2 (h 1 _ rfl) (h 2 _ rfl))).trans rfl))
theorem dk_198 {code : ByteArray} {pc : Nat} (a b : UInt8) (h : DkAt code pc [198, a, b]) : decode code pc = .ok (.ifnull (Reader.signed 16 (a.toNat * 256 + b.toNat)), 3) := dk_of ((dk_bind (dk_u1 (h 0 _ rfl))).trans ((dk_bind (dk_map (dk_u2 (h 1 _ rfl) (h 2 _ rfl)))).trans rfl))
theorem dk_199 {code : ByteArray} {pc : Nat} (a b : UInt8) (h : DkAt code pc [199, a, b]) : decode code pc = .ok (.ifnonnull (Reader.signed 16 (a.toNat * 256 + b.toNat)), 3) := dk_of ((dk_bind (dk_u1 (h 0 _ rfl))).trans ((dk_bind (dk_map (dk_u2 (h 1 _ rfl) (h 2 _ rfl)))).trans rfl))

/-! CableTrayPlanner -/
set_option maxRecDepth 100000
def RX1 : String := "CableTrayPlanner"
def TX1 : u_T := fun k => match k with
  | 0 => ("CableTrayPlanner", "plan", "LCableTrayPlanner$Plan;", false)
  | 1 => ("CableTrayPlanner", "undoSteps", "Ljava/util/ArrayDeque;", true)
  | 2 => ("CableTrayPlanner", "saved", "LCableTrayPlanner$Plan;", false)
  | 3 => ("CableTrayPlanner", "input", "Ljava/lang/StringBuilder;", false)
  | 4 => ("CableTrayPlanner", "lastError", "LCableTrayPlanner$SyntaxException;", false)
  | 5 => ("CableTrayPlanner", "lastRefused", "LCableTrayPlanner$ItemException;", false)
  | _ => ("CableTrayPlanner", "lastChain", "[I", false)
def tyX1 : Nat → FieldType := fun k => match k with
  | 0 => .object "CableTrayPlanner$Plan"
  | 1 => .object "java/util/ArrayDeque"
  | 2 => .object "CableTrayPlanner$Plan"
  | 3 => .object "java/lang/StringBuilder"
  | 4 => .object "CableTrayPlanner$SyntaxException"
  | 5 => .object "CableTrayPlanner$ItemException"
  | _ => .array .int
abbrev wsX10 : List Cond := u_ws RX1 TX1 7
theorem nmX1 : ∀ a, a < 7 → ∀ b, b < 7 → a ≠ b → (TX1 a).2.1 ≠ (TX1 b).2.1 := by decide +kernel
theorem tyX1_ok : ∀ k, k < 7 → parseFieldDescriptor (TX1 k).2.2.1 = some (tyX1 k) := by decide +kernel
abbrev cX1_init : ByteArray := prog_1_method_8_code
def yX1_init : MethodName := ⟨RX1, "<init>", "()V"⟩
abbrev cX1_clear : ByteArray := prog_1_method_10_code
def yX1_clear : MethodName := ⟨RX1, "clear", "()I"⟩
abbrev cX1_typeNamed : ByteArray := prog_1_method_27_code
def yX1_typeNamed : MethodName := ⟨RX1, "typeNamed", "()I"⟩
abbrev cX1_isConsistent : ByteArray := prog_1_method_40_code
def yX1_isConsistent : MethodName := ⟨RX1, "isConsistent", "()Z"⟩
abbrev cX1_checkElement : ByteArray := prog_1_method_5_code
def yX1_checkElement : MethodName := ⟨RX1, "checkElement", "(Z)V"⟩
abbrev cX1_snapshot : ByteArray := prog_1_method_47_code
def yX1_snapshot : MethodName := ⟨RX1, "snapshot", "()I"⟩
abbrev cX1_setSpare : ByteArray := prog_1_method_11_code
def yX1_setSpare : MethodName := ⟨RX1, "setSpare", "(I)I"⟩
abbrev cX1_inRange : ByteArray := prog_1_method_1_code
def yX1_inRange : MethodName := ⟨RX1, "inRange", "(JJJ)Z"⟩
abbrev cX1_checkArgument : ByteArray := prog_1_method_2_code
def yX1_checkArgument : MethodName := ⟨RX1, "checkArgument", "(Z)V"⟩
abbrev cX1_keep : ByteArray := prog_1_method_9_code
def yX1_keep : MethodName := ⟨RX1, "keep", "(LCableTrayPlanner$Plan;)V"⟩
abbrev cX1_setTail : ByteArray := prog_1_method_12_code
def yX1_setTail : MethodName := ⟨RX1, "setTail", "(I)I"⟩
abbrev cX1_addTray : ByteArray := prog_1_method_13_code
def yX1_addTray : MethodName := ⟨RX1, "addTray", "(IIIII)I"⟩
abbrev cX1_checkPlace : ByteArray := prog_1_method_7_code
def yX1_checkPlace : MethodName := ⟨RX1, "checkPlace", "(I)V"⟩
abbrev cX1_checkIndex : ByteArray := prog_1_method_3_code
def yX1_checkIndex : MethodName := ⟨RX1, "checkIndex", "(Z)V"⟩
abbrev cX1_checkState : ByteArray := prog_1_method_4_code
def yX1_checkState : MethodName := ⟨RX1, "checkState", "(Z)V"⟩
abbrev cX1_dropTray : ByteArray := prog_1_method_14_code
def yX1_dropTray : MethodName := ⟨RX1, "dropTray", "(I)I"⟩
abbrev cX1_addCable : ByteArray := prog_1_method_15_code
def yX1_addCable : MethodName := ⟨RX1, "addCable", "(III)I"⟩
abbrev cX1_addDrum : ByteArray := prog_1_method_16_code
def yX1_addDrum : MethodName := ⟨RX1, "addDrum", "(II)I"⟩
abbrev cX1_route : ByteArray := prog_1_method_17_code
def yX1_route : MethodName := ⟨RX1, "route", "(I)I"⟩
abbrev cX1_free : ByteArray := prog_1_method_18_code
def yX1_free : MethodName := ⟨RX1, "free", "(I)I"⟩
abbrev cX1_cut : ByteArray := prog_1_method_19_code
def yX1_cut : MethodName := ⟨RX1, "cut", "(I)I"⟩
abbrev cX1_scrap : ByteArray := prog_1_method_20_code
def yX1_scrap : MethodName := ⟨RX1, "scrap", "(I)I"⟩
abbrev cX1_refusal : ByteArray := prog_1_method_21_code
def yX1_refusal : MethodName := ⟨RX1, "refusal", "(I)I"⟩
abbrev cX1_planner : ByteArray := prog_1_method_22_code
def yX1_planner : MethodName := ⟨RX1, "planner", "(I)I"⟩
abbrev cX1_type : ByteArray := prog_1_method_25_code
def yX1_type : MethodName := ⟨RX1, "type", "(II)I"⟩
abbrev cX1_cablesOf : ByteArray := prog_1_method_23_code
def yX1_cablesOf : MethodName := ⟨RX1, "cablesOf", "(I)I"⟩
abbrev cX1_drumsOf : ByteArray := prog_1_method_24_code
def yX1_drumsOf : MethodName := ⟨RX1, "drumsOf", "(IZ)I"⟩
abbrev cX1_letter : ByteArray := prog_1_method_26_code
def yX1_letter : MethodName := ⟨RX1, "letter", "(II)C"⟩
abbrev cX1_tray : ByteArray := prog_1_method_28_code
def yX1_tray : MethodName := ⟨RX1, "tray", "(II)I"⟩
abbrev cX1_compartment : ByteArray := prog_1_method_29_code
def yX1_compartment : MethodName := ⟨RX1, "compartment", "(IIZ)I"⟩
abbrev cX1_fits : ByteArray := prog_1_method_30_code
def yX1_fits : MethodName := ⟨RX1, "fits", "(II)Z"⟩
abbrev cX1_cable : ByteArray := prog_1_method_31_code
def yX1_cable : MethodName := ⟨RX1, "cable", "(II)I"⟩
abbrev cX1_step : ByteArray := prog_1_method_32_code
def yX1_step : MethodName := ⟨RX1, "step", "(IIZ)I"⟩
abbrev cX1_shortest : ByteArray := prog_1_method_33_code
def yX1_shortest : MethodName := ⟨RX1, "shortest", "(III)I"⟩
abbrev cX1_drum : ByteArray := prog_1_method_34_code
def yX1_drum : MethodName := ⟨RX1, "drum", "(II)I"⟩
abbrev cX1_fewestDrums : ByteArray := prog_1_method_35_code
def yX1_fewestDrums : MethodName := ⟨RX1, "fewestDrums", "(I)I"⟩
abbrev cX1_cablesIn : ByteArray := prog_1_method_36_code
def yX1_cablesIn : MethodName := ⟨RX1, "cablesIn", "(I)I"⟩
abbrev cX1_fullest : ByteArray := prog_1_method_37_code
def yX1_fullest : MethodName := ⟨RX1, "fullest", "()I"⟩
abbrev cX1_fill : ByteArray := prog_1_method_38_code
def yX1_fill : MethodName := ⟨RX1, "fill", "(I)F"⟩
abbrev cX1_meanLength : ByteArray := prog_1_method_39_code
def yX1_meanLength : MethodName := ⟨RX1, "meanLength", "()D"⟩
abbrev cX1_checkNumbers : ByteArray := prog_1_method_6_code
def yX1_checkNumbers : MethodName := ⟨RX1, "checkNumbers", "(Z)V"⟩
abbrev cX1_append : ByteArray := prog_1_method_41_code
def yX1_append : MethodName := ⟨RX1, "append", "(I)I"⟩
abbrev cX1_read : ByteArray := prog_1_method_43_code
def yX1_read : MethodName := ⟨RX1, "read", "()I"⟩
abbrev cX1_carryOut : ByteArray := prog_1_method_42_code
def yX1_carryOut : MethodName := ⟨RX1, "carryOut", "(Ljava/util/ArrayList;LCableTrayPlanner$Plan;)I"⟩
abbrev cX1_errorPosition : ByteArray := prog_1_method_44_code
def yX1_errorPosition : MethodName := ⟨RX1, "errorPosition", "()I"⟩
abbrev cX1_refusedItem : ByteArray := prog_1_method_45_code
def yX1_refusedItem : MethodName := ⟨RX1, "refusedItem", "()I"⟩
abbrev cX1_undo : ByteArray := prog_1_method_46_code
def yX1_undo : MethodName := ⟨RX1, "undo", "()I"⟩
abbrev cX1_restore : ByteArray := prog_1_method_48_code
def yX1_restore : MethodName := ⟨RX1, "restore", "()I"⟩
theorem q83 : (Jvm.Cond.initialized "CableTrayPlanner") ∈ lw_all := lw_g (lw_at lw_m1 1 rfl) rfl
theorem q142 : (Jvm.Cond.instantiable "CableTrayPlanner" (7 : Nat)) ∈ lw_all := lw_g (lw_at lw_m1 60 rfl) rfl
theorem q144 : (Jvm.Cond.instanceMethod ({ cls := "CableTrayPlanner", name := "<init>", desc := "()V" } : Jvm.MethodName)) ∈ lw_all := lw_g (lw_at lw_m1 62 rfl) rfl
theorem q145 : (Jvm.Cond.code ({ cls := "CableTrayPlanner", name := "<init>", desc := "()V" } : Jvm.MethodName) prog_1_method_8_code (1 : Nat) (Option.none : Option Jvm.ClassFile.FieldType)) ∈ lw_all := lw_g (lw_at lw_m1 63 rfl) rfl
theorem q146 : (Jvm.Cond.methodLink "CableTrayPlanner" (31 : Nat) ({ cls := "java/lang/Object", name := "<init>", desc := "()V" } : Jvm.MethodName)) ∈ lw_all := lw_g (lw_at lw_m1 64 rfl) rfl
theorem q149 : (Jvm.Cond.classLink "CableTrayPlanner" (34 : Nat) "CableTrayPlanner$Plan") ∈ lw_all := lw_g (lw_at lw_m1 67 rfl) rfl
theorem q151 : (Jvm.Cond.methodLinkNest "CableTrayPlanner" (36 : Nat) ({ cls := "CableTrayPlanner$Plan", name := "<init>", desc := "()V" } : Jvm.MethodName) "CableTrayPlanner") ∈ lw_tbl := lw_at lw_m1 69 rfl
theorem q218 : (Jvm.Cond.fieldLinkNest "CableTrayPlanner" (143 : Nat) "CableTrayPlanner$Plan" "types" "Ljava/util/ArrayList;" "CableTrayPlanner") ∈ lw_tbl := lw_at lw_m1 136 rfl
theorem q223 : (Jvm.Cond.fieldLinkNest "CableTrayPlanner" (146 : Nat) "CableTrayPlanner$Plan" "trays" "Ljava/util/ArrayList;" "CableTrayPlanner") ∈ lw_tbl := lw_at lw_m1 141 rfl
theorem q225 : (Jvm.Cond.fieldLinkNest "CableTrayPlanner" (67 : Nat) "CableTrayPlanner$Plan" "cables" "Ljava/util/ArrayList;" "CableTrayPlanner") ∈ lw_tbl := lw_at lw_m1 143 rfl
theorem q227 : (Jvm.Cond.fieldLinkNest "CableTrayPlanner" (149 : Nat) "CableTrayPlanner$Plan" "drums" "Ljava/util/ArrayList;" "CableTrayPlanner") ∈ lw_tbl := lw_at lw_m1 145 rfl
theorem q229 : (Jvm.Cond.fieldLinkNest "CableTrayPlanner" (90 : Nat) "CableTrayPlanner$Plan" "spare" "I" "CableTrayPlanner") ∈ lw_tbl := lw_at lw_m1 147 rfl
theorem q231 : (Jvm.Cond.fieldLinkNest "CableTrayPlanner" (96 : Nat) "CableTrayPlanner$Plan" "tail" "I" "CableTrayPlanner") ∈ lw_tbl := lw_at lw_m1 149 rfl
theorem q233 : (Jvm.Cond.fieldLinkNest "CableTrayPlanner" (158 : Nat) "CableTrayPlanner$Plan" "waste" "I" "CableTrayPlanner") ∈ lw_tbl := lw_at lw_m1 151 rfl
theorem q251 : (Jvm.Cond.classLink "CableTrayPlanner" (41 : Nat) "java/util/ArrayDeque") ∈ lw_all := lw_g (lw_at lw_m1 169 rfl) rfl
theorem q253 : (Jvm.Cond.methodLink "CableTrayPlanner" (43 : Nat) ({ cls := "java/util/ArrayDeque", name := "<init>", desc := "()V" } : Jvm.MethodName)) ∈ lw_all := lw_g (lw_at lw_m1 171 rfl) rfl
theorem q271 : (Jvm.Cond.classLink "CableTrayPlanner" (48 : Nat) "java/lang/StringBuilder") ∈ lw_all := lw_g (lw_at lw_m1 189 rfl) rfl
theorem q273 : (Jvm.Cond.methodLink "CableTrayPlanner" (50 : Nat) ({ cls := "java/lang/StringBuilder", name := "<init>", desc := "()V" } : Jvm.MethodName)) ∈ lw_all := lw_g (lw_at lw_m1 191 rfl) rfl
theorem q304 : (Jvm.Cond.fieldLink "CableTrayPlanner" (37 : Nat) "CableTrayPlanner" "plan" "LCableTrayPlanner$Plan;") ∈ lw_all := lw_g (lw_at lw_m1 222 rfl) rfl
theorem q305 : (Jvm.Cond.fieldLink "CableTrayPlanner" (44 : Nat) "CableTrayPlanner" "undoSteps" "Ljava/util/ArrayDeque;") ∈ lw_all := lw_g (lw_at lw_m1 223 rfl) rfl
theorem q306 : (Jvm.Cond.fieldLink "CableTrayPlanner" (384 : Nat) "CableTrayPlanner" "saved" "LCableTrayPlanner$Plan;") ∈ lw_all := lw_g (lw_at lw_m1 224 rfl) rfl
theorem q307 : (Jvm.Cond.fieldLink "CableTrayPlanner" (51 : Nat) "CableTrayPlanner" "input" "Ljava/lang/StringBuilder;") ∈ lw_all := lw_g (lw_at lw_m1 225 rfl) rfl
theorem q308 : (Jvm.Cond.fieldLink "CableTrayPlanner" (363 : Nat) "CableTrayPlanner" "lastError" "LCableTrayPlanner$SyntaxException;") ∈ lw_all := lw_g (lw_at lw_m1 226 rfl) rfl
theorem q309 : (Jvm.Cond.fieldLink "CableTrayPlanner" (367 : Nat) "CableTrayPlanner" "lastRefused" "LCableTrayPlanner$ItemException;") ∈ lw_all := lw_g (lw_at lw_m1 227 rfl) rfl
theorem q311 : (Jvm.Cond.fieldLink "CableTrayPlanner" (133 : Nat) "CableTrayPlanner" "lastChain" "[I") ∈ lw_all := lw_g (lw_at lw_m1 229 rfl) rfl
theorem q312 : (Jvm.Cond.lays "CableTrayPlanner" "CableTrayPlanner" "plan" "LCableTrayPlanner$Plan;") ∈ lw_all := lw_g (lw_at lw_m1 230 rfl) rfl
theorem q313 : (Jvm.Cond.soleField "CableTrayPlanner" "plan") ∈ lw_all := lw_g (lw_at lw_m1 231 rfl) rfl
theorem q314 : (Jvm.Cond.laysFinal "CableTrayPlanner" "CableTrayPlanner" "undoSteps" "Ljava/util/ArrayDeque;") ∈ lw_all := lw_g (lw_at lw_m1 232 rfl) rfl
theorem q315 : (Jvm.Cond.soleField "CableTrayPlanner" "undoSteps") ∈ lw_all := lw_g (lw_at lw_m1 233 rfl) rfl
theorem q316 : (Jvm.Cond.lays "CableTrayPlanner" "CableTrayPlanner" "saved" "LCableTrayPlanner$Plan;") ∈ lw_all := lw_g (lw_at lw_m1 234 rfl) rfl
theorem q317 : (Jvm.Cond.soleField "CableTrayPlanner" "saved") ∈ lw_all := lw_g (lw_at lw_m1 235 rfl) rfl
theorem q318 : (Jvm.Cond.lays "CableTrayPlanner" "CableTrayPlanner" "input" "Ljava/lang/StringBuilder;") ∈ lw_all := lw_g (lw_at lw_m1 236 rfl) rfl
theorem q319 : (Jvm.Cond.soleField "CableTrayPlanner" "input") ∈ lw_all := lw_g (lw_at lw_m1 237 rfl) rfl
theorem q320 : (Jvm.Cond.lays "CableTrayPlanner" "CableTrayPlanner" "lastError" "LCableTrayPlanner$SyntaxException;") ∈ lw_all := lw_g (lw_at lw_m1 238 rfl) rfl
theorem q321 : (Jvm.Cond.soleField "CableTrayPlanner" "lastError") ∈ lw_all := lw_g (lw_at lw_m1 239 rfl) rfl
theorem q322 : (Jvm.Cond.lays "CableTrayPlanner" "CableTrayPlanner" "lastRefused" "LCableTrayPlanner$ItemException;") ∈ lw_all := lw_g (lw_at lw_m2 0 rfl) rfl
theorem q323 : (Jvm.Cond.soleField "CableTrayPlanner" "lastRefused") ∈ lw_all := lw_g (lw_at lw_m2 1 rfl) rfl
theorem q324 : (Jvm.Cond.lays "CableTrayPlanner" "CableTrayPlanner" "lastChain" "[I") ∈ lw_all := lw_g (lw_at lw_m2 2 rfl) rfl
theorem q325 : (Jvm.Cond.soleField "CableTrayPlanner" "lastChain") ∈ lw_all := lw_g (lw_at lw_m2 3 rfl) rfl
theorem q326 : (Jvm.Cond.superclass "CableTrayPlanner" "java/lang/Object") ∈ lw_all := lw_g (lw_at lw_m2 4 rfl) rfl
theorem q328 : (Jvm.Cond.instanceMethod ({ cls := "CableTrayPlanner", name := "clear", desc := "()I" } : Jvm.MethodName)) ∈ lw_all := lw_g (lw_at lw_m2 6 rfl) rfl
theorem q329 : (Jvm.Cond.selects "CableTrayPlanner" ({ cls := "CableTrayPlanner", name := "clear", desc := "()I" } : Jvm.MethodName) ({ cls := "CableTrayPlanner", name := "clear", desc := "()I" } : Jvm.MethodName)) ∈ lw_all := lw_g (lw_at lw_m2 7 rfl) rfl
theorem q330 : (Jvm.Cond.code ({ cls := "CableTrayPlanner", name := "clear", desc := "()I" } : Jvm.MethodName) prog_1_method_10_code (2 : Nat) (Option.some Jvm.ClassFile.FieldType.int)) ∈ lw_all := lw_g (lw_at lw_m2 8 rfl) rfl
theorem q331 : (Jvm.Cond.methodLink "CableTrayPlanner" (71 : Nat) ({ cls := "java/util/ArrayList", name := "size", desc := "()I" } : Jvm.MethodName)) ∈ lw_all := lw_g (lw_at lw_m2 9 rfl) rfl
theorem q335 : (Jvm.Cond.methodLink "CableTrayPlanner" (74 : Nat) ({ cls := "java/util/ArrayDeque", name := "clear", desc := "()V" } : Jvm.MethodName)) ∈ lw_all := lw_g (lw_at lw_m2 13 rfl) rfl
theorem q343 : (Jvm.Cond.instanceMethod ({ cls := "CableTrayPlanner", name := "typeNamed", desc := "()I" } : Jvm.MethodName)) ∈ lw_all := lw_g (lw_at lw_m2 21 rfl) rfl
theorem q344 : (Jvm.Cond.selects "CableTrayPlanner" ({ cls := "CableTrayPlanner", name := "typeNamed", desc := "()I" } : Jvm.MethodName) ({ cls := "CableTrayPlanner", name := "typeNamed", desc := "()I" } : Jvm.MethodName)) ∈ lw_all := lw_g (lw_at lw_m2 22 rfl) rfl
theorem q345 : (Jvm.Cond.code ({ cls := "CableTrayPlanner", name := "typeNamed", desc := "()I" } : Jvm.MethodName) prog_1_method_27_code (1 : Nat) (Option.some Jvm.ClassFile.FieldType.int)) ∈ lw_all := lw_g (lw_at lw_m2 23 rfl) rfl
theorem q346 : (Jvm.Cond.methodLink "CableTrayPlanner" (220 : Nat) ({ cls := "java/lang/StringBuilder", name := "toString", desc := "()Ljava/lang/String;" } : Jvm.MethodName)) ∈ lw_all := lw_g (lw_at lw_m2 24 rfl) rfl
theorem q631 : (Jvm.Cond.methodLink "CableTrayPlanner" (224 : Nat) ({ cls := "CableTrayPlanner$Plan", name := "typeNamed", desc := "(Ljava/lang/String;)I" } : Jvm.MethodName)) ∈ lw_all := lw_g (lw_at lw_m3 69 rfl) rfl
theorem q650 : (Jvm.Cond.selects "CableTrayPlanner" ({ cls := "java/lang/Object", name := "hashCode", desc := "()I" } : Jvm.MethodName) ({ cls := "java/lang/Object", name := "hashCode", desc := "()I" } : Jvm.MethodName)) ∈ lw_all := lw_g (lw_at lw_m3 88 rfl) rfl
theorem q749 : (Jvm.Cond.selects "CableTrayPlanner" ({ cls := "java/lang/Object", name := "equals", desc := "(Ljava/lang/Object;)Z" } : Jvm.MethodName) ({ cls := "java/lang/Object", name := "equals", desc := "(Ljava/lang/Object;)Z" } : Jvm.MethodName)) ∈ lw_all := lw_g (lw_at lw_m3 187 rfl) rfl
theorem q814 : (Jvm.Cond.selects "CableTrayPlanner" ({ cls := "java/lang/Object", name := "getClass", desc := "()Ljava/lang/Class;" } : Jvm.MethodName) ({ cls := "java/lang/Object", name := "getClass", desc := "()Ljava/lang/Class;" } : Jvm.MethodName)) ∈ lw_all := lw_g (lw_at lw_m4 12 rfl) rfl
theorem q1055 : (Jvm.Cond.instanceMethod ({ cls := "CableTrayPlanner", name := "isConsistent", desc := "()Z" } : Jvm.MethodName)) ∈ lw_all := lw_g (lw_at lw_m5 13 rfl) rfl
theorem q1056 : (Jvm.Cond.selects "CableTrayPlanner" ({ cls := "CableTrayPlanner", name := "isConsistent", desc := "()Z" } : Jvm.MethodName) ({ cls := "CableTrayPlanner", name := "isConsistent", desc := "()Z" } : Jvm.MethodName)) ∈ lw_all := lw_g (lw_at lw_m5 14 rfl) rfl
theorem q1057 : (Jvm.Cond.code ({ cls := "CableTrayPlanner", name := "isConsistent", desc := "()Z" } : Jvm.MethodName) prog_1_method_40_code (1 : Nat) (Option.some Jvm.ClassFile.FieldType.boolean)) ∈ lw_all := lw_g (lw_at lw_m5 15 rfl) rfl
theorem q1058 : (Jvm.Cond.methodLink "CableTrayPlanner" (327 : Nat) ({ cls := "CableTrayPlanner$Plan", name := "isConsistent", desc := "()Z" } : Jvm.MethodName)) ∈ lw_all := lw_g (lw_at lw_m5 16 rfl) rfl
theorem q1127 : (Jvm.Cond.static ({ cls := "CableTrayPlanner", name := "checkElement", desc := "(Z)V" } : Jvm.MethodName)) ∈ lw_all := lw_g (lw_at lw_m5 85 rfl) rfl
theorem q1128 : (Jvm.Cond.code ({ cls := "CableTrayPlanner", name := "checkElement", desc := "(Z)V" } : Jvm.MethodName) prog_1_method_5_code (1 : Nat) (Option.none : Option Jvm.ClassFile.FieldType)) ∈ lw_all := lw_g (lw_at lw_m5 86 rfl) rfl
theorem q1129 : (Jvm.Cond.classLink "CableTrayPlanner" (13 : Nat) "java/util/NoSuchElementException") ∈ lw_all := lw_g (lw_at lw_m5 87 rfl) rfl
theorem q1138 : (Jvm.Cond.methodLink "CableTrayPlanner" (15 : Nat) ({ cls := "java/util/NoSuchElementException", name := "<init>", desc := "()V" } : Jvm.MethodName)) ∈ lw_all := lw_g (lw_at lw_m5 96 rfl) rfl
theorem q1256 : (Jvm.Cond.instanceMethod ({ cls := "CableTrayPlanner", name := "snapshot", desc := "()I" } : Jvm.MethodName)) ∈ lw_all := lw_g (lw_at lw_m5 214 rfl) rfl
theorem q1257 : (Jvm.Cond.selects "CableTrayPlanner" ({ cls := "CableTrayPlanner", name := "snapshot", desc := "()I" } : Jvm.MethodName) ({ cls := "CableTrayPlanner", name := "snapshot", desc := "()I" } : Jvm.MethodName)) ∈ lw_all := lw_g (lw_at lw_m5 215 rfl) rfl
theorem q1258 : (Jvm.Cond.code ({ cls := "CableTrayPlanner", name := "snapshot", desc := "()I" } : Jvm.MethodName) prog_1_method_47_code (1 : Nat) (Option.some Jvm.ClassFile.FieldType.int)) ∈ lw_all := lw_g (lw_at lw_m5 216 rfl) rfl
theorem q1259 : (Jvm.Cond.methodLink "CableTrayPlanner" (82 : Nat) ({ cls := "CableTrayPlanner$Plan", name := "copy", desc := "()LCableTrayPlanner$Plan;" } : Jvm.MethodName)) ∈ lw_all := lw_g (lw_at lw_m5 217 rfl) rfl
theorem q1449 : (Jvm.Cond.fieldLinkNest "CableTrayPlanner" (232 : Nat) "CableTrayPlanner$Tray" "from" "I" "CableTrayPlanner") ∈ lw_tbl := lw_at lw_m6 167 rfl
theorem q1451 : (Jvm.Cond.fieldLinkNest "CableTrayPlanner" (237 : Nat) "CableTrayPlanner$Tray" "to" "I" "CableTrayPlanner") ∈ lw_tbl := lw_at lw_m6 169 rfl
theorem q1455 : (Jvm.Cond.fieldLinkNest "CableTrayPlanner" (240 : Nat) "CableTrayPlanner$Tray" "length" "I" "CableTrayPlanner") ∈ lw_tbl := lw_at lw_m6 173 rfl
theorem q1457 : (Jvm.Cond.fieldLinkNest "CableTrayPlanner" (242 : Nat) "CableTrayPlanner$Tray" "area" "I" "CableTrayPlanner") ∈ lw_tbl := lw_at lw_m6 175 rfl
theorem q1459 : (Jvm.Cond.fieldLinkNest "CableTrayPlanner" (243 : Nat) "CableTrayPlanner$Tray" "classes" "[I" "CableTrayPlanner") ∈ lw_tbl := lw_at lw_m6 177 rfl
theorem q1462 : (Jvm.Cond.fieldLinkNest "CableTrayPlanner" (260 : Nat) "CableTrayPlanner$Tray" "filled" "[I" "CableTrayPlanner") ∈ lw_tbl := lw_at lw_m6 180 rfl
theorem q1496 : (Jvm.Cond.fieldLinkNest "CableTrayPlanner" (182 : Nat) "CableTrayPlanner$Cable" "type" "I" "CableTrayPlanner") ∈ lw_tbl := lw_at lw_m6 214 rfl
theorem q1499 : (Jvm.Cond.fieldLinkNest "CableTrayPlanner" (270 : Nat) "CableTrayPlanner$Cable" "from" "I" "CableTrayPlanner") ∈ lw_tbl := lw_at lw_m6 217 rfl
theorem q1502 : (Jvm.Cond.fieldLinkNest "CableTrayPlanner" (271 : Nat) "CableTrayPlanner$Cable" "to" "I" "CableTrayPlanner") ∈ lw_tbl := lw_at lw_m6 220 rfl
theorem q1505 : (Jvm.Cond.fieldLinkNest "CableTrayPlanner" (272 : Nat) "CableTrayPlanner$Cable" "state" "I" "CableTrayPlanner") ∈ lw_tbl := lw_at lw_m6 223 rfl
theorem q1508 : (Jvm.Cond.fieldLinkNest "CableTrayPlanner" (275 : Nat) "CableTrayPlanner$Cable" "route" "Ljava/util/ArrayList;" "CableTrayPlanner") ∈ lw_tbl := lw_at lw_m6 226 rfl
theorem q1513 : (Jvm.Cond.fieldLinkNest "CableTrayPlanner" (285 : Nat) "CableTrayPlanner$Cable" "drum" "I" "CableTrayPlanner") ∈ lw_tbl := lw_at lw_m6 231 rfl
theorem q1570 : (Jvm.Cond.fieldLinkNest "CableTrayPlanner" (187 : Nat) "CableTrayPlanner$Drum" "type" "I" "CableTrayPlanner") ∈ lw_tbl := lw_at lw_m7 48 rfl
theorem q1574 : (Jvm.Cond.fieldLinkNest "CableTrayPlanner" (312 : Nat) "CableTrayPlanner$Drum" "first" "I" "CableTrayPlanner") ∈ lw_tbl := lw_at lw_m7 52 rfl
theorem q1576 : (Jvm.Cond.fieldLinkNest "CableTrayPlanner" (188 : Nat) "CableTrayPlanner$Drum" "rest" "I" "CableTrayPlanner") ∈ lw_tbl := lw_at lw_m7 54 rfl
theorem q1590 : (Jvm.Cond.instanceMethod ({ cls := "CableTrayPlanner", name := "setSpare", desc := "(I)I" } : Jvm.MethodName)) ∈ lw_all := lw_g (lw_at lw_m7 68 rfl) rfl
theorem q1591 : (Jvm.Cond.selects "CableTrayPlanner" ({ cls := "CableTrayPlanner", name := "setSpare", desc := "(I)I" } : Jvm.MethodName) ({ cls := "CableTrayPlanner", name := "setSpare", desc := "(I)I" } : Jvm.MethodName)) ∈ lw_all := lw_g (lw_at lw_m7 69 rfl) rfl
theorem q1592 : (Jvm.Cond.code ({ cls := "CableTrayPlanner", name := "setSpare", desc := "(I)I" } : Jvm.MethodName) prog_1_method_11_code (3 : Nat) (Option.some Jvm.ClassFile.FieldType.int)) ∈ lw_all := lw_g (lw_at lw_m7 70 rfl) rfl
theorem q1593 : (Jvm.Cond.constantLong "CableTrayPlanner" (77 : Nat) (50 : Int64)) ∈ lw_all := lw_g (lw_at lw_m7 71 rfl) rfl
theorem q1594 : (Jvm.Cond.methodLink "CableTrayPlanner" (23 : Nat) ({ cls := "CableTrayPlanner", name := "inRange", desc := "(JJJ)Z" } : Jvm.MethodName)) ∈ lw_all := lw_g (lw_at lw_m7 72 rfl) rfl
theorem q1595 : (Jvm.Cond.static ({ cls := "CableTrayPlanner", name := "inRange", desc := "(JJJ)Z" } : Jvm.MethodName)) ∈ lw_all := lw_g (lw_at lw_m7 73 rfl) rfl
theorem q1596 : (Jvm.Cond.code ({ cls := "CableTrayPlanner", name := "inRange", desc := "(JJJ)Z" } : Jvm.MethodName) prog_1_method_1_code (6 : Nat) (Option.some Jvm.ClassFile.FieldType.boolean)) ∈ lw_all := lw_g (lw_at lw_m7 74 rfl) rfl
theorem q1597 : (Jvm.Cond.methodLink "CableTrayPlanner" (79 : Nat) ({ cls := "CableTrayPlanner", name := "checkArgument", desc := "(Z)V" } : Jvm.MethodName)) ∈ lw_all := lw_g (lw_at lw_m7 75 rfl) rfl
theorem q1598 : (Jvm.Cond.static ({ cls := "CableTrayPlanner", name := "checkArgument", desc := "(Z)V" } : Jvm.MethodName)) ∈ lw_all := lw_g (lw_at lw_m7 76 rfl) rfl
theorem q1599 : (Jvm.Cond.code ({ cls := "CableTrayPlanner", name := "checkArgument", desc := "(Z)V" } : Jvm.MethodName) prog_1_method_2_code (1 : Nat) (Option.none : Option Jvm.ClassFile.FieldType)) ∈ lw_all := lw_g (lw_at lw_m7 77 rfl) rfl
theorem q1600 : (Jvm.Cond.classLink "CableTrayPlanner" (1 : Nat) "java/lang/IllegalArgumentException") ∈ lw_all := lw_g (lw_at lw_m7 78 rfl) rfl
theorem q1601 : (Jvm.Cond.methodLink "CableTrayPlanner" (3 : Nat) ({ cls := "java/lang/IllegalArgumentException", name := "<init>", desc := "()V" } : Jvm.MethodName)) ∈ lw_all := lw_g (lw_at lw_m7 79 rfl) rfl
theorem q1605 : (Jvm.Cond.methodLink "CableTrayPlanner" (86 : Nat) ({ cls := "CableTrayPlanner", name := "keep", desc := "(LCableTrayPlanner$Plan;)V" } : Jvm.MethodName)) ∈ lw_all := lw_g (lw_at lw_m7 83 rfl) rfl
theorem q1606 : (Jvm.Cond.privateMethod ({ cls := "CableTrayPlanner", name := "keep", desc := "(LCableTrayPlanner$Plan;)V" } : Jvm.MethodName)) ∈ lw_tbl := lw_at lw_m7 84 rfl
theorem q1607 : (Jvm.Cond.instanceMethod ({ cls := "CableTrayPlanner", name := "keep", desc := "(LCableTrayPlanner$Plan;)V" } : Jvm.MethodName)) ∈ lw_all := lw_g (lw_at lw_m7 85 rfl) rfl
theorem q1608 : (Jvm.Cond.code ({ cls := "CableTrayPlanner", name := "keep", desc := "(LCableTrayPlanner$Plan;)V" } : Jvm.MethodName) prog_1_method_9_code (3 : Nat) (Option.none : Option Jvm.ClassFile.FieldType)) ∈ lw_all := lw_g (lw_at lw_m7 86 rfl) rfl
theorem q1609 : (Jvm.Cond.methodLink "CableTrayPlanner" (55 : Nat) ({ cls := "java/util/ArrayDeque", name := "size", desc := "()I" } : Jvm.MethodName)) ∈ lw_all := lw_g (lw_at lw_m7 87 rfl) rfl
theorem q1616 : (Jvm.Cond.methodLink "CableTrayPlanner" (59 : Nat) ({ cls := "java/util/ArrayDeque", name := "removeFirst", desc := "()Ljava/lang/Object;" } : Jvm.MethodName)) ∈ lw_all := lw_g (lw_at lw_m7 94 rfl) rfl
theorem q1630 : (Jvm.Cond.methodLink "CableTrayPlanner" (63 : Nat) ({ cls := "java/util/ArrayDeque", name := "addLast", desc := "(Ljava/lang/Object;)V" } : Jvm.MethodName)) ∈ lw_all := lw_g (lw_at lw_m7 108 rfl) rfl
theorem q1665 : (Jvm.Cond.instanceMethod ({ cls := "CableTrayPlanner", name := "setTail", desc := "(I)I" } : Jvm.MethodName)) ∈ lw_all := lw_g (lw_at lw_m7 143 rfl) rfl
theorem q1666 : (Jvm.Cond.selects "CableTrayPlanner" ({ cls := "CableTrayPlanner", name := "setTail", desc := "(I)I" } : Jvm.MethodName) ({ cls := "CableTrayPlanner", name := "setTail", desc := "(I)I" } : Jvm.MethodName)) ∈ lw_all := lw_g (lw_at lw_m7 144 rfl) rfl
theorem q1667 : (Jvm.Cond.code ({ cls := "CableTrayPlanner", name := "setTail", desc := "(I)I" } : Jvm.MethodName) prog_1_method_12_code (3 : Nat) (Option.some Jvm.ClassFile.FieldType.int)) ∈ lw_all := lw_g (lw_at lw_m7 145 rfl) rfl
theorem q1668 : (Jvm.Cond.constantLong "CableTrayPlanner" (94 : Nat) (20 : Int64)) ∈ lw_all := lw_g (lw_at lw_m7 146 rfl) rfl
theorem q1693 : (Jvm.Cond.instanceMethod ({ cls := "CableTrayPlanner", name := "addTray", desc := "(IIIII)I" } : Jvm.MethodName)) ∈ lw_all := lw_g (lw_at lw_m7 171 rfl) rfl
theorem q1694 : (Jvm.Cond.selects "CableTrayPlanner" ({ cls := "CableTrayPlanner", name := "addTray", desc := "(IIIII)I" } : Jvm.MethodName) ({ cls := "CableTrayPlanner", name := "addTray", desc := "(IIIII)I" } : Jvm.MethodName)) ∈ lw_all := lw_g (lw_at lw_m7 172 rfl) rfl
theorem q1695 : (Jvm.Cond.code ({ cls := "CableTrayPlanner", name := "addTray", desc := "(IIIII)I" } : Jvm.MethodName) prog_1_method_13_code (8 : Nat) (Option.some Jvm.ClassFile.FieldType.int)) ∈ lw_all := lw_g (lw_at lw_m7 173 rfl) rfl
theorem q1696 : (Jvm.Cond.methodLink "CableTrayPlanner" (99 : Nat) ({ cls := "CableTrayPlanner$Plan", name := "addTray", desc := "(IIIII)I" } : Jvm.MethodName)) ∈ lw_all := lw_g (lw_at lw_m7 174 rfl) rfl
theorem q1701 : (Jvm.Cond.static ({ cls := "CableTrayPlanner", name := "checkPlace", desc := "(I)V" } : Jvm.MethodName)) ∈ lw_all := lw_g (lw_at lw_m7 179 rfl) rfl
theorem q1702 : (Jvm.Cond.code ({ cls := "CableTrayPlanner", name := "checkPlace", desc := "(I)V" } : Jvm.MethodName) prog_1_method_7_code (1 : Nat) (Option.none : Option Jvm.ClassFile.FieldType)) ∈ lw_all := lw_g (lw_at lw_m7 180 rfl) rfl
theorem q1703 : (Jvm.Cond.constantLong "CableTrayPlanner" (21 : Nat) (7 : Int64)) ∈ lw_all := lw_g (lw_at lw_m7 181 rfl) rfl
theorem q1704 : (Jvm.Cond.methodLink "CableTrayPlanner" (27 : Nat) ({ cls := "CableTrayPlanner", name := "checkIndex", desc := "(Z)V" } : Jvm.MethodName)) ∈ lw_all := lw_g (lw_at lw_m7 182 rfl) rfl
theorem q1705 : (Jvm.Cond.static ({ cls := "CableTrayPlanner", name := "checkIndex", desc := "(Z)V" } : Jvm.MethodName)) ∈ lw_all := lw_g (lw_at lw_m7 183 rfl) rfl
theorem q1706 : (Jvm.Cond.code ({ cls := "CableTrayPlanner", name := "checkIndex", desc := "(Z)V" } : Jvm.MethodName) prog_1_method_3_code (1 : Nat) (Option.none : Option Jvm.ClassFile.FieldType)) ∈ lw_all := lw_g (lw_at lw_m7 184 rfl) rfl
theorem q1707 : (Jvm.Cond.classLink "CableTrayPlanner" (7 : Nat) "java/lang/IndexOutOfBoundsException") ∈ lw_all := lw_g (lw_at lw_m7 185 rfl) rfl
theorem q1716 : (Jvm.Cond.methodLink "CableTrayPlanner" (9 : Nat) ({ cls := "java/lang/IndexOutOfBoundsException", name := "<init>", desc := "()V" } : Jvm.MethodName)) ∈ lw_all := lw_g (lw_at lw_m7 194 rfl) rfl
theorem q1729 : (Jvm.Cond.static ({ cls := "CableTrayPlanner", name := "checkState", desc := "(Z)V" } : Jvm.MethodName)) ∈ lw_all := lw_g (lw_at lw_m7 207 rfl) rfl
theorem q1730 : (Jvm.Cond.code ({ cls := "CableTrayPlanner", name := "checkState", desc := "(Z)V" } : Jvm.MethodName) prog_1_method_4_code (1 : Nat) (Option.none : Option Jvm.ClassFile.FieldType)) ∈ lw_all := lw_g (lw_at lw_m7 208 rfl) rfl
theorem q1731 : (Jvm.Cond.classLink "CableTrayPlanner" (10 : Nat) "java/lang/IllegalStateException") ∈ lw_all := lw_g (lw_at lw_m7 209 rfl) rfl
theorem q1732 : (Jvm.Cond.methodLink "CableTrayPlanner" (12 : Nat) ({ cls := "java/lang/IllegalStateException", name := "<init>", desc := "()V" } : Jvm.MethodName)) ∈ lw_all := lw_g (lw_at lw_m7 210 rfl) rfl
theorem q1741 : (Jvm.Cond.instanceMethod ({ cls := "CableTrayPlanner", name := "dropTray", desc := "(I)I" } : Jvm.MethodName)) ∈ lw_all := lw_g (lw_at lw_m7 219 rfl) rfl
theorem q1742 : (Jvm.Cond.selects "CableTrayPlanner" ({ cls := "CableTrayPlanner", name := "dropTray", desc := "(I)I" } : Jvm.MethodName) ({ cls := "CableTrayPlanner", name := "dropTray", desc := "(I)I" } : Jvm.MethodName)) ∈ lw_all := lw_g (lw_at lw_m7 220 rfl) rfl
theorem q1743 : (Jvm.Cond.code ({ cls := "CableTrayPlanner", name := "dropTray", desc := "(I)I" } : Jvm.MethodName) prog_1_method_14_code (4 : Nat) (Option.some Jvm.ClassFile.FieldType.int)) ∈ lw_all := lw_g (lw_at lw_m7 221 rfl) rfl
theorem q1744 : (Jvm.Cond.methodLink "CableTrayPlanner" (103 : Nat) ({ cls := "CableTrayPlanner$Plan", name := "dropTray", desc := "(I)I" } : Jvm.MethodName)) ∈ lw_all := lw_g (lw_at lw_m7 222 rfl) rfl
theorem q1779 : (Jvm.Cond.fieldLinkNest "CableTrayPlanner" (297 : Nat) "CableTrayPlanner$Step" "tray" "I" "CableTrayPlanner") ∈ lw_tbl := lw_at lw_m8 17 rfl
theorem q1783 : (Jvm.Cond.fieldLinkNest "CableTrayPlanner" (294 : Nat) "CableTrayPlanner$Step" "compartment" "I" "CableTrayPlanner") ∈ lw_tbl := lw_at lw_m8 21 rfl
theorem q1797 : (Jvm.Cond.instanceMethod ({ cls := "CableTrayPlanner", name := "addCable", desc := "(III)I" } : Jvm.MethodName)) ∈ lw_all := lw_g (lw_at lw_m8 35 rfl) rfl
theorem q1798 : (Jvm.Cond.selects "CableTrayPlanner" ({ cls := "CableTrayPlanner", name := "addCable", desc := "(III)I" } : Jvm.MethodName) ({ cls := "CableTrayPlanner", name := "addCable", desc := "(III)I" } : Jvm.MethodName)) ∈ lw_all := lw_g (lw_at lw_m8 36 rfl) rfl
theorem q1799 : (Jvm.Cond.code ({ cls := "CableTrayPlanner", name := "addCable", desc := "(III)I" } : Jvm.MethodName) prog_1_method_15_code (6 : Nat) (Option.some Jvm.ClassFile.FieldType.int)) ∈ lw_all := lw_g (lw_at lw_m8 37 rfl) rfl
theorem q1800 : (Jvm.Cond.methodLink "CableTrayPlanner" (107 : Nat) ({ cls := "CableTrayPlanner$Plan", name := "addCable", desc := "(III)I" } : Jvm.MethodName)) ∈ lw_all := lw_g (lw_at lw_m8 38 rfl) rfl
theorem q1813 : (Jvm.Cond.instanceMethod ({ cls := "CableTrayPlanner", name := "addDrum", desc := "(II)I" } : Jvm.MethodName)) ∈ lw_all := lw_g (lw_at lw_m8 51 rfl) rfl
theorem q1814 : (Jvm.Cond.selects "CableTrayPlanner" ({ cls := "CableTrayPlanner", name := "addDrum", desc := "(II)I" } : Jvm.MethodName) ({ cls := "CableTrayPlanner", name := "addDrum", desc := "(II)I" } : Jvm.MethodName)) ∈ lw_all := lw_g (lw_at lw_m8 52 rfl) rfl
theorem q1815 : (Jvm.Cond.code ({ cls := "CableTrayPlanner", name := "addDrum", desc := "(II)I" } : Jvm.MethodName) prog_1_method_16_code (5 : Nat) (Option.some Jvm.ClassFile.FieldType.int)) ∈ lw_all := lw_g (lw_at lw_m8 53 rfl) rfl
theorem q1816 : (Jvm.Cond.methodLink "CableTrayPlanner" (111 : Nat) ({ cls := "CableTrayPlanner$Plan", name := "addDrum", desc := "(II)I" } : Jvm.MethodName)) ∈ lw_all := lw_g (lw_at lw_m8 54 rfl) rfl
theorem q1826 : (Jvm.Cond.instanceMethod ({ cls := "CableTrayPlanner", name := "route", desc := "(I)I" } : Jvm.MethodName)) ∈ lw_all := lw_g (lw_at lw_m8 64 rfl) rfl
theorem q1827 : (Jvm.Cond.selects "CableTrayPlanner" ({ cls := "CableTrayPlanner", name := "route", desc := "(I)I" } : Jvm.MethodName) ({ cls := "CableTrayPlanner", name := "route", desc := "(I)I" } : Jvm.MethodName)) ∈ lw_all := lw_g (lw_at lw_m8 65 rfl) rfl
theorem q1828 : (Jvm.Cond.code ({ cls := "CableTrayPlanner", name := "route", desc := "(I)I" } : Jvm.MethodName) prog_1_method_17_code (2 : Nat) (Option.some Jvm.ClassFile.FieldType.int)) ∈ lw_all := lw_g (lw_at lw_m8 66 rfl) rfl
theorem q1829 : (Jvm.Cond.classLink "CableTrayPlanner" (115 : Nat) "CableTrayPlanner$1") ∈ lw_all := lw_g (lw_at lw_m8 67 rfl) rfl
theorem q1831 : (Jvm.Cond.methodLink "CableTrayPlanner" (117 : Nat) ({ cls := "CableTrayPlanner$1", name := "<init>", desc := "(LCableTrayPlanner;I)V" } : Jvm.MethodName)) ∈ lw_all := lw_g (lw_at lw_m8 69 rfl) rfl
theorem q1848 : (Jvm.Cond.methodLink "CableTrayPlanner" (120 : Nat) ({ cls := "CableTrayPlanner$1", name := "run", desc := "()I" } : Jvm.MethodName)) ∈ lw_all := lw_g (lw_at lw_m8 86 rfl) rfl
theorem q2145 : (Jvm.Cond.instanceMethod ({ cls := "CableTrayPlanner", name := "free", desc := "(I)I" } : Jvm.MethodName)) ∈ lw_all := lw_g (lw_at lw_m9 143 rfl) rfl
theorem q2146 : (Jvm.Cond.selects "CableTrayPlanner" ({ cls := "CableTrayPlanner", name := "free", desc := "(I)I" } : Jvm.MethodName) ({ cls := "CableTrayPlanner", name := "free", desc := "(I)I" } : Jvm.MethodName)) ∈ lw_all := lw_g (lw_at lw_m9 144 rfl) rfl
theorem q2147 : (Jvm.Cond.code ({ cls := "CableTrayPlanner", name := "free", desc := "(I)I" } : Jvm.MethodName) prog_1_method_18_code (4 : Nat) (Option.some Jvm.ClassFile.FieldType.int)) ∈ lw_all := lw_g (lw_at lw_m9 145 rfl) rfl
theorem q2148 : (Jvm.Cond.methodLink "CableTrayPlanner" (123 : Nat) ({ cls := "CableTrayPlanner$Plan", name := "free", desc := "(I)I" } : Jvm.MethodName)) ∈ lw_all := lw_g (lw_at lw_m9 146 rfl) rfl
theorem q2172 : (Jvm.Cond.instanceMethod ({ cls := "CableTrayPlanner", name := "cut", desc := "(I)I" } : Jvm.MethodName)) ∈ lw_all := lw_g (lw_at lw_m9 170 rfl) rfl
theorem q2173 : (Jvm.Cond.selects "CableTrayPlanner" ({ cls := "CableTrayPlanner", name := "cut", desc := "(I)I" } : Jvm.MethodName) ({ cls := "CableTrayPlanner", name := "cut", desc := "(I)I" } : Jvm.MethodName)) ∈ lw_all := lw_g (lw_at lw_m9 171 rfl) rfl
theorem q2174 : (Jvm.Cond.code ({ cls := "CableTrayPlanner", name := "cut", desc := "(I)I" } : Jvm.MethodName) prog_1_method_19_code (2 : Nat) (Option.some Jvm.ClassFile.FieldType.int)) ∈ lw_all := lw_g (lw_at lw_m9 172 rfl) rfl
theorem q2175 : (Jvm.Cond.classLink "CableTrayPlanner" (126 : Nat) "CableTrayPlanner$2") ∈ lw_all := lw_g (lw_at lw_m9 173 rfl) rfl
theorem q2177 : (Jvm.Cond.methodLink "CableTrayPlanner" (128 : Nat) ({ cls := "CableTrayPlanner$2", name := "<init>", desc := "(LCableTrayPlanner;I)V" } : Jvm.MethodName)) ∈ lw_all := lw_g (lw_at lw_m9 175 rfl) rfl
theorem q2189 : (Jvm.Cond.methodLink "CableTrayPlanner" (129 : Nat) ({ cls := "CableTrayPlanner$2", name := "run", desc := "()I" } : Jvm.MethodName)) ∈ lw_all := lw_g (lw_at lw_m9 187 rfl) rfl
theorem q2196 : (Jvm.Cond.instanceMethod ({ cls := "CableTrayPlanner", name := "scrap", desc := "(I)I" } : Jvm.MethodName)) ∈ lw_all := lw_g (lw_at lw_m9 194 rfl) rfl
theorem q2197 : (Jvm.Cond.selects "CableTrayPlanner" ({ cls := "CableTrayPlanner", name := "scrap", desc := "(I)I" } : Jvm.MethodName) ({ cls := "CableTrayPlanner", name := "scrap", desc := "(I)I" } : Jvm.MethodName)) ∈ lw_all := lw_g (lw_at lw_m9 195 rfl) rfl
theorem q2198 : (Jvm.Cond.code ({ cls := "CableTrayPlanner", name := "scrap", desc := "(I)I" } : Jvm.MethodName) prog_1_method_20_code (4 : Nat) (Option.some Jvm.ClassFile.FieldType.int)) ∈ lw_all := lw_g (lw_at lw_m9 196 rfl) rfl
theorem q2199 : (Jvm.Cond.methodLink "CableTrayPlanner" (130 : Nat) ({ cls := "CableTrayPlanner$Plan", name := "scrap", desc := "(I)I" } : Jvm.MethodName)) ∈ lw_all := lw_g (lw_at lw_m9 197 rfl) rfl
theorem q2208 : (Jvm.Cond.instanceMethod ({ cls := "CableTrayPlanner", name := "refusal", desc := "(I)I" } : Jvm.MethodName)) ∈ lw_all := lw_g (lw_at lw_m9 206 rfl) rfl
theorem q2209 : (Jvm.Cond.selects "CableTrayPlanner" ({ cls := "CableTrayPlanner", name := "refusal", desc := "(I)I" } : Jvm.MethodName) ({ cls := "CableTrayPlanner", name := "refusal", desc := "(I)I" } : Jvm.MethodName)) ∈ lw_all := lw_g (lw_at lw_m9 207 rfl) rfl
theorem q2210 : (Jvm.Cond.code ({ cls := "CableTrayPlanner", name := "refusal", desc := "(I)I" } : Jvm.MethodName) prog_1_method_21_code (2 : Nat) (Option.some Jvm.ClassFile.FieldType.int)) ∈ lw_all := lw_g (lw_at lw_m9 208 rfl) rfl
theorem q2211 : (Jvm.Cond.methodLink "CableTrayPlanner" (137 : Nat) ({ cls := "CableTrayPlanner", name := "checkState", desc := "(Z)V" } : Jvm.MethodName)) ∈ lw_all := lw_g (lw_at lw_m9 209 rfl) rfl
theorem q2212 : (Jvm.Cond.methodLink "CableTrayPlanner" (140 : Nat) ({ cls := "CableTrayPlanner", name := "checkElement", desc := "(Z)V" } : Jvm.MethodName)) ∈ lw_all := lw_g (lw_at lw_m9 210 rfl) rfl
theorem q2217 : (Jvm.Cond.instanceMethod ({ cls := "CableTrayPlanner", name := "planner", desc := "(I)I" } : Jvm.MethodName)) ∈ lw_all := lw_g (lw_at lw_m9 215 rfl) rfl
theorem q2218 : (Jvm.Cond.selects "CableTrayPlanner" ({ cls := "CableTrayPlanner", name := "planner", desc := "(I)I" } : Jvm.MethodName) ({ cls := "CableTrayPlanner", name := "planner", desc := "(I)I" } : Jvm.MethodName)) ∈ lw_all := lw_g (lw_at lw_m9 216 rfl) rfl
theorem q2219 : (Jvm.Cond.code ({ cls := "CableTrayPlanner", name := "planner", desc := "(I)I" } : Jvm.MethodName) prog_1_method_22_code (2 : Nat) (Option.some Jvm.ClassFile.FieldType.int)) ∈ lw_all := lw_g (lw_at lw_m9 217 rfl) rfl
theorem q2220 : (Jvm.Cond.methodLink "CableTrayPlanner" (152 : Nat) ({ cls := "CableTrayPlanner$Plan", name := "rests", desc := "()I" } : Jvm.MethodName)) ∈ lw_all := lw_g (lw_at lw_m9 218 rfl) rfl
theorem q2221 : (Jvm.Cond.methodLink "CableTrayPlanner" (155 : Nat) ({ cls := "CableTrayPlanner$Plan", name := "cutLengths", desc := "()I" } : Jvm.MethodName)) ∈ lw_all := lw_g (lw_at lw_m9 219 rfl) rfl
theorem q2222 : (Jvm.Cond.methodLink "CableTrayPlanner" (161 : Nat) ({ cls := "CableTrayPlanner$Plan", name := "firsts", desc := "()I" } : Jvm.MethodName)) ∈ lw_all := lw_g (lw_at lw_m9 220 rfl) rfl
theorem q2223 : (Jvm.Cond.methodLink "CableTrayPlanner" (164 : Nat) ({ cls := "java/lang/StringBuilder", name := "length", desc := "()I" } : Jvm.MethodName)) ∈ lw_all := lw_g (lw_at lw_m9 221 rfl) rfl
theorem q2228 : (Jvm.Cond.instanceMethod ({ cls := "CableTrayPlanner", name := "type", desc := "(II)I" } : Jvm.MethodName)) ∈ lw_all := lw_g (lw_at lw_m9 226 rfl) rfl
theorem q2229 : (Jvm.Cond.selects "CableTrayPlanner" ({ cls := "CableTrayPlanner", name := "type", desc := "(II)I" } : Jvm.MethodName) ({ cls := "CableTrayPlanner", name := "type", desc := "(II)I" } : Jvm.MethodName)) ∈ lw_all := lw_g (lw_at lw_m9 227 rfl) rfl
theorem q2230 : (Jvm.Cond.code ({ cls := "CableTrayPlanner", name := "type", desc := "(II)I" } : Jvm.MethodName) prog_1_method_25_code (4 : Nat) (Option.some Jvm.ClassFile.FieldType.int)) ∈ lw_all := lw_g (lw_at lw_m9 228 rfl) rfl
theorem q2231 : (Jvm.Cond.methodLink "CableTrayPlanner" (191 : Nat) ({ cls := "CableTrayPlanner$Plan", name := "type", desc := "(I)LCableTrayPlanner$Type;" } : Jvm.MethodName)) ∈ lw_all := lw_g (lw_at lw_m9 229 rfl) rfl
theorem q2232 : (Jvm.Cond.methodLink "CableTrayPlanner" (206 : Nat) ({ cls := "java/lang/String", name := "length", desc := "()I" } : Jvm.MethodName)) ∈ lw_all := lw_g (lw_at lw_m9 230 rfl) rfl
theorem q2233 : (Jvm.Cond.methodLink "CableTrayPlanner" (209 : Nat) ({ cls := "CableTrayPlanner", name := "cablesOf", desc := "(I)I" } : Jvm.MethodName)) ∈ lw_all := lw_g (lw_at lw_m9 231 rfl) rfl
theorem q2234 : (Jvm.Cond.privateMethod ({ cls := "CableTrayPlanner", name := "cablesOf", desc := "(I)I" } : Jvm.MethodName)) ∈ lw_tbl := lw_at lw_m9 232 rfl
theorem q2235 : (Jvm.Cond.instanceMethod ({ cls := "CableTrayPlanner", name := "cablesOf", desc := "(I)I" } : Jvm.MethodName)) ∈ lw_all := lw_g (lw_at lw_m9 233 rfl) rfl
theorem q2236 : (Jvm.Cond.code ({ cls := "CableTrayPlanner", name := "cablesOf", desc := "(I)I" } : Jvm.MethodName) prog_1_method_23_code (5 : Nat) (Option.some Jvm.ClassFile.FieldType.int)) ∈ lw_all := lw_g (lw_at lw_m9 234 rfl) rfl
theorem q2237 : (Jvm.Cond.methodLink "CableTrayPlanner" (167 : Nat) ({ cls := "java/util/ArrayList", name := "iterator", desc := "()Ljava/util/Iterator;" } : Jvm.MethodName)) ∈ lw_all := lw_g (lw_at lw_m9 235 rfl) rfl
theorem q2238 : (Jvm.Cond.interfaceEntry "CableTrayPlanner" (171 : Nat)) ∈ lw_tbl := lw_at lw_m9 236 rfl
theorem q2239 : (Jvm.Cond.methodLink "CableTrayPlanner" (171 : Nat) ({ cls := "java/util/Iterator", name := "hasNext", desc := "()Z" } : Jvm.MethodName)) ∈ lw_all := lw_g (lw_at lw_m9 237 rfl) rfl
theorem q2240 : (Jvm.Cond.interfaceEntry "CableTrayPlanner" (177 : Nat)) ∈ lw_tbl := lw_at lw_m9 238 rfl
theorem q2241 : (Jvm.Cond.methodLink "CableTrayPlanner" (177 : Nat) ({ cls := "java/util/Iterator", name := "next", desc := "()Ljava/lang/Object;" } : Jvm.MethodName)) ∈ lw_all := lw_g (lw_at lw_m9 239 rfl) rfl
theorem q2242 : (Jvm.Cond.classLink "CableTrayPlanner" (180 : Nat) "CableTrayPlanner$Cable") ∈ lw_all := lw_g (lw_at lw_m10 0 rfl) rfl
theorem q2243 : (Jvm.Cond.methodLink "CableTrayPlanner" (212 : Nat) ({ cls := "CableTrayPlanner", name := "drumsOf", desc := "(IZ)I" } : Jvm.MethodName)) ∈ lw_all := lw_g (lw_at lw_m10 1 rfl) rfl
theorem q2244 : (Jvm.Cond.privateMethod ({ cls := "CableTrayPlanner", name := "drumsOf", desc := "(IZ)I" } : Jvm.MethodName)) ∈ lw_tbl := lw_at lw_m10 2 rfl
theorem q2245 : (Jvm.Cond.instanceMethod ({ cls := "CableTrayPlanner", name := "drumsOf", desc := "(IZ)I" } : Jvm.MethodName)) ∈ lw_all := lw_g (lw_at lw_m10 3 rfl) rfl
theorem q2246 : (Jvm.Cond.code ({ cls := "CableTrayPlanner", name := "drumsOf", desc := "(IZ)I" } : Jvm.MethodName) prog_1_method_24_code (6 : Nat) (Option.some Jvm.ClassFile.FieldType.int)) ∈ lw_all := lw_g (lw_at lw_m10 4 rfl) rfl
theorem q2247 : (Jvm.Cond.classLink "CableTrayPlanner" (185 : Nat) "CableTrayPlanner$Drum") ∈ lw_all := lw_g (lw_at lw_m10 5 rfl) rfl
theorem q2252 : (Jvm.Cond.instanceMethod ({ cls := "CableTrayPlanner", name := "letter", desc := "(II)C" } : Jvm.MethodName)) ∈ lw_all := lw_g (lw_at lw_m10 10 rfl) rfl
theorem q2253 : (Jvm.Cond.selects "CableTrayPlanner" ({ cls := "CableTrayPlanner", name := "letter", desc := "(II)C" } : Jvm.MethodName) ({ cls := "CableTrayPlanner", name := "letter", desc := "(II)C" } : Jvm.MethodName)) ∈ lw_all := lw_g (lw_at lw_m10 11 rfl) rfl
theorem q2254 : (Jvm.Cond.code ({ cls := "CableTrayPlanner", name := "letter", desc := "(II)C" } : Jvm.MethodName) prog_1_method_26_code (4 : Nat) (Option.some Jvm.ClassFile.FieldType.char)) ∈ lw_all := lw_g (lw_at lw_m10 12 rfl) rfl
theorem q2255 : (Jvm.Cond.methodLink "CableTrayPlanner" (216 : Nat) ({ cls := "java/lang/String", name := "charAt", desc := "(I)C" } : Jvm.MethodName)) ∈ lw_all := lw_g (lw_at lw_m10 13 rfl) rfl
theorem q2277 : (Jvm.Cond.instanceMethod ({ cls := "CableTrayPlanner", name := "tray", desc := "(II)I" } : Jvm.MethodName)) ∈ lw_all := lw_g (lw_at lw_m10 35 rfl) rfl
theorem q2278 : (Jvm.Cond.selects "CableTrayPlanner" ({ cls := "CableTrayPlanner", name := "tray", desc := "(II)I" } : Jvm.MethodName) ({ cls := "CableTrayPlanner", name := "tray", desc := "(II)I" } : Jvm.MethodName)) ∈ lw_all := lw_g (lw_at lw_m10 36 rfl) rfl
theorem q2279 : (Jvm.Cond.code ({ cls := "CableTrayPlanner", name := "tray", desc := "(II)I" } : Jvm.MethodName) prog_1_method_28_code (4 : Nat) (Option.some Jvm.ClassFile.FieldType.int)) ∈ lw_all := lw_g (lw_at lw_m10 37 rfl) rfl
theorem q2280 : (Jvm.Cond.methodLink "CableTrayPlanner" (228 : Nat) ({ cls := "CableTrayPlanner$Plan", name := "tray", desc := "(I)LCableTrayPlanner$Tray;" } : Jvm.MethodName)) ∈ lw_all := lw_g (lw_at lw_m10 38 rfl) rfl
theorem q2281 : (Jvm.Cond.methodLink "CableTrayPlanner" (246 : Nat) ({ cls := "CableTrayPlanner$Tray", name := "room", desc := "()I" } : Jvm.MethodName)) ∈ lw_all := lw_g (lw_at lw_m10 39 rfl) rfl
theorem q2282 : (Jvm.Cond.methodLink "CableTrayPlanner" (249 : Nat) ({ cls := "CableTrayPlanner$Tray", name := "kept", desc := "(I)I" } : Jvm.MethodName)) ∈ lw_all := lw_g (lw_at lw_m10 40 rfl) rfl
theorem q2283 : (Jvm.Cond.methodLink "CableTrayPlanner" (252 : Nat) ({ cls := "CableTrayPlanner$Tray", name := "filled", desc := "()I" } : Jvm.MethodName)) ∈ lw_all := lw_g (lw_at lw_m10 41 rfl) rfl
theorem q2287 : (Jvm.Cond.methodLink "CableTrayPlanner" (255 : Nat) ({ cls := "CableTrayPlanner$Tray", name := "count", desc := "()I" } : Jvm.MethodName)) ∈ lw_all := lw_g (lw_at lw_m10 45 rfl) rfl
theorem q2288 : (Jvm.Cond.methodLink "CableTrayPlanner" (258 : Nat) ({ cls := "CableTrayPlanner$Tray", name := "free", desc := "()I" } : Jvm.MethodName)) ∈ lw_all := lw_g (lw_at lw_m10 46 rfl) rfl
theorem q2296 : (Jvm.Cond.instanceMethod ({ cls := "CableTrayPlanner", name := "compartment", desc := "(IIZ)I" } : Jvm.MethodName)) ∈ lw_all := lw_g (lw_at lw_m10 54 rfl) rfl
theorem q2297 : (Jvm.Cond.selects "CableTrayPlanner" ({ cls := "CableTrayPlanner", name := "compartment", desc := "(IIZ)I" } : Jvm.MethodName) ({ cls := "CableTrayPlanner", name := "compartment", desc := "(IIZ)I" } : Jvm.MethodName)) ∈ lw_all := lw_g (lw_at lw_m10 55 rfl) rfl
theorem q2298 : (Jvm.Cond.code ({ cls := "CableTrayPlanner", name := "compartment", desc := "(IIZ)I" } : Jvm.MethodName) prog_1_method_29_code (5 : Nat) (Option.some Jvm.ClassFile.FieldType.int)) ∈ lw_all := lw_g (lw_at lw_m10 56 rfl) rfl
theorem q2303 : (Jvm.Cond.instanceMethod ({ cls := "CableTrayPlanner", name := "fits", desc := "(II)Z" } : Jvm.MethodName)) ∈ lw_all := lw_g (lw_at lw_m10 61 rfl) rfl
theorem q2304 : (Jvm.Cond.selects "CableTrayPlanner" ({ cls := "CableTrayPlanner", name := "fits", desc := "(II)Z" } : Jvm.MethodName) ({ cls := "CableTrayPlanner", name := "fits", desc := "(II)Z" } : Jvm.MethodName)) ∈ lw_all := lw_g (lw_at lw_m10 62 rfl) rfl
theorem q2305 : (Jvm.Cond.code ({ cls := "CableTrayPlanner", name := "fits", desc := "(II)Z" } : Jvm.MethodName) prog_1_method_30_code (4 : Nat) (Option.some Jvm.ClassFile.FieldType.boolean)) ∈ lw_all := lw_g (lw_at lw_m10 63 rfl) rfl
theorem q2306 : (Jvm.Cond.methodLink "CableTrayPlanner" (262 : Nat) ({ cls := "CableTrayPlanner$Plan", name := "fits", desc := "(ILCableTrayPlanner$Type;)Z" } : Jvm.MethodName)) ∈ lw_all := lw_g (lw_at lw_m10 64 rfl) rfl
theorem q2311 : (Jvm.Cond.instanceMethod ({ cls := "CableTrayPlanner", name := "cable", desc := "(II)I" } : Jvm.MethodName)) ∈ lw_all := lw_g (lw_at lw_m10 69 rfl) rfl
theorem q2312 : (Jvm.Cond.selects "CableTrayPlanner" ({ cls := "CableTrayPlanner", name := "cable", desc := "(II)I" } : Jvm.MethodName) ({ cls := "CableTrayPlanner", name := "cable", desc := "(II)I" } : Jvm.MethodName)) ∈ lw_all := lw_g (lw_at lw_m10 70 rfl) rfl
theorem q2313 : (Jvm.Cond.code ({ cls := "CableTrayPlanner", name := "cable", desc := "(II)I" } : Jvm.MethodName) prog_1_method_31_code (4 : Nat) (Option.some Jvm.ClassFile.FieldType.int)) ∈ lw_all := lw_g (lw_at lw_m10 71 rfl) rfl
theorem q2314 : (Jvm.Cond.methodLink "CableTrayPlanner" (266 : Nat) ({ cls := "CableTrayPlanner$Plan", name := "cable", desc := "(I)LCableTrayPlanner$Cable;" } : Jvm.MethodName)) ∈ lw_all := lw_g (lw_at lw_m10 72 rfl) rfl
theorem q2315 : (Jvm.Cond.methodLink "CableTrayPlanner" (278 : Nat) ({ cls := "CableTrayPlanner$Plan", name := "routeLength", desc := "(LCableTrayPlanner$Cable;)I" } : Jvm.MethodName)) ∈ lw_all := lw_g (lw_at lw_m10 73 rfl) rfl
theorem q2316 : (Jvm.Cond.methodLink "CableTrayPlanner" (282 : Nat) ({ cls := "CableTrayPlanner$Plan", name := "needed", desc := "(LCableTrayPlanner$Cable;)I" } : Jvm.MethodName)) ∈ lw_all := lw_g (lw_at lw_m10 74 rfl) rfl
theorem q2321 : (Jvm.Cond.instanceMethod ({ cls := "CableTrayPlanner", name := "step", desc := "(IIZ)I" } : Jvm.MethodName)) ∈ lw_all := lw_g (lw_at lw_m10 79 rfl) rfl
theorem q2322 : (Jvm.Cond.selects "CableTrayPlanner" ({ cls := "CableTrayPlanner", name := "step", desc := "(IIZ)I" } : Jvm.MethodName) ({ cls := "CableTrayPlanner", name := "step", desc := "(IIZ)I" } : Jvm.MethodName)) ∈ lw_all := lw_g (lw_at lw_m10 80 rfl) rfl
theorem q2323 : (Jvm.Cond.code ({ cls := "CableTrayPlanner", name := "step", desc := "(IIZ)I" } : Jvm.MethodName) prog_1_method_32_code (6 : Nat) (Option.some Jvm.ClassFile.FieldType.int)) ∈ lw_all := lw_g (lw_at lw_m10 81 rfl) rfl
theorem q2324 : (Jvm.Cond.methodLink "CableTrayPlanner" (288 : Nat) ({ cls := "java/util/ArrayList", name := "get", desc := "(I)Ljava/lang/Object;" } : Jvm.MethodName)) ∈ lw_all := lw_g (lw_at lw_m10 82 rfl) rfl
theorem q2325 : (Jvm.Cond.classLink "CableTrayPlanner" (292 : Nat) "CableTrayPlanner$Step") ∈ lw_all := lw_g (lw_at lw_m10 83 rfl) rfl
theorem q2330 : (Jvm.Cond.instanceMethod ({ cls := "CableTrayPlanner", name := "shortest", desc := "(III)I" } : Jvm.MethodName)) ∈ lw_all := lw_g (lw_at lw_m10 88 rfl) rfl
theorem q2331 : (Jvm.Cond.selects "CableTrayPlanner" ({ cls := "CableTrayPlanner", name := "shortest", desc := "(III)I" } : Jvm.MethodName) ({ cls := "CableTrayPlanner", name := "shortest", desc := "(III)I" } : Jvm.MethodName)) ∈ lw_all := lw_g (lw_at lw_m10 89 rfl) rfl
theorem q2332 : (Jvm.Cond.code ({ cls := "CableTrayPlanner", name := "shortest", desc := "(III)I" } : Jvm.MethodName) prog_1_method_33_code (5 : Nat) (Option.some Jvm.ClassFile.FieldType.int)) ∈ lw_all := lw_g (lw_at lw_m10 90 rfl) rfl
theorem q2333 : (Jvm.Cond.methodLink "CableTrayPlanner" (299 : Nat) ({ cls := "CableTrayPlanner", name := "checkPlace", desc := "(I)V" } : Jvm.MethodName)) ∈ lw_all := lw_g (lw_at lw_m10 91 rfl) rfl
theorem q2334 : (Jvm.Cond.methodLink "CableTrayPlanner" (303 : Nat) ({ cls := "CableTrayPlanner$Plan", name := "shortest", desc := "(III)I" } : Jvm.MethodName)) ∈ lw_all := lw_g (lw_at lw_m10 92 rfl) rfl
theorem q2342 : (Jvm.Cond.instanceMethod ({ cls := "CableTrayPlanner", name := "drum", desc := "(II)I" } : Jvm.MethodName)) ∈ lw_all := lw_g (lw_at lw_m10 100 rfl) rfl
theorem q2343 : (Jvm.Cond.selects "CableTrayPlanner" ({ cls := "CableTrayPlanner", name := "drum", desc := "(II)I" } : Jvm.MethodName) ({ cls := "CableTrayPlanner", name := "drum", desc := "(II)I" } : Jvm.MethodName)) ∈ lw_all := lw_g (lw_at lw_m10 101 rfl) rfl
theorem q2344 : (Jvm.Cond.code ({ cls := "CableTrayPlanner", name := "drum", desc := "(II)I" } : Jvm.MethodName) prog_1_method_34_code (4 : Nat) (Option.some Jvm.ClassFile.FieldType.int)) ∈ lw_all := lw_g (lw_at lw_m10 102 rfl) rfl
theorem q2345 : (Jvm.Cond.methodLink "CableTrayPlanner" (306 : Nat) ({ cls := "CableTrayPlanner$Plan", name := "drum", desc := "(I)LCableTrayPlanner$Drum;" } : Jvm.MethodName)) ∈ lw_all := lw_g (lw_at lw_m10 103 rfl) rfl
theorem q2349 : (Jvm.Cond.methodLink "CableTrayPlanner" (309 : Nat) ({ cls := "CableTrayPlanner$Plan", name := "cutFrom", desc := "(I)I" } : Jvm.MethodName)) ∈ lw_all := lw_g (lw_at lw_m10 107 rfl) rfl
theorem q2357 : (Jvm.Cond.instanceMethod ({ cls := "CableTrayPlanner", name := "fewestDrums", desc := "(I)I" } : Jvm.MethodName)) ∈ lw_all := lw_g (lw_at lw_m10 115 rfl) rfl
theorem q2358 : (Jvm.Cond.selects "CableTrayPlanner" ({ cls := "CableTrayPlanner", name := "fewestDrums", desc := "(I)I" } : Jvm.MethodName) ({ cls := "CableTrayPlanner", name := "fewestDrums", desc := "(I)I" } : Jvm.MethodName)) ∈ lw_all := lw_g (lw_at lw_m10 116 rfl) rfl
theorem q2359 : (Jvm.Cond.code ({ cls := "CableTrayPlanner", name := "fewestDrums", desc := "(I)I" } : Jvm.MethodName) prog_1_method_35_code (3 : Nat) (Option.some Jvm.ClassFile.FieldType.int)) ∈ lw_all := lw_g (lw_at lw_m10 117 rfl) rfl
theorem q2360 : (Jvm.Cond.methodLink "CableTrayPlanner" (315 : Nat) ({ cls := "CableTrayPlanner$Plan", name := "fewestDrums", desc := "(I)I" } : Jvm.MethodName)) ∈ lw_all := lw_g (lw_at lw_m10 118 rfl) rfl
theorem q2402 : (Jvm.Cond.instanceMethod ({ cls := "CableTrayPlanner", name := "cablesIn", desc := "(I)I" } : Jvm.MethodName)) ∈ lw_all := lw_g (lw_at lw_m10 160 rfl) rfl
theorem q2403 : (Jvm.Cond.selects "CableTrayPlanner" ({ cls := "CableTrayPlanner", name := "cablesIn", desc := "(I)I" } : Jvm.MethodName) ({ cls := "CableTrayPlanner", name := "cablesIn", desc := "(I)I" } : Jvm.MethodName)) ∈ lw_all := lw_g (lw_at lw_m10 161 rfl) rfl
theorem q2404 : (Jvm.Cond.code ({ cls := "CableTrayPlanner", name := "cablesIn", desc := "(I)I" } : Jvm.MethodName) prog_1_method_36_code (5 : Nat) (Option.some Jvm.ClassFile.FieldType.int)) ∈ lw_all := lw_g (lw_at lw_m10 162 rfl) rfl
theorem q2405 : (Jvm.Cond.methodLink "CableTrayPlanner" (318 : Nat) ({ cls := "CableTrayPlanner$Cable", name := "compartmentIn", desc := "(I)I" } : Jvm.MethodName)) ∈ lw_all := lw_g (lw_at lw_m10 163 rfl) rfl
theorem q2410 : (Jvm.Cond.instanceMethod ({ cls := "CableTrayPlanner", name := "fullest", desc := "()I" } : Jvm.MethodName)) ∈ lw_all := lw_g (lw_at lw_m10 168 rfl) rfl
theorem q2411 : (Jvm.Cond.selects "CableTrayPlanner" ({ cls := "CableTrayPlanner", name := "fullest", desc := "()I" } : Jvm.MethodName) ({ cls := "CableTrayPlanner", name := "fullest", desc := "()I" } : Jvm.MethodName)) ∈ lw_all := lw_g (lw_at lw_m10 169 rfl) rfl
theorem q2412 : (Jvm.Cond.code ({ cls := "CableTrayPlanner", name := "fullest", desc := "()I" } : Jvm.MethodName) prog_1_method_37_code (5 : Nat) (Option.some Jvm.ClassFile.FieldType.int)) ∈ lw_all := lw_g (lw_at lw_m10 170 rfl) rfl
theorem q2413 : (Jvm.Cond.methodLink "CableTrayPlanner" (321 : Nat) ({ cls := "java/util/ArrayList", name := "isEmpty", desc := "()Z" } : Jvm.MethodName)) ∈ lw_all := lw_g (lw_at lw_m10 171 rfl) rfl
theorem q2414 : (Jvm.Cond.classLink "CableTrayPlanner" (233 : Nat) "CableTrayPlanner$Tray") ∈ lw_all := lw_g (lw_at lw_m10 172 rfl) rfl
theorem q2419 : (Jvm.Cond.instanceMethod ({ cls := "CableTrayPlanner", name := "fill", desc := "(I)F" } : Jvm.MethodName)) ∈ lw_all := lw_g (lw_at lw_m10 177 rfl) rfl
theorem q2420 : (Jvm.Cond.selects "CableTrayPlanner" ({ cls := "CableTrayPlanner", name := "fill", desc := "(I)F" } : Jvm.MethodName) ({ cls := "CableTrayPlanner", name := "fill", desc := "(I)F" } : Jvm.MethodName)) ∈ lw_all := lw_g (lw_at lw_m10 178 rfl) rfl
theorem q2421 : (Jvm.Cond.code ({ cls := "CableTrayPlanner", name := "fill", desc := "(I)F" } : Jvm.MethodName) prog_1_method_38_code (3 : Nat) (Option.some Jvm.ClassFile.FieldType.float)) ∈ lw_all := lw_g (lw_at lw_m10 179 rfl) rfl
theorem q2440 : (Jvm.Cond.instanceMethod ({ cls := "CableTrayPlanner", name := "meanLength", desc := "()D" } : Jvm.MethodName)) ∈ lw_all := lw_g (lw_at lw_m10 198 rfl) rfl
theorem q2441 : (Jvm.Cond.selects "CableTrayPlanner" ({ cls := "CableTrayPlanner", name := "meanLength", desc := "()D" } : Jvm.MethodName) ({ cls := "CableTrayPlanner", name := "meanLength", desc := "()D" } : Jvm.MethodName)) ∈ lw_all := lw_g (lw_at lw_m10 199 rfl) rfl
theorem q2442 : (Jvm.Cond.code ({ cls := "CableTrayPlanner", name := "meanLength", desc := "()D" } : Jvm.MethodName) prog_1_method_39_code (5 : Nat) (Option.some Jvm.ClassFile.FieldType.double)) ∈ lw_all := lw_g (lw_at lw_m10 200 rfl) rfl
theorem q2443 : (Jvm.Cond.methodLink "CableTrayPlanner" (324 : Nat) ({ cls := "CableTrayPlanner", name := "checkNumbers", desc := "(Z)V" } : Jvm.MethodName)) ∈ lw_all := lw_g (lw_at lw_m10 201 rfl) rfl
theorem q2444 : (Jvm.Cond.static ({ cls := "CableTrayPlanner", name := "checkNumbers", desc := "(Z)V" } : Jvm.MethodName)) ∈ lw_all := lw_g (lw_at lw_m10 202 rfl) rfl
theorem q2445 : (Jvm.Cond.code ({ cls := "CableTrayPlanner", name := "checkNumbers", desc := "(Z)V" } : Jvm.MethodName) prog_1_method_6_code (1 : Nat) (Option.none : Option Jvm.ClassFile.FieldType)) ∈ lw_all := lw_g (lw_at lw_m10 203 rfl) rfl
theorem q2446 : (Jvm.Cond.classLink "CableTrayPlanner" (16 : Nat) "java/lang/ArithmeticException") ∈ lw_all := lw_g (lw_at lw_m10 204 rfl) rfl
theorem q2447 : (Jvm.Cond.methodLink "CableTrayPlanner" (18 : Nat) ({ cls := "java/lang/ArithmeticException", name := "<init>", desc := "()V" } : Jvm.MethodName)) ∈ lw_all := lw_g (lw_at lw_m10 205 rfl) rfl
theorem q2455 : (Jvm.Cond.instanceMethod ({ cls := "CableTrayPlanner", name := "append", desc := "(I)I" } : Jvm.MethodName)) ∈ lw_all := lw_g (lw_at lw_m10 213 rfl) rfl
theorem q2456 : (Jvm.Cond.selects "CableTrayPlanner" ({ cls := "CableTrayPlanner", name := "append", desc := "(I)I" } : Jvm.MethodName) ({ cls := "CableTrayPlanner", name := "append", desc := "(I)I" } : Jvm.MethodName)) ∈ lw_all := lw_g (lw_at lw_m10 214 rfl) rfl
theorem q2457 : (Jvm.Cond.code ({ cls := "CableTrayPlanner", name := "append", desc := "(I)I" } : Jvm.MethodName) prog_1_method_41_code (5 : Nat) (Option.some Jvm.ClassFile.FieldType.int)) ∈ lw_all := lw_g (lw_at lw_m10 215 rfl) rfl
theorem q2458 : (Jvm.Cond.constantLong "CableTrayPlanner" (330 : Nat) (32 : Int64)) ∈ lw_all := lw_g (lw_at lw_m10 216 rfl) rfl
theorem q2459 : (Jvm.Cond.constantLong "CableTrayPlanner" (332 : Nat) (126 : Int64)) ∈ lw_all := lw_g (lw_at lw_m10 217 rfl) rfl
theorem q2460 : (Jvm.Cond.methodLink "CableTrayPlanner" (334 : Nat) ({ cls := "java/lang/StringBuilder", name := "append", desc := "(C)Ljava/lang/StringBuilder;" } : Jvm.MethodName)) ∈ lw_all := lw_g (lw_at lw_m10 218 rfl) rfl
theorem q2477 : (Jvm.Cond.instanceMethod ({ cls := "CableTrayPlanner", name := "read", desc := "()I" } : Jvm.MethodName)) ∈ lw_all := lw_g (lw_at lw_m10 235 rfl) rfl
theorem q2478 : (Jvm.Cond.selects "CableTrayPlanner" ({ cls := "CableTrayPlanner", name := "read", desc := "()I" } : Jvm.MethodName) ({ cls := "CableTrayPlanner", name := "read", desc := "()I" } : Jvm.MethodName)) ∈ lw_all := lw_g (lw_at lw_m10 236 rfl) rfl
theorem q2479 : (Jvm.Cond.codeWith ({ cls := "CableTrayPlanner", name := "read", desc := "()I" } : Jvm.MethodName) prog_1_method_43_code (4 : Nat) (Option.some Jvm.ClassFile.FieldType.int) [((31 : Nat), (54 : Nat), (55 : Nat), (361 : Nat)), ((31 : Nat), (54 : Nat), (69 : Nat), (344 : Nat))]) ∈ lw_all := lw_g (lw_at lw_m10 237 rfl) rfl
theorem q2480 : (Jvm.Cond.classLink "CableTrayPlanner" (361 : Nat) "CableTrayPlanner$SyntaxException") ∈ lw_all := lw_g (lw_at lw_m10 238 rfl) rfl
theorem q2481 : (Jvm.Cond.classLink "CableTrayPlanner" (344 : Nat) "CableTrayPlanner$ItemException") ∈ lw_all := lw_g (lw_at lw_m10 239 rfl) rfl
theorem q2482 : (Jvm.Cond.classLink "CableTrayPlanner" (349 : Nat) "CableTrayPlanner$Parser") ∈ lw_all := lw_g (lw_at lw_m11 0 rfl) rfl
theorem q2484 : (Jvm.Cond.methodLink "CableTrayPlanner" (351 : Nat) ({ cls := "CableTrayPlanner$Parser", name := "<init>", desc := "(Ljava/lang/CharSequence;)V" } : Jvm.MethodName)) ∈ lw_all := lw_g (lw_at lw_m11 2 rfl) rfl
theorem q2495 : (Jvm.Cond.methodLink "CableTrayPlanner" (354 : Nat) ({ cls := "CableTrayPlanner$Parser", name := "items", desc := "()Ljava/util/ArrayList;" } : Jvm.MethodName)) ∈ lw_all := lw_g (lw_at lw_m11 13 rfl) rfl
theorem q2562 : (Jvm.Cond.fieldLinkNest "CableTrayPlanner" (374 : Nat) "CableTrayPlanner$SyntaxException" "position" "I" "CableTrayPlanner") ∈ lw_tbl := lw_at lw_m11 80 rfl
theorem q2662 : (Jvm.Cond.methodLink "CableTrayPlanner" (358 : Nat) ({ cls := "CableTrayPlanner", name := "carryOut", desc := "(Ljava/util/ArrayList;LCableTrayPlanner$Plan;)I" } : Jvm.MethodName)) ∈ lw_all := lw_g (lw_at lw_m11 180 rfl) rfl
theorem q2663 : (Jvm.Cond.static ({ cls := "CableTrayPlanner", name := "carryOut", desc := "(Ljava/util/ArrayList;LCableTrayPlanner$Plan;)I" } : Jvm.MethodName)) ∈ lw_all := lw_g (lw_at lw_m11 181 rfl) rfl
theorem q2664 : (Jvm.Cond.codeWith ({ cls := "CableTrayPlanner", name := "carryOut", desc := "(Ljava/util/ArrayList;LCableTrayPlanner$Plan;)I" } : Jvm.MethodName) prog_1_method_42_code (6 : Nat) (Option.some Jvm.ClassFile.FieldType.int) [((2 : Nat), (41 : Nat), (44 : Nat), (7 : Nat)), ((2 : Nat), (41 : Nat), (44 : Nat), (10 : Nat)), ((2 : Nat), (41 : Nat), (44 : Nat), (1 : Nat))]) ∈ lw_all := lw_g (lw_at lw_m11 182 rfl) rfl
theorem q2665 : (Jvm.Cond.classLink "CableTrayPlanner" (338 : Nat) "CableTrayPlanner$Item") ∈ lw_all := lw_g (lw_at lw_m11 183 rfl) rfl
theorem q2666 : (Jvm.Cond.methodLink "CableTrayPlanner" (340 : Nat) ({ cls := "CableTrayPlanner$Item", name := "carryOut", desc := "(LCableTrayPlanner$Plan;)I" } : Jvm.MethodName)) ∈ lw_all := lw_g (lw_at lw_m11 184 rfl) rfl
theorem q2683 : (Jvm.Cond.fieldLinkNest "CableTrayPlanner" (202 : Nat) "CableTrayPlanner$Type" "name" "Ljava/lang/String;" "CableTrayPlanner") ∈ lw_tbl := lw_at lw_m11 201 rfl
theorem q2686 : (Jvm.Cond.fieldLinkNest "CableTrayPlanner" (194 : Nat) "CableTrayPlanner$Type" "level" "I" "CableTrayPlanner") ∈ lw_tbl := lw_at lw_m11 204 rfl
theorem q2690 : (Jvm.Cond.fieldLinkNest "CableTrayPlanner" (199 : Nat) "CableTrayPlanner$Type" "area" "I" "CableTrayPlanner") ∈ lw_tbl := lw_at lw_m11 208 rfl
theorem q2716 : (Jvm.Cond.methodLink "CableTrayPlanner" (346 : Nat) ({ cls := "CableTrayPlanner$ItemException", name := "<init>", desc := "(ILjava/lang/RuntimeException;)V" } : Jvm.MethodName)) ∈ lw_all := lw_g (lw_at lw_m11 234 rfl) rfl
theorem q2721 : (Jvm.Cond.fieldLinkNest "CableTrayPlanner" (377 : Nat) "CableTrayPlanner$ItemException" "number" "I" "CableTrayPlanner") ∈ lw_tbl := lw_at lw_m11 239 rfl
theorem q2726 : (Jvm.Cond.classLink "CableTrayPlanner" (371 : Nat) "java/lang/UnsupportedOperationException") ∈ lw_all := lw_g (lw_at lw_m12 4 rfl) rfl
theorem q2727 : (Jvm.Cond.methodLink "CableTrayPlanner" (373 : Nat) ({ cls := "java/lang/UnsupportedOperationException", name := "<init>", desc := "()V" } : Jvm.MethodName)) ∈ lw_all := lw_g (lw_at lw_m12 5 rfl) rfl
theorem q2732 : (Jvm.Cond.instanceMethod ({ cls := "CableTrayPlanner", name := "errorPosition", desc := "()I" } : Jvm.MethodName)) ∈ lw_all := lw_g (lw_at lw_m12 10 rfl) rfl
theorem q2733 : (Jvm.Cond.selects "CableTrayPlanner" ({ cls := "CableTrayPlanner", name := "errorPosition", desc := "()I" } : Jvm.MethodName) ({ cls := "CableTrayPlanner", name := "errorPosition", desc := "()I" } : Jvm.MethodName)) ∈ lw_all := lw_g (lw_at lw_m12 11 rfl) rfl
theorem q2734 : (Jvm.Cond.code ({ cls := "CableTrayPlanner", name := "errorPosition", desc := "()I" } : Jvm.MethodName) prog_1_method_44_code (1 : Nat) (Option.some Jvm.ClassFile.FieldType.int)) ∈ lw_all := lw_g (lw_at lw_m12 12 rfl) rfl
theorem q2739 : (Jvm.Cond.instanceMethod ({ cls := "CableTrayPlanner", name := "refusedItem", desc := "()I" } : Jvm.MethodName)) ∈ lw_all := lw_g (lw_at lw_m12 17 rfl) rfl
theorem q2740 : (Jvm.Cond.selects "CableTrayPlanner" ({ cls := "CableTrayPlanner", name := "refusedItem", desc := "()I" } : Jvm.MethodName) ({ cls := "CableTrayPlanner", name := "refusedItem", desc := "()I" } : Jvm.MethodName)) ∈ lw_all := lw_g (lw_at lw_m12 18 rfl) rfl
theorem q2741 : (Jvm.Cond.code ({ cls := "CableTrayPlanner", name := "refusedItem", desc := "()I" } : Jvm.MethodName) prog_1_method_45_code (1 : Nat) (Option.some Jvm.ClassFile.FieldType.int)) ∈ lw_all := lw_g (lw_at lw_m12 19 rfl) rfl
theorem q2746 : (Jvm.Cond.instanceMethod ({ cls := "CableTrayPlanner", name := "undo", desc := "()I" } : Jvm.MethodName)) ∈ lw_all := lw_g (lw_at lw_m12 24 rfl) rfl
theorem q2747 : (Jvm.Cond.selects "CableTrayPlanner" ({ cls := "CableTrayPlanner", name := "undo", desc := "()I" } : Jvm.MethodName) ({ cls := "CableTrayPlanner", name := "undo", desc := "()I" } : Jvm.MethodName)) ∈ lw_all := lw_g (lw_at lw_m12 25 rfl) rfl
theorem q2748 : (Jvm.Cond.code ({ cls := "CableTrayPlanner", name := "undo", desc := "()I" } : Jvm.MethodName) prog_1_method_46_code (1 : Nat) (Option.some Jvm.ClassFile.FieldType.int)) ∈ lw_all := lw_g (lw_at lw_m12 26 rfl) rfl
theorem q2749 : (Jvm.Cond.methodLink "CableTrayPlanner" (380 : Nat) ({ cls := "java/util/ArrayDeque", name := "isEmpty", desc := "()Z" } : Jvm.MethodName)) ∈ lw_all := lw_g (lw_at lw_m12 27 rfl) rfl
theorem q2753 : (Jvm.Cond.methodLink "CableTrayPlanner" (381 : Nat) ({ cls := "java/util/ArrayDeque", name := "removeLast", desc := "()Ljava/lang/Object;" } : Jvm.MethodName)) ∈ lw_all := lw_g (lw_at lw_m12 31 rfl) rfl
theorem q2768 : (Jvm.Cond.instanceMethod ({ cls := "CableTrayPlanner", name := "restore", desc := "()I" } : Jvm.MethodName)) ∈ lw_all := lw_g (lw_at lw_m12 46 rfl) rfl
theorem q2769 : (Jvm.Cond.selects "CableTrayPlanner" ({ cls := "CableTrayPlanner", name := "restore", desc := "()I" } : Jvm.MethodName) ({ cls := "CableTrayPlanner", name := "restore", desc := "()I" } : Jvm.MethodName)) ∈ lw_all := lw_g (lw_at lw_m12 47 rfl) rfl
theorem q2770 : (Jvm.Cond.code ({ cls := "CableTrayPlanner", name := "restore", desc := "()I" } : Jvm.MethodName) prog_1_method_48_code (1 : Nat) (Option.some Jvm.ClassFile.FieldType.int)) ∈ lw_all := lw_g (lw_at lw_m12 48 rfl) rfl
theorem q3231 : (Jvm.Cond.castable "CableTrayPlanner" "java/lang/Object") ∈ lw_tbl := lw_at lw_m14 29 rfl
theorem in_X1 : ∀ w ∈ wsX10, w ∈ lw_all := lw_in wsX10 [312, 314, 316, 318, 320, 322, 324] (by decide +kernel) (by decide +kernel)

/-! CableTrayPlanner$Plan -/
set_option maxRecDepth 100000
def RX2 : String := "CableTrayPlanner$Plan"
def TX2 : u_T := fun k => match k with
  | 0 => ("CableTrayPlanner$Plan", "types", "Ljava/util/ArrayList;", true)
  | 1 => ("CableTrayPlanner$Plan", "names", "Ljava/util/HashMap;", true)
  | 2 => ("CableTrayPlanner$Plan", "trays", "Ljava/util/ArrayList;", true)
  | 3 => ("CableTrayPlanner$Plan", "cables", "Ljava/util/ArrayList;", true)
  | 4 => ("CableTrayPlanner$Plan", "drums", "Ljava/util/ArrayList;", true)
  | 5 => ("CableTrayPlanner$Plan", "spare", "I", false)
  | 6 => ("CableTrayPlanner$Plan", "tail", "I", false)
  | _ => ("CableTrayPlanner$Plan", "waste", "I", false)
def tyX2 : Nat → FieldType := fun k => match k with
  | 0 => .object "java/util/ArrayList"
  | 1 => .object "java/util/HashMap"
  | 2 => .object "java/util/ArrayList"
  | 3 => .object "java/util/ArrayList"
  | 4 => .object "java/util/ArrayList"
  | 5 => .int
  | 6 => .int
  | _ => .int
abbrev wsX20 : List Cond := u_ws RX2 TX2 8
theorem nmX2 : ∀ a, a < 8 → ∀ b, b < 8 → a ≠ b → (TX2 a).2.1 ≠ (TX2 b).2.1 := by decide +kernel
theorem tyX2_ok : ∀ k, k < 8 → parseFieldDescriptor (TX2 k).2.2.1 = some (tyX2 k) := by decide +kernel
abbrev cX2_init : ByteArray := prog_11_method_1_code
def yX2_init : MethodName := ⟨RX2, "<init>", "()V"⟩
abbrev cX2_typeNamed : ByteArray := prog_11_method_8_code
def yX2_typeNamed : MethodName := ⟨RX2, "typeNamed", "(Ljava/lang/String;)I"⟩
abbrev cX2_isConsistent : ByteArray := prog_11_method_38_code
def yX2_isConsistent : MethodName := ⟨RX2, "isConsistent", "()Z"⟩
abbrev cX2_rests : ByteArray := prog_11_method_33_code
def yX2_rests : MethodName := ⟨RX2, "rests", "()I"⟩
abbrev cX2_cutLengths : ByteArray := prog_11_method_35_code
def yX2_cutLengths : MethodName := ⟨RX2, "cutLengths", "()I"⟩
abbrev cX2_firsts : ByteArray := prog_11_method_34_code
def yX2_firsts : MethodName := ⟨RX2, "firsts", "()I"⟩
abbrev cX2_leads : ByteArray := prog_11_method_36_code
def yX2_leads : MethodName := ⟨RX2, "leads", "(LCableTrayPlanner$Cable;)Z"⟩
abbrev cX2_holds : ByteArray := prog_11_method_37_code
def yX2_holds : MethodName := ⟨RX2, "holds", "(II)Z"⟩
abbrev cX2_copy : ByteArray := prog_11_method_2_code
def yX2_copy : MethodName := ⟨RX2, "copy", "()LCableTrayPlanner$Plan;"⟩
abbrev cX2_add : ByteArray := prog_11_method_3_code
def yX2_add : MethodName := ⟨RX2, "add", "(LCableTrayPlanner$Type;)V"⟩
abbrev cX2_addTray : ByteArray := prog_11_method_10_code
def yX2_addTray : MethodName := ⟨RX2, "addTray", "(IIIII)I"⟩
abbrev cX2_dropTray : ByteArray := prog_11_method_11_code
def yX2_dropTray : MethodName := ⟨RX2, "dropTray", "(I)I"⟩
abbrev cX2_tray : ByteArray := prog_11_method_5_code
def yX2_tray : MethodName := ⟨RX2, "tray", "(I)LCableTrayPlanner$Tray;"⟩
abbrev cX2_addCable : ByteArray := prog_11_method_12_code
def yX2_addCable : MethodName := ⟨RX2, "addCable", "(III)I"⟩
abbrev cX2_type : ByteArray := prog_11_method_4_code
def yX2_type : MethodName := ⟨RX2, "type", "(I)LCableTrayPlanner$Type;"⟩
abbrev cX2_addDrum : ByteArray := prog_11_method_13_code
def yX2_addDrum : MethodName := ⟨RX2, "addDrum", "(II)I"⟩
abbrev cX2_route : ByteArray := prog_11_method_20_code
def yX2_route : MethodName := ⟨RX2, "route", "(I)I"⟩
abbrev cX2_cableToChange : ByteArray := prog_11_method_18_code
def yX2_cableToChange : MethodName := ⟨RX2, "cableToChange", "(II)LCableTrayPlanner$Cable;"⟩
abbrev cX2_traysAt : ByteArray := prog_11_method_15_code
def yX2_traysAt : MethodName := ⟨RX2, "traysAt", "(I)Ljava/lang/Iterable;"⟩
abbrev cX2_fits : ByteArray := prog_11_method_14_code
def yX2_fits : MethodName := ⟨RX2, "fits", "(ILCableTrayPlanner$Type;)Z"⟩
abbrev cX2_full : ByteArray := prog_11_method_17_code
def yX2_full : MethodName := ⟨RX2, "full", "(LCableTrayPlanner$Type;)LCableTrayPlanner$Refusal;"⟩
abbrev cX2_lay : ByteArray := prog_11_method_19_code
def yX2_lay : MethodName := ⟨RX2, "lay", "(LCableTrayPlanner$Cable;LCableTrayPlanner$Type;LCableTrayPlanner$Plan$Search;)V"⟩
abbrev cX2_needed : ByteArray := prog_11_method_24_code
def yX2_needed : MethodName := ⟨RX2, "needed", "(LCableTrayPlanner$Cable;)I"⟩
abbrev cX2_routeLength : ByteArray := prog_11_method_23_code
def yX2_routeLength : MethodName := ⟨RX2, "routeLength", "(LCableTrayPlanner$Cable;)I"⟩
abbrev cX2_cut : ByteArray := prog_11_method_26_code
def yX2_cut : MethodName := ⟨RX2, "cut", "(I)I"⟩
abbrev cX2_greatestRest : ByteArray := prog_11_method_25_code
def yX2_greatestRest : MethodName := ⟨RX2, "greatestRest", "(I)I"⟩
abbrev cX2_free : ByteArray := prog_11_method_22_code
def yX2_free : MethodName := ⟨RX2, "free", "(I)I"⟩
abbrev cX2_cable : ByteArray := prog_11_method_6_code
def yX2_cable : MethodName := ⟨RX2, "cable", "(I)LCableTrayPlanner$Cable;"⟩
abbrev cX2_leave : ByteArray := prog_11_method_21_code
def yX2_leave : MethodName := ⟨RX2, "leave", "(LCableTrayPlanner$Cable;)I"⟩
abbrev cX2_scrap : ByteArray := prog_11_method_27_code
def yX2_scrap : MethodName := ⟨RX2, "scrap", "(I)I"⟩
abbrev cX2_shortest : ByteArray := prog_11_method_16_code
def yX2_shortest : MethodName := ⟨RX2, "shortest", "(III)I"⟩
abbrev cX2_drum : ByteArray := prog_11_method_7_code
def yX2_drum : MethodName := ⟨RX2, "drum", "(I)LCableTrayPlanner$Drum;"⟩
abbrev cX2_cutFrom : ByteArray := prog_11_method_32_code
def yX2_cutFrom : MethodName := ⟨RX2, "cutFrom", "(I)I"⟩
abbrev cX2_fewestDrums : ByteArray := prog_11_method_31_code
def yX2_fewestDrums : MethodName := ⟨RX2, "fewestDrums", "(I)I"⟩
abbrev cX2_needs : ByteArray := prog_11_method_28_code
def yX2_needs : MethodName := ⟨RX2, "needs", "(I)Ljava/util/ArrayList;"⟩
abbrev cX2_rests_2 : ByteArray := prog_11_method_29_code
def yX2_rests_2 : MethodName := ⟨RX2, "rests", "(I)Ljava/util/ArrayList;"⟩
abbrev cX2_behind : ByteArray := prog_11_method_30_code
def yX2_behind : MethodName := ⟨RX2, "behind", "(IILjava/util/ArrayList;)I"⟩
abbrev cX2_addType : ByteArray := prog_11_method_9_code
def yX2_addType : MethodName := ⟨RX2, "addType", "(Ljava/lang/String;II)V"⟩
theorem q84 : (Jvm.Cond.initialized "CableTrayPlanner$Plan") ∈ lw_all := lw_g (lw_at lw_m1 2 rfl) rfl
theorem q150 : (Jvm.Cond.instantiable "CableTrayPlanner$Plan" (8 : Nat)) ∈ lw_all := lw_g (lw_at lw_m1 68 rfl) rfl
theorem q152 : (Jvm.Cond.instanceMethod ({ cls := "CableTrayPlanner$Plan", name := "<init>", desc := "()V" } : Jvm.MethodName)) ∈ lw_all := lw_g (lw_at lw_m1 70 rfl) rfl
theorem q153 : (Jvm.Cond.code ({ cls := "CableTrayPlanner$Plan", name := "<init>", desc := "()V" } : Jvm.MethodName) prog_11_method_1_code (1 : Nat) (Option.none : Option Jvm.ClassFile.FieldType)) ∈ lw_all := lw_g (lw_at lw_m1 71 rfl) rfl
theorem q154 : (Jvm.Cond.methodLink "CableTrayPlanner$Plan" (3 : Nat) ({ cls := "java/lang/Object", name := "<init>", desc := "()V" } : Jvm.MethodName)) ∈ lw_all := lw_g (lw_at lw_m1 72 rfl) rfl
theorem q155 : (Jvm.Cond.classLink "CableTrayPlanner$Plan" (9 : Nat) "java/util/ArrayList") ∈ lw_all := lw_g (lw_at lw_m1 73 rfl) rfl
theorem q157 : (Jvm.Cond.methodLink "CableTrayPlanner$Plan" (11 : Nat) ({ cls := "java/util/ArrayList", name := "<init>", desc := "()V" } : Jvm.MethodName)) ∈ lw_all := lw_g (lw_at lw_m1 75 rfl) rfl
theorem q184 : (Jvm.Cond.classLink "CableTrayPlanner$Plan" (18 : Nat) "java/util/HashMap") ∈ lw_all := lw_g (lw_at lw_m1 102 rfl) rfl
theorem q186 : (Jvm.Cond.methodLink "CableTrayPlanner$Plan" (20 : Nat) ({ cls := "java/util/HashMap", name := "<init>", desc := "()V" } : Jvm.MethodName)) ∈ lw_all := lw_g (lw_at lw_m1 104 rfl) rfl
theorem q216 : (Jvm.Cond.fieldLink "CableTrayPlanner$Plan" (12 : Nat) "CableTrayPlanner$Plan" "types" "Ljava/util/ArrayList;") ∈ lw_all := lw_g (lw_at lw_m1 134 rfl) rfl
theorem q219 : (Jvm.Cond.fieldLink "CableTrayPlanner$Plan" (21 : Nat) "CableTrayPlanner$Plan" "names" "Ljava/util/HashMap;") ∈ lw_all := lw_g (lw_at lw_m1 137 rfl) rfl
theorem q220 : (Jvm.Cond.fieldLink "CableTrayPlanner$Plan" (25 : Nat) "CableTrayPlanner$Plan" "trays" "Ljava/util/ArrayList;") ∈ lw_all := lw_g (lw_at lw_m1 138 rfl) rfl
theorem q224 : (Jvm.Cond.fieldLink "CableTrayPlanner$Plan" (28 : Nat) "CableTrayPlanner$Plan" "cables" "Ljava/util/ArrayList;") ∈ lw_all := lw_g (lw_at lw_m1 142 rfl) rfl
theorem q226 : (Jvm.Cond.fieldLink "CableTrayPlanner$Plan" (31 : Nat) "CableTrayPlanner$Plan" "drums" "Ljava/util/ArrayList;") ∈ lw_all := lw_g (lw_at lw_m1 144 rfl) rfl
theorem q228 : (Jvm.Cond.fieldLink "CableTrayPlanner$Plan" (34 : Nat) "CableTrayPlanner$Plan" "spare" "I") ∈ lw_all := lw_g (lw_at lw_m1 146 rfl) rfl
theorem q230 : (Jvm.Cond.fieldLink "CableTrayPlanner$Plan" (38 : Nat) "CableTrayPlanner$Plan" "tail" "I") ∈ lw_all := lw_g (lw_at lw_m1 148 rfl) rfl
theorem q232 : (Jvm.Cond.fieldLink "CableTrayPlanner$Plan" (81 : Nat) "CableTrayPlanner$Plan" "waste" "I") ∈ lw_all := lw_g (lw_at lw_m1 150 rfl) rfl
theorem q234 : (Jvm.Cond.laysFinal "CableTrayPlanner$Plan" "CableTrayPlanner$Plan" "types" "Ljava/util/ArrayList;") ∈ lw_all := lw_g (lw_at lw_m1 152 rfl) rfl
theorem q235 : (Jvm.Cond.soleField "CableTrayPlanner$Plan" "types") ∈ lw_all := lw_g (lw_at lw_m1 153 rfl) rfl
theorem q236 : (Jvm.Cond.laysFinal "CableTrayPlanner$Plan" "CableTrayPlanner$Plan" "names" "Ljava/util/HashMap;") ∈ lw_all := lw_g (lw_at lw_m1 154 rfl) rfl
theorem q237 : (Jvm.Cond.soleField "CableTrayPlanner$Plan" "names") ∈ lw_all := lw_g (lw_at lw_m1 155 rfl) rfl
theorem q238 : (Jvm.Cond.laysFinal "CableTrayPlanner$Plan" "CableTrayPlanner$Plan" "trays" "Ljava/util/ArrayList;") ∈ lw_all := lw_g (lw_at lw_m1 156 rfl) rfl
theorem q239 : (Jvm.Cond.soleField "CableTrayPlanner$Plan" "trays") ∈ lw_all := lw_g (lw_at lw_m1 157 rfl) rfl
theorem q240 : (Jvm.Cond.laysFinal "CableTrayPlanner$Plan" "CableTrayPlanner$Plan" "cables" "Ljava/util/ArrayList;") ∈ lw_all := lw_g (lw_at lw_m1 158 rfl) rfl
theorem q241 : (Jvm.Cond.soleField "CableTrayPlanner$Plan" "cables") ∈ lw_all := lw_g (lw_at lw_m1 159 rfl) rfl
theorem q242 : (Jvm.Cond.laysFinal "CableTrayPlanner$Plan" "CableTrayPlanner$Plan" "drums" "Ljava/util/ArrayList;") ∈ lw_all := lw_g (lw_at lw_m1 160 rfl) rfl
theorem q243 : (Jvm.Cond.soleField "CableTrayPlanner$Plan" "drums") ∈ lw_all := lw_g (lw_at lw_m1 161 rfl) rfl
theorem q244 : (Jvm.Cond.lays "CableTrayPlanner$Plan" "CableTrayPlanner$Plan" "spare" "I") ∈ lw_all := lw_g (lw_at lw_m1 162 rfl) rfl
theorem q245 : (Jvm.Cond.soleField "CableTrayPlanner$Plan" "spare") ∈ lw_all := lw_g (lw_at lw_m1 163 rfl) rfl
theorem q246 : (Jvm.Cond.lays "CableTrayPlanner$Plan" "CableTrayPlanner$Plan" "tail" "I") ∈ lw_all := lw_g (lw_at lw_m1 164 rfl) rfl
theorem q247 : (Jvm.Cond.soleField "CableTrayPlanner$Plan" "tail") ∈ lw_all := lw_g (lw_at lw_m1 165 rfl) rfl
theorem q248 : (Jvm.Cond.lays "CableTrayPlanner$Plan" "CableTrayPlanner$Plan" "waste" "I") ∈ lw_all := lw_g (lw_at lw_m1 166 rfl) rfl
theorem q249 : (Jvm.Cond.soleField "CableTrayPlanner$Plan" "waste") ∈ lw_all := lw_g (lw_at lw_m1 167 rfl) rfl
theorem q250 : (Jvm.Cond.superclass "CableTrayPlanner$Plan" "java/lang/Object") ∈ lw_all := lw_g (lw_at lw_m1 168 rfl) rfl
theorem q632 : (Jvm.Cond.instanceMethod ({ cls := "CableTrayPlanner$Plan", name := "typeNamed", desc := "(Ljava/lang/String;)I" } : Jvm.MethodName)) ∈ lw_all := lw_g (lw_at lw_m3 70 rfl) rfl
theorem q633 : (Jvm.Cond.selects "CableTrayPlanner$Plan" ({ cls := "CableTrayPlanner$Plan", name := "typeNamed", desc := "(Ljava/lang/String;)I" } : Jvm.MethodName) ({ cls := "CableTrayPlanner$Plan", name := "typeNamed", desc := "(Ljava/lang/String;)I" } : Jvm.MethodName)) ∈ lw_all := lw_g (lw_at lw_m3 71 rfl) rfl
theorem q634 : (Jvm.Cond.code ({ cls := "CableTrayPlanner$Plan", name := "typeNamed", desc := "(Ljava/lang/String;)I" } : Jvm.MethodName) prog_11_method_8_code (3 : Nat) (Option.some Jvm.ClassFile.FieldType.int)) ∈ lw_all := lw_g (lw_at lw_m3 72 rfl) rfl
theorem q635 : (Jvm.Cond.methodLink "CableTrayPlanner$Plan" (114 : Nat) ({ cls := "java/util/HashMap", name := "get", desc := "(Ljava/lang/Object;)Ljava/lang/Object;" } : Jvm.MethodName)) ∈ lw_all := lw_g (lw_at lw_m3 73 rfl) rfl
theorem q659 : (Jvm.Cond.selects "CableTrayPlanner$Plan" ({ cls := "java/lang/Object", name := "hashCode", desc := "()I" } : Jvm.MethodName) ({ cls := "java/lang/Object", name := "hashCode", desc := "()I" } : Jvm.MethodName)) ∈ lw_all := lw_g (lw_at lw_m3 97 rfl) rfl
theorem q758 : (Jvm.Cond.selects "CableTrayPlanner$Plan" ({ cls := "java/lang/Object", name := "equals", desc := "(Ljava/lang/Object;)Z" } : Jvm.MethodName) ({ cls := "java/lang/Object", name := "equals", desc := "(Ljava/lang/Object;)Z" } : Jvm.MethodName)) ∈ lw_all := lw_g (lw_at lw_m3 196 rfl) rfl
theorem q823 : (Jvm.Cond.selects "CableTrayPlanner$Plan" ({ cls := "java/lang/Object", name := "getClass", desc := "()Ljava/lang/Class;" } : Jvm.MethodName) ({ cls := "java/lang/Object", name := "getClass", desc := "()Ljava/lang/Class;" } : Jvm.MethodName)) ∈ lw_all := lw_g (lw_at lw_m4 21 rfl) rfl
theorem q1052 : (Jvm.Cond.classLink "CableTrayPlanner$Plan" (93 : Nat) "java/lang/Integer") ∈ lw_all := lw_g (lw_at lw_m5 10 rfl) rfl
theorem q1053 : (Jvm.Cond.methodLink "CableTrayPlanner$Plan" (117 : Nat) ({ cls := "java/lang/Integer", name := "intValue", desc := "()I" } : Jvm.MethodName)) ∈ lw_all := lw_g (lw_at lw_m5 11 rfl) rfl
theorem q1059 : (Jvm.Cond.instanceMethod ({ cls := "CableTrayPlanner$Plan", name := "isConsistent", desc := "()Z" } : Jvm.MethodName)) ∈ lw_all := lw_g (lw_at lw_m5 17 rfl) rfl
theorem q1060 : (Jvm.Cond.selects "CableTrayPlanner$Plan" ({ cls := "CableTrayPlanner$Plan", name := "isConsistent", desc := "()Z" } : Jvm.MethodName) ({ cls := "CableTrayPlanner$Plan", name := "isConsistent", desc := "()Z" } : Jvm.MethodName)) ∈ lw_all := lw_g (lw_at lw_m5 18 rfl) rfl
theorem q1061 : (Jvm.Cond.code ({ cls := "CableTrayPlanner$Plan", name := "isConsistent", desc := "()Z" } : Jvm.MethodName) prog_11_method_38_code (4 : Nat) (Option.some Jvm.ClassFile.FieldType.boolean)) ∈ lw_all := lw_g (lw_at lw_m5 19 rfl) rfl
theorem q1062 : (Jvm.Cond.methodLink "CableTrayPlanner$Plan" (339 : Nat) ({ cls := "CableTrayPlanner$Plan", name := "rests", desc := "()I" } : Jvm.MethodName)) ∈ lw_all := lw_g (lw_at lw_m5 20 rfl) rfl
theorem q1063 : (Jvm.Cond.instanceMethod ({ cls := "CableTrayPlanner$Plan", name := "rests", desc := "()I" } : Jvm.MethodName)) ∈ lw_all := lw_g (lw_at lw_m5 21 rfl) rfl
theorem q1064 : (Jvm.Cond.selects "CableTrayPlanner$Plan" ({ cls := "CableTrayPlanner$Plan", name := "rests", desc := "()I" } : Jvm.MethodName) ({ cls := "CableTrayPlanner$Plan", name := "rests", desc := "()I" } : Jvm.MethodName)) ∈ lw_all := lw_g (lw_at lw_m5 22 rfl) rfl
theorem q1065 : (Jvm.Cond.code ({ cls := "CableTrayPlanner$Plan", name := "rests", desc := "()I" } : Jvm.MethodName) prog_11_method_33_code (4 : Nat) (Option.some Jvm.ClassFile.FieldType.int)) ∈ lw_all := lw_g (lw_at lw_m5 23 rfl) rfl
theorem q1066 : (Jvm.Cond.methodLink "CableTrayPlanner$Plan" (42 : Nat) ({ cls := "java/util/ArrayList", name := "iterator", desc := "()Ljava/util/Iterator;" } : Jvm.MethodName)) ∈ lw_all := lw_g (lw_at lw_m5 24 rfl) rfl
theorem q1089 : (Jvm.Cond.interfaceEntry "CableTrayPlanner$Plan" (46 : Nat)) ∈ lw_tbl := lw_at lw_m5 47 rfl
theorem q1090 : (Jvm.Cond.methodLink "CableTrayPlanner$Plan" (46 : Nat) ({ cls := "java/util/Iterator", name := "hasNext", desc := "()Z" } : Jvm.MethodName)) ∈ lw_all := lw_g (lw_at lw_m5 48 rfl) rfl
theorem q1112 : (Jvm.Cond.interfaceEntry "CableTrayPlanner$Plan" (52 : Nat)) ∈ lw_tbl := lw_at lw_m5 70 rfl
theorem q1113 : (Jvm.Cond.methodLink "CableTrayPlanner$Plan" (52 : Nat) ({ cls := "java/util/Iterator", name := "next", desc := "()Ljava/lang/Object;" } : Jvm.MethodName)) ∈ lw_all := lw_g (lw_at lw_m5 71 rfl) rfl
theorem q1217 : (Jvm.Cond.classLink "CableTrayPlanner$Plan" (76 : Nat) "CableTrayPlanner$Drum") ∈ lw_all := lw_g (lw_at lw_m5 175 rfl) rfl
theorem q1218 : (Jvm.Cond.methodLink "CableTrayPlanner$Plan" (341 : Nat) ({ cls := "CableTrayPlanner$Plan", name := "cutLengths", desc := "()I" } : Jvm.MethodName)) ∈ lw_all := lw_g (lw_at lw_m5 176 rfl) rfl
theorem q1219 : (Jvm.Cond.instanceMethod ({ cls := "CableTrayPlanner$Plan", name := "cutLengths", desc := "()I" } : Jvm.MethodName)) ∈ lw_all := lw_g (lw_at lw_m5 177 rfl) rfl
theorem q1220 : (Jvm.Cond.selects "CableTrayPlanner$Plan" ({ cls := "CableTrayPlanner$Plan", name := "cutLengths", desc := "()I" } : Jvm.MethodName) ({ cls := "CableTrayPlanner$Plan", name := "cutLengths", desc := "()I" } : Jvm.MethodName)) ∈ lw_all := lw_g (lw_at lw_m5 178 rfl) rfl
theorem q1221 : (Jvm.Cond.code ({ cls := "CableTrayPlanner$Plan", name := "cutLengths", desc := "()I" } : Jvm.MethodName) prog_11_method_35_code (4 : Nat) (Option.some Jvm.ClassFile.FieldType.int)) ∈ lw_all := lw_g (lw_at lw_m5 179 rfl) rfl
theorem q1222 : (Jvm.Cond.classLink "CableTrayPlanner$Plan" (71 : Nat) "CableTrayPlanner$Cable") ∈ lw_all := lw_g (lw_at lw_m5 180 rfl) rfl
theorem q1223 : (Jvm.Cond.methodLink "CableTrayPlanner$Plan" (344 : Nat) ({ cls := "CableTrayPlanner$Plan", name := "firsts", desc := "()I" } : Jvm.MethodName)) ∈ lw_all := lw_g (lw_at lw_m5 181 rfl) rfl
theorem q1224 : (Jvm.Cond.instanceMethod ({ cls := "CableTrayPlanner$Plan", name := "firsts", desc := "()I" } : Jvm.MethodName)) ∈ lw_all := lw_g (lw_at lw_m5 182 rfl) rfl
theorem q1225 : (Jvm.Cond.selects "CableTrayPlanner$Plan" ({ cls := "CableTrayPlanner$Plan", name := "firsts", desc := "()I" } : Jvm.MethodName) ({ cls := "CableTrayPlanner$Plan", name := "firsts", desc := "()I" } : Jvm.MethodName)) ∈ lw_all := lw_g (lw_at lw_m5 183 rfl) rfl
theorem q1226 : (Jvm.Cond.code ({ cls := "CableTrayPlanner$Plan", name := "firsts", desc := "()I" } : Jvm.MethodName) prog_11_method_34_code (4 : Nat) (Option.some Jvm.ClassFile.FieldType.int)) ∈ lw_all := lw_g (lw_at lw_m5 184 rfl) rfl
theorem q1227 : (Jvm.Cond.methodLink "CableTrayPlanner$Plan" (347 : Nat) ({ cls := "CableTrayPlanner$Plan", name := "leads", desc := "(LCableTrayPlanner$Cable;)Z" } : Jvm.MethodName)) ∈ lw_all := lw_g (lw_at lw_m5 185 rfl) rfl
theorem q1228 : (Jvm.Cond.privateMethod ({ cls := "CableTrayPlanner$Plan", name := "leads", desc := "(LCableTrayPlanner$Cable;)Z" } : Jvm.MethodName)) ∈ lw_tbl := lw_at lw_m5 186 rfl
theorem q1229 : (Jvm.Cond.instanceMethod ({ cls := "CableTrayPlanner$Plan", name := "leads", desc := "(LCableTrayPlanner$Cable;)Z" } : Jvm.MethodName)) ∈ lw_all := lw_g (lw_at lw_m5 187 rfl) rfl
theorem q1230 : (Jvm.Cond.code ({ cls := "CableTrayPlanner$Plan", name := "leads", desc := "(LCableTrayPlanner$Cable;)Z" } : Jvm.MethodName) prog_11_method_36_code (5 : Nat) (Option.some Jvm.ClassFile.FieldType.boolean)) ∈ lw_all := lw_g (lw_at lw_m5 188 rfl) rfl
theorem q1231 : (Jvm.Cond.classLink "CableTrayPlanner$Plan" (228 : Nat) "CableTrayPlanner$Step") ∈ lw_all := lw_g (lw_at lw_m5 189 rfl) rfl
theorem q1232 : (Jvm.Cond.methodLink "CableTrayPlanner$Plan" (110 : Nat) ({ cls := "java/util/ArrayList", name := "get", desc := "(I)Ljava/lang/Object;" } : Jvm.MethodName)) ∈ lw_all := lw_g (lw_at lw_m5 190 rfl) rfl
theorem q1233 : (Jvm.Cond.classLink "CableTrayPlanner$Plan" (62 : Nat) "CableTrayPlanner$Tray") ∈ lw_all := lw_g (lw_at lw_m5 191 rfl) rfl
theorem q1234 : (Jvm.Cond.methodLink "CableTrayPlanner$Plan" (318 : Nat) ({ cls := "CableTrayPlanner$Tray", name := "otherEnd", desc := "(I)I" } : Jvm.MethodName)) ∈ lw_all := lw_g (lw_at lw_m5 192 rfl) rfl
theorem q1235 : (Jvm.Cond.methodLink "CableTrayPlanner$Plan" (321 : Nat) ({ cls := "java/util/ArrayList", name := "isEmpty", desc := "()Z" } : Jvm.MethodName)) ∈ lw_all := lw_g (lw_at lw_m5 193 rfl) rfl
theorem q1239 : (Jvm.Cond.methodLink "CableTrayPlanner$Plan" (88 : Nat) ({ cls := "java/util/ArrayList", name := "size", desc := "()I" } : Jvm.MethodName)) ∈ lw_all := lw_g (lw_at lw_m5 197 rfl) rfl
theorem q1240 : (Jvm.Cond.methodLink "CableTrayPlanner$Plan" (351 : Nat) ({ cls := "CableTrayPlanner$Plan", name := "holds", desc := "(II)Z" } : Jvm.MethodName)) ∈ lw_all := lw_g (lw_at lw_m5 198 rfl) rfl
theorem q1241 : (Jvm.Cond.privateMethod ({ cls := "CableTrayPlanner$Plan", name := "holds", desc := "(II)Z" } : Jvm.MethodName)) ∈ lw_tbl := lw_at lw_m5 199 rfl
theorem q1242 : (Jvm.Cond.instanceMethod ({ cls := "CableTrayPlanner$Plan", name := "holds", desc := "(II)Z" } : Jvm.MethodName)) ∈ lw_all := lw_g (lw_at lw_m5 200 rfl) rfl
theorem q1243 : (Jvm.Cond.code ({ cls := "CableTrayPlanner$Plan", name := "holds", desc := "(II)Z" } : Jvm.MethodName) prog_11_method_37_code (7 : Nat) (Option.some Jvm.ClassFile.FieldType.boolean)) ∈ lw_all := lw_g (lw_at lw_m5 201 rfl) rfl
theorem q1244 : (Jvm.Cond.methodLink "CableTrayPlanner$Plan" (324 : Nat) ({ cls := "CableTrayPlanner$Cable", name := "compartmentIn", desc := "(I)I" } : Jvm.MethodName)) ∈ lw_all := lw_g (lw_at lw_m5 202 rfl) rfl
theorem q1254 : (Jvm.Cond.classLink "CableTrayPlanner$Plan" (56 : Nat) "CableTrayPlanner$Type") ∈ lw_all := lw_g (lw_at lw_m5 212 rfl) rfl
theorem q1260 : (Jvm.Cond.instanceMethod ({ cls := "CableTrayPlanner$Plan", name := "copy", desc := "()LCableTrayPlanner$Plan;" } : Jvm.MethodName)) ∈ lw_all := lw_g (lw_at lw_m5 218 rfl) rfl
theorem q1261 : (Jvm.Cond.selects "CableTrayPlanner$Plan" ({ cls := "CableTrayPlanner$Plan", name := "copy", desc := "()LCableTrayPlanner$Plan;" } : Jvm.MethodName) ({ cls := "CableTrayPlanner$Plan", name := "copy", desc := "()LCableTrayPlanner$Plan;" } : Jvm.MethodName)) ∈ lw_all := lw_g (lw_at lw_m5 219 rfl) rfl
theorem q1262 : (Jvm.Cond.code ({ cls := "CableTrayPlanner$Plan", name := "copy", desc := "()LCableTrayPlanner$Plan;" } : Jvm.MethodName) prog_11_method_2_code (5 : Nat) (Option.some (Jvm.ClassFile.FieldType.object "CableTrayPlanner$Plan"))) ∈ lw_all := lw_g (lw_at lw_m5 220 rfl) rfl
theorem q1263 : (Jvm.Cond.classLink "CableTrayPlanner$Plan" (13 : Nat) "CableTrayPlanner$Plan") ∈ lw_all := lw_g (lw_at lw_m5 221 rfl) rfl
theorem q1264 : (Jvm.Cond.methodLink "CableTrayPlanner$Plan" (41 : Nat) ({ cls := "CableTrayPlanner$Plan", name := "<init>", desc := "()V" } : Jvm.MethodName)) ∈ lw_all := lw_g (lw_at lw_m5 222 rfl) rfl
theorem q1265 : (Jvm.Cond.methodLink "CableTrayPlanner$Plan" (58 : Nat) ({ cls := "CableTrayPlanner$Plan", name := "add", desc := "(LCableTrayPlanner$Type;)V" } : Jvm.MethodName)) ∈ lw_all := lw_g (lw_at lw_m5 223 rfl) rfl
theorem q1266 : (Jvm.Cond.privateMethod ({ cls := "CableTrayPlanner$Plan", name := "add", desc := "(LCableTrayPlanner$Type;)V" } : Jvm.MethodName)) ∈ lw_tbl := lw_at lw_m5 224 rfl
theorem q1267 : (Jvm.Cond.instanceMethod ({ cls := "CableTrayPlanner$Plan", name := "add", desc := "(LCableTrayPlanner$Type;)V" } : Jvm.MethodName)) ∈ lw_all := lw_g (lw_at lw_m5 225 rfl) rfl
theorem q1268 : (Jvm.Cond.code ({ cls := "CableTrayPlanner$Plan", name := "add", desc := "(LCableTrayPlanner$Type;)V" } : Jvm.MethodName) prog_11_method_3_code (4 : Nat) (Option.none : Option Jvm.ClassFile.FieldType)) ∈ lw_all := lw_g (lw_at lw_m5 226 rfl) rfl
theorem q1269 : (Jvm.Cond.methodLink "CableTrayPlanner$Plan" (92 : Nat) ({ cls := "java/lang/Integer", name := "valueOf", desc := "(I)Ljava/lang/Integer;" } : Jvm.MethodName)) ∈ lw_all := lw_g (lw_at lw_m5 227 rfl) rfl
theorem q1270 : (Jvm.Cond.methodLink "CableTrayPlanner$Plan" (98 : Nat) ({ cls := "java/util/HashMap", name := "put", desc := "(Ljava/lang/Object;Ljava/lang/Object;)Ljava/lang/Object;" } : Jvm.MethodName)) ∈ lw_all := lw_g (lw_at lw_m5 228 rfl) rfl
theorem q1410 : (Jvm.Cond.methodLink "CableTrayPlanner$Plan" (68 : Nat) ({ cls := "java/util/ArrayList", name := "add", desc := "(Ljava/lang/Object;)Z" } : Jvm.MethodName)) ∈ lw_all := lw_g (lw_at lw_m6 128 rfl) rfl
theorem q1438 : (Jvm.Cond.methodLink "CableTrayPlanner$Plan" (64 : Nat) ({ cls := "CableTrayPlanner$Tray", name := "copy", desc := "()LCableTrayPlanner$Tray;" } : Jvm.MethodName)) ∈ lw_all := lw_g (lw_at lw_m6 156 rfl) rfl
theorem q1454 : (Jvm.Cond.fieldLinkNest "CableTrayPlanner$Plan" (277 : Nat) "CableTrayPlanner$Tray" "length" "I" "CableTrayPlanner") ∈ lw_tbl := lw_at lw_m6 172 rfl
theorem q1460 : (Jvm.Cond.fieldLinkNest "CableTrayPlanner$Plan" (333 : Nat) "CableTrayPlanner$Tray" "classes" "[I" "CableTrayPlanner") ∈ lw_tbl := lw_at lw_m6 178 rfl
theorem q1463 : (Jvm.Cond.fieldLinkNest "CableTrayPlanner$Plan" (336 : Nat) "CableTrayPlanner$Tray" "filled" "[I" "CableTrayPlanner") ∈ lw_tbl := lw_at lw_m6 181 rfl
theorem q1482 : (Jvm.Cond.methodLink "CableTrayPlanner$Plan" (73 : Nat) ({ cls := "CableTrayPlanner$Cable", name := "copy", desc := "()LCableTrayPlanner$Cable;" } : Jvm.MethodName)) ∈ lw_all := lw_g (lw_at lw_m6 200 rfl) rfl
theorem q1495 : (Jvm.Cond.fieldLinkNest "CableTrayPlanner$Plan" (235 : Nat) "CableTrayPlanner$Cable" "type" "I" "CableTrayPlanner") ∈ lw_tbl := lw_at lw_m6 213 rfl
theorem q1498 : (Jvm.Cond.fieldLinkNest "CableTrayPlanner$Plan" (237 : Nat) "CableTrayPlanner$Cable" "from" "I" "CableTrayPlanner") ∈ lw_tbl := lw_at lw_m6 216 rfl
theorem q1501 : (Jvm.Cond.fieldLinkNest "CableTrayPlanner$Plan" (240 : Nat) "CableTrayPlanner$Cable" "to" "I" "CableTrayPlanner") ∈ lw_tbl := lw_at lw_m6 219 rfl
theorem q1504 : (Jvm.Cond.fieldLinkNest "CableTrayPlanner$Plan" (211 : Nat) "CableTrayPlanner$Cable" "state" "I" "CableTrayPlanner") ∈ lw_tbl := lw_at lw_m6 222 rfl
theorem q1507 : (Jvm.Cond.fieldLinkNest "CableTrayPlanner$Plan" (225 : Nat) "CableTrayPlanner$Cable" "route" "Ljava/util/ArrayList;" "CableTrayPlanner") ∈ lw_tbl := lw_at lw_m6 225 rfl
theorem q1510 : (Jvm.Cond.fieldLinkNest "CableTrayPlanner$Plan" (268 : Nat) "CableTrayPlanner$Cable" "length" "I" "CableTrayPlanner") ∈ lw_tbl := lw_at lw_m6 228 rfl
theorem q1512 : (Jvm.Cond.fieldLinkNest "CableTrayPlanner$Plan" (265 : Nat) "CableTrayPlanner$Cable" "drum" "I" "CableTrayPlanner") ∈ lw_tbl := lw_at lw_m6 230 rfl
theorem q1559 : (Jvm.Cond.methodLink "CableTrayPlanner$Plan" (78 : Nat) ({ cls := "CableTrayPlanner$Drum", name := "copy", desc := "()LCableTrayPlanner$Drum;" } : Jvm.MethodName)) ∈ lw_all := lw_g (lw_at lw_m7 37 rfl) rfl
theorem q1571 : (Jvm.Cond.fieldLinkNest "CableTrayPlanner$Plan" (281 : Nat) "CableTrayPlanner$Drum" "type" "I" "CableTrayPlanner") ∈ lw_tbl := lw_at lw_m7 49 rfl
theorem q1573 : (Jvm.Cond.fieldLinkNest "CableTrayPlanner$Plan" (315 : Nat) "CableTrayPlanner$Drum" "first" "I" "CableTrayPlanner") ∈ lw_tbl := lw_at lw_m7 51 rfl
theorem q1577 : (Jvm.Cond.fieldLinkNest "CableTrayPlanner$Plan" (282 : Nat) "CableTrayPlanner$Drum" "rest" "I" "CableTrayPlanner") ∈ lw_tbl := lw_at lw_m7 55 rfl
theorem q1697 : (Jvm.Cond.instanceMethod ({ cls := "CableTrayPlanner$Plan", name := "addTray", desc := "(IIIII)I" } : Jvm.MethodName)) ∈ lw_all := lw_g (lw_at lw_m7 175 rfl) rfl
theorem q1698 : (Jvm.Cond.selects "CableTrayPlanner$Plan" ({ cls := "CableTrayPlanner$Plan", name := "addTray", desc := "(IIIII)I" } : Jvm.MethodName) ({ cls := "CableTrayPlanner$Plan", name := "addTray", desc := "(IIIII)I" } : Jvm.MethodName)) ∈ lw_all := lw_g (lw_at lw_m7 176 rfl) rfl
theorem q1699 : (Jvm.Cond.code ({ cls := "CableTrayPlanner$Plan", name := "addTray", desc := "(IIIII)I" } : Jvm.MethodName) prog_11_method_10_code (7 : Nat) (Option.some Jvm.ClassFile.FieldType.int)) ∈ lw_all := lw_g (lw_at lw_m7 177 rfl) rfl
theorem q1700 : (Jvm.Cond.methodLinkNest "CableTrayPlanner$Plan" (137 : Nat) ({ cls := "CableTrayPlanner", name := "checkPlace", desc := "(I)V" } : Jvm.MethodName) "CableTrayPlanner") ∈ lw_tbl := lw_at lw_m7 178 rfl
theorem q1722 : (Jvm.Cond.constantLong "CableTrayPlanner$Plan" (122 : Nat) (99 : Int64)) ∈ lw_all := lw_g (lw_at lw_m7 200 rfl) rfl
theorem q1723 : (Jvm.Cond.methodLinkNest "CableTrayPlanner$Plan" (102 : Nat) ({ cls := "CableTrayPlanner", name := "inRange", desc := "(JJJ)Z" } : Jvm.MethodName) "CableTrayPlanner") ∈ lw_tbl := lw_at lw_m7 201 rfl
theorem q1724 : (Jvm.Cond.constantLong "CableTrayPlanner$Plan" (141 : Nat) (10 : Int64)) ∈ lw_all := lw_g (lw_at lw_m7 202 rfl) rfl
theorem q1725 : (Jvm.Cond.constantLong "CableTrayPlanner$Plan" (143 : Nat) (999 : Int64)) ∈ lw_all := lw_g (lw_at lw_m7 203 rfl) rfl
theorem q1726 : (Jvm.Cond.constantLong "CableTrayPlanner$Plan" (145 : Nat) (3 : Int64)) ∈ lw_all := lw_g (lw_at lw_m7 204 rfl) rfl
theorem q1727 : (Jvm.Cond.methodLinkNest "CableTrayPlanner$Plan" (124 : Nat) ({ cls := "CableTrayPlanner", name := "checkArgument", desc := "(Z)V" } : Jvm.MethodName) "CableTrayPlanner") ∈ lw_tbl := lw_at lw_m7 205 rfl
theorem q1728 : (Jvm.Cond.methodLinkNest "CableTrayPlanner$Plan" (131 : Nat) ({ cls := "CableTrayPlanner", name := "checkState", desc := "(Z)V" } : Jvm.MethodName) "CableTrayPlanner") ∈ lw_tbl := lw_at lw_m7 206 rfl
theorem q1736 : (Jvm.Cond.methodLink "CableTrayPlanner$Plan" (147 : Nat) ({ cls := "CableTrayPlanner$Tray", name := "<init>", desc := "(IIIII)V" } : Jvm.MethodName)) ∈ lw_all := lw_g (lw_at lw_m7 214 rfl) rfl
theorem q1745 : (Jvm.Cond.instanceMethod ({ cls := "CableTrayPlanner$Plan", name := "dropTray", desc := "(I)I" } : Jvm.MethodName)) ∈ lw_all := lw_g (lw_at lw_m7 223 rfl) rfl
theorem q1746 : (Jvm.Cond.selects "CableTrayPlanner$Plan" ({ cls := "CableTrayPlanner$Plan", name := "dropTray", desc := "(I)I" } : Jvm.MethodName) ({ cls := "CableTrayPlanner$Plan", name := "dropTray", desc := "(I)I" } : Jvm.MethodName)) ∈ lw_all := lw_g (lw_at lw_m7 224 rfl) rfl
theorem q1747 : (Jvm.Cond.code ({ cls := "CableTrayPlanner$Plan", name := "dropTray", desc := "(I)I" } : Jvm.MethodName) prog_11_method_11_code (5 : Nat) (Option.some Jvm.ClassFile.FieldType.int)) ∈ lw_all := lw_g (lw_at lw_m7 225 rfl) rfl
theorem q1748 : (Jvm.Cond.methodLink "CableTrayPlanner$Plan" (150 : Nat) ({ cls := "CableTrayPlanner$Plan", name := "tray", desc := "(I)LCableTrayPlanner$Tray;" } : Jvm.MethodName)) ∈ lw_all := lw_g (lw_at lw_m7 226 rfl) rfl
theorem q1749 : (Jvm.Cond.instanceMethod ({ cls := "CableTrayPlanner$Plan", name := "tray", desc := "(I)LCableTrayPlanner$Tray;" } : Jvm.MethodName)) ∈ lw_all := lw_g (lw_at lw_m7 227 rfl) rfl
theorem q1750 : (Jvm.Cond.selects "CableTrayPlanner$Plan" ({ cls := "CableTrayPlanner$Plan", name := "tray", desc := "(I)LCableTrayPlanner$Tray;" } : Jvm.MethodName) ({ cls := "CableTrayPlanner$Plan", name := "tray", desc := "(I)LCableTrayPlanner$Tray;" } : Jvm.MethodName)) ∈ lw_all := lw_g (lw_at lw_m7 228 rfl) rfl
theorem q1751 : (Jvm.Cond.code ({ cls := "CableTrayPlanner$Plan", name := "tray", desc := "(I)LCableTrayPlanner$Tray;" } : Jvm.MethodName) prog_11_method_5_code (2 : Nat) (Option.some (Jvm.ClassFile.FieldType.object "CableTrayPlanner$Tray"))) ∈ lw_all := lw_g (lw_at lw_m7 229 rfl) rfl
theorem q1752 : (Jvm.Cond.methodLinkNest "CableTrayPlanner$Plan" (106 : Nat) ({ cls := "CableTrayPlanner", name := "checkIndex", desc := "(Z)V" } : Jvm.MethodName) "CableTrayPlanner") ∈ lw_tbl := lw_at lw_m7 230 rfl
theorem q1753 : (Jvm.Cond.methodLink "CableTrayPlanner$Plan" (154 : Nat) ({ cls := "CableTrayPlanner$Tray", name := "count", desc := "()I" } : Jvm.MethodName)) ∈ lw_all := lw_g (lw_at lw_m7 231 rfl) rfl
theorem q1757 : (Jvm.Cond.methodLink "CableTrayPlanner$Plan" (157 : Nat) ({ cls := "java/util/ArrayList", name := "remove", desc := "(I)Ljava/lang/Object;" } : Jvm.MethodName)) ∈ lw_all := lw_g (lw_at lw_m7 235 rfl) rfl
theorem q1765 : (Jvm.Cond.methodLink "CableTrayPlanner$Plan" (160 : Nat) ({ cls := "CableTrayPlanner$Cable", name := "renumber", desc := "(I)V" } : Jvm.MethodName)) ∈ lw_all := lw_g (lw_at lw_m8 3 rfl) rfl
theorem q1778 : (Jvm.Cond.fieldLinkNest "CableTrayPlanner$Plan" (254 : Nat) "CableTrayPlanner$Step" "tray" "I" "CableTrayPlanner") ∈ lw_tbl := lw_at lw_m8 16 rfl
theorem q1782 : (Jvm.Cond.fieldLinkNest "CableTrayPlanner$Plan" (256 : Nat) "CableTrayPlanner$Step" "compartment" "I" "CableTrayPlanner") ∈ lw_tbl := lw_at lw_m8 20 rfl
theorem q1801 : (Jvm.Cond.instanceMethod ({ cls := "CableTrayPlanner$Plan", name := "addCable", desc := "(III)I" } : Jvm.MethodName)) ∈ lw_all := lw_g (lw_at lw_m8 39 rfl) rfl
theorem q1802 : (Jvm.Cond.selects "CableTrayPlanner$Plan" ({ cls := "CableTrayPlanner$Plan", name := "addCable", desc := "(III)I" } : Jvm.MethodName) ({ cls := "CableTrayPlanner$Plan", name := "addCable", desc := "(III)I" } : Jvm.MethodName)) ∈ lw_all := lw_g (lw_at lw_m8 40 rfl) rfl
theorem q1803 : (Jvm.Cond.code ({ cls := "CableTrayPlanner$Plan", name := "addCable", desc := "(III)I" } : Jvm.MethodName) prog_11_method_12_code (6 : Nat) (Option.some Jvm.ClassFile.FieldType.int)) ∈ lw_all := lw_g (lw_at lw_m8 41 rfl) rfl
theorem q1804 : (Jvm.Cond.methodLink "CableTrayPlanner$Plan" (163 : Nat) ({ cls := "CableTrayPlanner$Plan", name := "type", desc := "(I)LCableTrayPlanner$Type;" } : Jvm.MethodName)) ∈ lw_all := lw_g (lw_at lw_m8 42 rfl) rfl
theorem q1805 : (Jvm.Cond.instanceMethod ({ cls := "CableTrayPlanner$Plan", name := "type", desc := "(I)LCableTrayPlanner$Type;" } : Jvm.MethodName)) ∈ lw_all := lw_g (lw_at lw_m8 43 rfl) rfl
theorem q1806 : (Jvm.Cond.selects "CableTrayPlanner$Plan" ({ cls := "CableTrayPlanner$Plan", name := "type", desc := "(I)LCableTrayPlanner$Type;" } : Jvm.MethodName) ({ cls := "CableTrayPlanner$Plan", name := "type", desc := "(I)LCableTrayPlanner$Type;" } : Jvm.MethodName)) ∈ lw_all := lw_g (lw_at lw_m8 44 rfl) rfl
theorem q1807 : (Jvm.Cond.code ({ cls := "CableTrayPlanner$Plan", name := "type", desc := "(I)LCableTrayPlanner$Type;" } : Jvm.MethodName) prog_11_method_4_code (2 : Nat) (Option.some (Jvm.ClassFile.FieldType.object "CableTrayPlanner$Type"))) ∈ lw_all := lw_g (lw_at lw_m8 45 rfl) rfl
theorem q1808 : (Jvm.Cond.methodLink "CableTrayPlanner$Plan" (167 : Nat) ({ cls := "CableTrayPlanner$Cable", name := "<init>", desc := "(III)V" } : Jvm.MethodName)) ∈ lw_all := lw_g (lw_at lw_m8 46 rfl) rfl
theorem q1817 : (Jvm.Cond.instanceMethod ({ cls := "CableTrayPlanner$Plan", name := "addDrum", desc := "(II)I" } : Jvm.MethodName)) ∈ lw_all := lw_g (lw_at lw_m8 55 rfl) rfl
theorem q1818 : (Jvm.Cond.selects "CableTrayPlanner$Plan" ({ cls := "CableTrayPlanner$Plan", name := "addDrum", desc := "(II)I" } : Jvm.MethodName) ({ cls := "CableTrayPlanner$Plan", name := "addDrum", desc := "(II)I" } : Jvm.MethodName)) ∈ lw_all := lw_g (lw_at lw_m8 56 rfl) rfl
theorem q1819 : (Jvm.Cond.code ({ cls := "CableTrayPlanner$Plan", name := "addDrum", desc := "(II)I" } : Jvm.MethodName) prog_11_method_13_code (5 : Nat) (Option.some Jvm.ClassFile.FieldType.int)) ∈ lw_all := lw_g (lw_at lw_m8 57 rfl) rfl
theorem q1820 : (Jvm.Cond.methodLink "CableTrayPlanner$Plan" (170 : Nat) ({ cls := "CableTrayPlanner$Drum", name := "<init>", desc := "(II)V" } : Jvm.MethodName)) ∈ lw_all := lw_g (lw_at lw_m8 58 rfl) rfl
theorem q1863 : (Jvm.Cond.instanceMethod ({ cls := "CableTrayPlanner$Plan", name := "route", desc := "(I)I" } : Jvm.MethodName)) ∈ lw_all := lw_g (lw_at lw_m8 101 rfl) rfl
theorem q1864 : (Jvm.Cond.selects "CableTrayPlanner$Plan" ({ cls := "CableTrayPlanner$Plan", name := "route", desc := "(I)I" } : Jvm.MethodName) ({ cls := "CableTrayPlanner$Plan", name := "route", desc := "(I)I" } : Jvm.MethodName)) ∈ lw_all := lw_g (lw_at lw_m8 102 rfl) rfl
theorem q1865 : (Jvm.Cond.code ({ cls := "CableTrayPlanner$Plan", name := "route", desc := "(I)I" } : Jvm.MethodName) prog_11_method_20_code (5 : Nat) (Option.some Jvm.ClassFile.FieldType.int)) ∈ lw_all := lw_g (lw_at lw_m8 103 rfl) rfl
theorem q1866 : (Jvm.Cond.methodLink "CableTrayPlanner$Plan" (231 : Nat) ({ cls := "CableTrayPlanner$Plan", name := "cableToChange", desc := "(II)LCableTrayPlanner$Cable;" } : Jvm.MethodName)) ∈ lw_all := lw_g (lw_at lw_m8 104 rfl) rfl
theorem q1867 : (Jvm.Cond.privateMethod ({ cls := "CableTrayPlanner$Plan", name := "cableToChange", desc := "(II)LCableTrayPlanner$Cable;" } : Jvm.MethodName)) ∈ lw_tbl := lw_at lw_m8 105 rfl
theorem q1868 : (Jvm.Cond.instanceMethod ({ cls := "CableTrayPlanner$Plan", name := "cableToChange", desc := "(II)LCableTrayPlanner$Cable;" } : Jvm.MethodName)) ∈ lw_all := lw_g (lw_at lw_m8 106 rfl) rfl
theorem q1869 : (Jvm.Cond.code ({ cls := "CableTrayPlanner$Plan", name := "cableToChange", desc := "(II)LCableTrayPlanner$Cable;" } : Jvm.MethodName) prog_11_method_18_code (4 : Nat) (Option.some (Jvm.ClassFile.FieldType.object "CableTrayPlanner$Cable"))) ∈ lw_all := lw_g (lw_at lw_m8 107 rfl) rfl
theorem q1870 : (Jvm.Cond.methodLink "CableTrayPlanner$Plan" (207 : Nat) ({ cls := "CableTrayPlanner$Refusal", name := "of", desc := "(I[I)LCableTrayPlanner$Refusal;" } : Jvm.MethodName)) ∈ lw_all := lw_g (lw_at lw_m8 108 rfl) rfl
theorem q1897 : (Jvm.Cond.classLink "CableTrayPlanner$Plan" (182 : Nat) "CableTrayPlanner$Plan$Search") ∈ lw_all := lw_g (lw_at lw_m8 135 rfl) rfl
theorem q1899 : (Jvm.Cond.methodLink "CableTrayPlanner$Plan" (184 : Nat) ({ cls := "CableTrayPlanner$Plan$Search", name := "<init>", desc := "(LCableTrayPlanner$Plan;LCableTrayPlanner$Type;II)V" } : Jvm.MethodName)) ∈ lw_all := lw_g (lw_at lw_m8 137 rfl) rfl
theorem q1918 : (Jvm.Cond.privateMethod ({ cls := "CableTrayPlanner$Plan", name := "traysAt", desc := "(I)Ljava/lang/Iterable;" } : Jvm.MethodName)) ∈ lw_tbl := lw_at lw_m8 156 rfl
theorem q1919 : (Jvm.Cond.instanceMethod ({ cls := "CableTrayPlanner$Plan", name := "traysAt", desc := "(I)Ljava/lang/Iterable;" } : Jvm.MethodName)) ∈ lw_all := lw_g (lw_at lw_m8 157 rfl) rfl
theorem q1920 : (Jvm.Cond.code ({ cls := "CableTrayPlanner$Plan", name := "traysAt", desc := "(I)Ljava/lang/Iterable;" } : Jvm.MethodName) prog_11_method_15_code (2 : Nat) (Option.some (Jvm.ClassFile.FieldType.object "java/lang/Iterable"))) ∈ lw_all := lw_g (lw_at lw_m8 158 rfl) rfl
theorem q1921 : (Jvm.Cond.classLink "CableTrayPlanner$Plan" (177 : Nat) "CableTrayPlanner$Plan$1") ∈ lw_all := lw_g (lw_at lw_m8 159 rfl) rfl
theorem q1923 : (Jvm.Cond.methodLink "CableTrayPlanner$Plan" (179 : Nat) ({ cls := "CableTrayPlanner$Plan$1", name := "<init>", desc := "(LCableTrayPlanner$Plan;I)V" } : Jvm.MethodName)) ∈ lw_all := lw_g (lw_at lw_m8 161 rfl) rfl
theorem q1998 : (Jvm.Cond.instanceMethod ({ cls := "CableTrayPlanner$Plan", name := "fits", desc := "(ILCableTrayPlanner$Type;)Z" } : Jvm.MethodName)) ∈ lw_all := lw_g (lw_at lw_m8 236 rfl) rfl
theorem q1999 : (Jvm.Cond.selects "CableTrayPlanner$Plan" ({ cls := "CableTrayPlanner$Plan", name := "fits", desc := "(ILCableTrayPlanner$Type;)Z" } : Jvm.MethodName) ({ cls := "CableTrayPlanner$Plan", name := "fits", desc := "(ILCableTrayPlanner$Type;)Z" } : Jvm.MethodName)) ∈ lw_all := lw_g (lw_at lw_m8 237 rfl) rfl
theorem q2000 : (Jvm.Cond.code ({ cls := "CableTrayPlanner$Plan", name := "fits", desc := "(ILCableTrayPlanner$Type;)Z" } : Jvm.MethodName) prog_11_method_14_code (3 : Nat) (Option.some Jvm.ClassFile.FieldType.boolean)) ∈ lw_all := lw_g (lw_at lw_m8 238 rfl) rfl
theorem q2001 : (Jvm.Cond.methodLink "CableTrayPlanner$Plan" (173 : Nat) ({ cls := "CableTrayPlanner$Tray", name := "compartmentFor", desc := "(LCableTrayPlanner$Type;I)I" } : Jvm.MethodName)) ∈ lw_all := lw_g (lw_at lw_m8 239 rfl) rfl
theorem q2023 : (Jvm.Cond.fieldLinkNest "CableTrayPlanner$Plan" (217 : Nat) "CableTrayPlanner$Plan$Search" "best" "[I" "CableTrayPlanner") ∈ lw_tbl := lw_at lw_m9 21 rfl
theorem q2025 : (Jvm.Cond.fieldLinkNest "CableTrayPlanner$Plan" (214 : Nat) "CableTrayPlanner$Plan$Search" "bestCount" "I" "CableTrayPlanner") ∈ lw_tbl := lw_at lw_m9 23 rfl
theorem q2027 : (Jvm.Cond.fieldLinkNest "CableTrayPlanner$Plan" (190 : Nat) "CableTrayPlanner$Plan$Search" "bestLength" "I" "CableTrayPlanner") ∈ lw_tbl := lw_at lw_m9 25 rfl
theorem q2048 : (Jvm.Cond.methodLink "CableTrayPlanner$Plan" (187 : Nat) ({ cls := "CableTrayPlanner$Plan$Search", name := "isFound", desc := "()Z" } : Jvm.MethodName)) ∈ lw_all := lw_g (lw_at lw_m9 46 rfl) rfl
theorem q2052 : (Jvm.Cond.methodLink "CableTrayPlanner$Plan" (243 : Nat) ({ cls := "CableTrayPlanner$Plan", name := "full", desc := "(LCableTrayPlanner$Type;)LCableTrayPlanner$Refusal;" } : Jvm.MethodName)) ∈ lw_all := lw_g (lw_at lw_m9 50 rfl) rfl
theorem q2053 : (Jvm.Cond.privateMethod ({ cls := "CableTrayPlanner$Plan", name := "full", desc := "(LCableTrayPlanner$Type;)LCableTrayPlanner$Refusal;" } : Jvm.MethodName)) ∈ lw_tbl := lw_at lw_m9 51 rfl
theorem q2054 : (Jvm.Cond.instanceMethod ({ cls := "CableTrayPlanner$Plan", name := "full", desc := "(LCableTrayPlanner$Type;)LCableTrayPlanner$Refusal;" } : Jvm.MethodName)) ∈ lw_all := lw_g (lw_at lw_m9 52 rfl) rfl
theorem q2055 : (Jvm.Cond.code ({ cls := "CableTrayPlanner$Plan", name := "full", desc := "(LCableTrayPlanner$Type;)LCableTrayPlanner$Refusal;" } : Jvm.MethodName) prog_11_method_17_code (4 : Nat) (Option.some (Jvm.ClassFile.FieldType.object "CableTrayPlanner$Refusal"))) ∈ lw_all := lw_g (lw_at lw_m9 53 rfl) rfl
theorem q2056 : (Jvm.Cond.methodLink "CableTrayPlanner$Plan" (193 : Nat) ({ cls := "CableTrayPlanner$Plan", name := "fits", desc := "(ILCableTrayPlanner$Type;)Z" } : Jvm.MethodName)) ∈ lw_all := lw_g (lw_at lw_m9 54 rfl) rfl
theorem q2057 : (Jvm.Cond.classLink "CableTrayPlanner$Plan" (197 : Nat) "CableTrayPlanner$Refusal") ∈ lw_all := lw_g (lw_at lw_m9 55 rfl) rfl
theorem q2058 : (Jvm.Cond.methodLink "CableTrayPlanner$Plan" (199 : Nat) ({ cls := "CableTrayPlanner$Refusal", name := "<init>", desc := "(ILCableTrayPlanner$Refusal;)V" } : Jvm.MethodName)) ∈ lw_all := lw_g (lw_at lw_m9 56 rfl) rfl
theorem q2059 : (Jvm.Cond.classLink "CableTrayPlanner$Plan" (202 : Nat) "CableTrayPlanner$NoRoom") ∈ lw_all := lw_g (lw_at lw_m9 57 rfl) rfl
theorem q2068 : (Jvm.Cond.methodLink "CableTrayPlanner$Plan" (204 : Nat) ({ cls := "CableTrayPlanner$NoRoom", name := "<init>", desc := "(LCableTrayPlanner$Refusal;)V" } : Jvm.MethodName)) ∈ lw_all := lw_g (lw_at lw_m9 66 rfl) rfl
theorem q2075 : (Jvm.Cond.methodLink "CableTrayPlanner$Plan" (247 : Nat) ({ cls := "CableTrayPlanner$Plan", name := "lay", desc := "(LCableTrayPlanner$Cable;LCableTrayPlanner$Type;LCableTrayPlanner$Plan$Search;)V" } : Jvm.MethodName)) ∈ lw_all := lw_g (lw_at lw_m9 73 rfl) rfl
theorem q2076 : (Jvm.Cond.privateMethod ({ cls := "CableTrayPlanner$Plan", name := "lay", desc := "(LCableTrayPlanner$Cable;LCableTrayPlanner$Type;LCableTrayPlanner$Plan$Search;)V" } : Jvm.MethodName)) ∈ lw_tbl := lw_at lw_m9 74 rfl
theorem q2077 : (Jvm.Cond.instanceMethod ({ cls := "CableTrayPlanner$Plan", name := "lay", desc := "(LCableTrayPlanner$Cable;LCableTrayPlanner$Type;LCableTrayPlanner$Plan$Search;)V" } : Jvm.MethodName)) ∈ lw_all := lw_g (lw_at lw_m9 75 rfl) rfl
theorem q2078 : (Jvm.Cond.code ({ cls := "CableTrayPlanner$Plan", name := "lay", desc := "(LCableTrayPlanner$Cable;LCableTrayPlanner$Type;LCableTrayPlanner$Plan$Search;)V" } : Jvm.MethodName) prog_11_method_19_code (8 : Nat) (Option.none : Option Jvm.ClassFile.FieldType)) ∈ lw_all := lw_g (lw_at lw_m9 76 rfl) rfl
theorem q2079 : (Jvm.Cond.methodLink "CableTrayPlanner$Plan" (221 : Nat) ({ cls := "CableTrayPlanner$Tray", name := "lay", desc := "(LCableTrayPlanner$Type;I)V" } : Jvm.MethodName)) ∈ lw_all := lw_g (lw_at lw_m9 77 rfl) rfl
theorem q2083 : (Jvm.Cond.methodLink "CableTrayPlanner$Plan" (230 : Nat) ({ cls := "CableTrayPlanner$Step", name := "<init>", desc := "(II)V" } : Jvm.MethodName)) ∈ lw_all := lw_g (lw_at lw_m9 81 rfl) rfl
theorem q2084 : (Jvm.Cond.methodLink "CableTrayPlanner$Plan" (250 : Nat) ({ cls := "CableTrayPlanner$Plan", name := "needed", desc := "(LCableTrayPlanner$Cable;)I" } : Jvm.MethodName)) ∈ lw_all := lw_g (lw_at lw_m9 82 rfl) rfl
theorem q2085 : (Jvm.Cond.instanceMethod ({ cls := "CableTrayPlanner$Plan", name := "needed", desc := "(LCableTrayPlanner$Cable;)I" } : Jvm.MethodName)) ∈ lw_all := lw_g (lw_at lw_m9 83 rfl) rfl
theorem q2086 : (Jvm.Cond.selects "CableTrayPlanner$Plan" ({ cls := "CableTrayPlanner$Plan", name := "needed", desc := "(LCableTrayPlanner$Cable;)I" } : Jvm.MethodName) ({ cls := "CableTrayPlanner$Plan", name := "needed", desc := "(LCableTrayPlanner$Cable;)I" } : Jvm.MethodName)) ∈ lw_all := lw_g (lw_at lw_m9 84 rfl) rfl
theorem q2087 : (Jvm.Cond.code ({ cls := "CableTrayPlanner$Plan", name := "needed", desc := "(LCableTrayPlanner$Cable;)I" } : Jvm.MethodName) prog_11_method_24_code (2 : Nat) (Option.some Jvm.ClassFile.FieldType.int)) ∈ lw_all := lw_g (lw_at lw_m9 85 rfl) rfl
theorem q2088 : (Jvm.Cond.methodLink "CableTrayPlanner$Plan" (278 : Nat) ({ cls := "CableTrayPlanner$Plan", name := "routeLength", desc := "(LCableTrayPlanner$Cable;)I" } : Jvm.MethodName)) ∈ lw_all := lw_g (lw_at lw_m9 86 rfl) rfl
theorem q2089 : (Jvm.Cond.instanceMethod ({ cls := "CableTrayPlanner$Plan", name := "routeLength", desc := "(LCableTrayPlanner$Cable;)I" } : Jvm.MethodName)) ∈ lw_all := lw_g (lw_at lw_m9 87 rfl) rfl
theorem q2090 : (Jvm.Cond.selects "CableTrayPlanner$Plan" ({ cls := "CableTrayPlanner$Plan", name := "routeLength", desc := "(LCableTrayPlanner$Cable;)I" } : Jvm.MethodName) ({ cls := "CableTrayPlanner$Plan", name := "routeLength", desc := "(LCableTrayPlanner$Cable;)I" } : Jvm.MethodName)) ∈ lw_all := lw_g (lw_at lw_m9 88 rfl) rfl
theorem q2091 : (Jvm.Cond.code ({ cls := "CableTrayPlanner$Plan", name := "routeLength", desc := "(LCableTrayPlanner$Cable;)I" } : Jvm.MethodName) prog_11_method_23_code (5 : Nat) (Option.some Jvm.ClassFile.FieldType.int)) ∈ lw_all := lw_g (lw_at lw_m9 89 rfl) rfl
theorem q2096 : (Jvm.Cond.instanceMethod ({ cls := "CableTrayPlanner$Plan", name := "cut", desc := "(I)I" } : Jvm.MethodName)) ∈ lw_all := lw_g (lw_at lw_m9 94 rfl) rfl
theorem q2097 : (Jvm.Cond.selects "CableTrayPlanner$Plan" ({ cls := "CableTrayPlanner$Plan", name := "cut", desc := "(I)I" } : Jvm.MethodName) ({ cls := "CableTrayPlanner$Plan", name := "cut", desc := "(I)I" } : Jvm.MethodName)) ∈ lw_all := lw_g (lw_at lw_m9 95 rfl) rfl
theorem q2098 : (Jvm.Cond.code ({ cls := "CableTrayPlanner$Plan", name := "cut", desc := "(I)I" } : Jvm.MethodName) prog_11_method_26_code (8 : Nat) (Option.some Jvm.ClassFile.FieldType.int)) ∈ lw_all := lw_g (lw_at lw_m9 96 rfl) rfl
theorem q2099 : (Jvm.Cond.methodLink "CableTrayPlanner$Plan" (291 : Nat) ({ cls := "CableTrayPlanner$Plan", name := "greatestRest", desc := "(I)I" } : Jvm.MethodName)) ∈ lw_all := lw_g (lw_at lw_m9 97 rfl) rfl
theorem q2100 : (Jvm.Cond.privateMethod ({ cls := "CableTrayPlanner$Plan", name := "greatestRest", desc := "(I)I" } : Jvm.MethodName)) ∈ lw_tbl := lw_at lw_m9 98 rfl
theorem q2101 : (Jvm.Cond.instanceMethod ({ cls := "CableTrayPlanner$Plan", name := "greatestRest", desc := "(I)I" } : Jvm.MethodName)) ∈ lw_all := lw_g (lw_at lw_m9 99 rfl) rfl
theorem q2102 : (Jvm.Cond.code ({ cls := "CableTrayPlanner$Plan", name := "greatestRest", desc := "(I)I" } : Jvm.MethodName) prog_11_method_25_code (5 : Nat) (Option.some Jvm.ClassFile.FieldType.int)) ∈ lw_all := lw_g (lw_at lw_m9 100 rfl) rfl
theorem q2103 : (Jvm.Cond.methodLink "CableTrayPlanner$Plan" (285 : Nat) ({ cls := "java/lang/Math", name := "max", desc := "(II)I" } : Jvm.MethodName)) ∈ lw_all := lw_g (lw_at lw_m9 101 rfl) rfl
theorem q2149 : (Jvm.Cond.instanceMethod ({ cls := "CableTrayPlanner$Plan", name := "free", desc := "(I)I" } : Jvm.MethodName)) ∈ lw_all := lw_g (lw_at lw_m9 147 rfl) rfl
theorem q2150 : (Jvm.Cond.selects "CableTrayPlanner$Plan" ({ cls := "CableTrayPlanner$Plan", name := "free", desc := "(I)I" } : Jvm.MethodName) ({ cls := "CableTrayPlanner$Plan", name := "free", desc := "(I)I" } : Jvm.MethodName)) ∈ lw_all := lw_g (lw_at lw_m9 148 rfl) rfl
theorem q2151 : (Jvm.Cond.code ({ cls := "CableTrayPlanner$Plan", name := "free", desc := "(I)I" } : Jvm.MethodName) prog_11_method_22_code (3 : Nat) (Option.some Jvm.ClassFile.FieldType.int)) ∈ lw_all := lw_g (lw_at lw_m9 149 rfl) rfl
theorem q2152 : (Jvm.Cond.methodLink "CableTrayPlanner$Plan" (271 : Nat) ({ cls := "CableTrayPlanner$Plan", name := "cable", desc := "(I)LCableTrayPlanner$Cable;" } : Jvm.MethodName)) ∈ lw_all := lw_g (lw_at lw_m9 150 rfl) rfl
theorem q2153 : (Jvm.Cond.instanceMethod ({ cls := "CableTrayPlanner$Plan", name := "cable", desc := "(I)LCableTrayPlanner$Cable;" } : Jvm.MethodName)) ∈ lw_all := lw_g (lw_at lw_m9 151 rfl) rfl
theorem q2154 : (Jvm.Cond.selects "CableTrayPlanner$Plan" ({ cls := "CableTrayPlanner$Plan", name := "cable", desc := "(I)LCableTrayPlanner$Cable;" } : Jvm.MethodName) ({ cls := "CableTrayPlanner$Plan", name := "cable", desc := "(I)LCableTrayPlanner$Cable;" } : Jvm.MethodName)) ∈ lw_all := lw_g (lw_at lw_m9 152 rfl) rfl
theorem q2155 : (Jvm.Cond.code ({ cls := "CableTrayPlanner$Plan", name := "cable", desc := "(I)LCableTrayPlanner$Cable;" } : Jvm.MethodName) prog_11_method_6_code (2 : Nat) (Option.some (Jvm.ClassFile.FieldType.object "CableTrayPlanner$Cable"))) ∈ lw_all := lw_g (lw_at lw_m9 153 rfl) rfl
theorem q2156 : (Jvm.Cond.methodLink "CableTrayPlanner$Plan" (275 : Nat) ({ cls := "CableTrayPlanner$Plan", name := "leave", desc := "(LCableTrayPlanner$Cable;)I" } : Jvm.MethodName)) ∈ lw_all := lw_g (lw_at lw_m9 154 rfl) rfl
theorem q2157 : (Jvm.Cond.privateMethod ({ cls := "CableTrayPlanner$Plan", name := "leave", desc := "(LCableTrayPlanner$Cable;)I" } : Jvm.MethodName)) ∈ lw_tbl := lw_at lw_m9 155 rfl
theorem q2158 : (Jvm.Cond.instanceMethod ({ cls := "CableTrayPlanner$Plan", name := "leave", desc := "(LCableTrayPlanner$Cable;)I" } : Jvm.MethodName)) ∈ lw_all := lw_g (lw_at lw_m9 156 rfl) rfl
theorem q2159 : (Jvm.Cond.code ({ cls := "CableTrayPlanner$Plan", name := "leave", desc := "(LCableTrayPlanner$Cable;)I" } : Jvm.MethodName) prog_11_method_21_code (5 : Nat) (Option.some Jvm.ClassFile.FieldType.int)) ∈ lw_all := lw_g (lw_at lw_m9 157 rfl) rfl
theorem q2160 : (Jvm.Cond.methodLink "CableTrayPlanner$Plan" (259 : Nat) ({ cls := "CableTrayPlanner$Tray", name := "leave", desc := "(LCableTrayPlanner$Type;I)V" } : Jvm.MethodName)) ∈ lw_all := lw_g (lw_at lw_m9 158 rfl) rfl
theorem q2164 : (Jvm.Cond.methodLink "CableTrayPlanner$Plan" (262 : Nat) ({ cls := "java/util/ArrayList", name := "clear", desc := "()V" } : Jvm.MethodName)) ∈ lw_all := lw_g (lw_at lw_m9 162 rfl) rfl
theorem q2200 : (Jvm.Cond.instanceMethod ({ cls := "CableTrayPlanner$Plan", name := "scrap", desc := "(I)I" } : Jvm.MethodName)) ∈ lw_all := lw_g (lw_at lw_m9 198 rfl) rfl
theorem q2201 : (Jvm.Cond.selects "CableTrayPlanner$Plan" ({ cls := "CableTrayPlanner$Plan", name := "scrap", desc := "(I)I" } : Jvm.MethodName) ({ cls := "CableTrayPlanner$Plan", name := "scrap", desc := "(I)I" } : Jvm.MethodName)) ∈ lw_all := lw_g (lw_at lw_m9 199 rfl) rfl
theorem q2202 : (Jvm.Cond.code ({ cls := "CableTrayPlanner$Plan", name := "scrap", desc := "(I)I" } : Jvm.MethodName) prog_11_method_27_code (5 : Nat) (Option.some Jvm.ClassFile.FieldType.int)) ∈ lw_all := lw_g (lw_at lw_m9 200 rfl) rfl
theorem q2335 : (Jvm.Cond.instanceMethod ({ cls := "CableTrayPlanner$Plan", name := "shortest", desc := "(III)I" } : Jvm.MethodName)) ∈ lw_all := lw_g (lw_at lw_m10 93 rfl) rfl
theorem q2336 : (Jvm.Cond.selects "CableTrayPlanner$Plan" ({ cls := "CableTrayPlanner$Plan", name := "shortest", desc := "(III)I" } : Jvm.MethodName) ({ cls := "CableTrayPlanner$Plan", name := "shortest", desc := "(III)I" } : Jvm.MethodName)) ∈ lw_all := lw_g (lw_at lw_m10 94 rfl) rfl
theorem q2337 : (Jvm.Cond.code ({ cls := "CableTrayPlanner$Plan", name := "shortest", desc := "(III)I" } : Jvm.MethodName) prog_11_method_16_code (5 : Nat) (Option.some Jvm.ClassFile.FieldType.int)) ∈ lw_all := lw_g (lw_at lw_m10 95 rfl) rfl
theorem q2346 : (Jvm.Cond.instanceMethod ({ cls := "CableTrayPlanner$Plan", name := "drum", desc := "(I)LCableTrayPlanner$Drum;" } : Jvm.MethodName)) ∈ lw_all := lw_g (lw_at lw_m10 104 rfl) rfl
theorem q2347 : (Jvm.Cond.selects "CableTrayPlanner$Plan" ({ cls := "CableTrayPlanner$Plan", name := "drum", desc := "(I)LCableTrayPlanner$Drum;" } : Jvm.MethodName) ({ cls := "CableTrayPlanner$Plan", name := "drum", desc := "(I)LCableTrayPlanner$Drum;" } : Jvm.MethodName)) ∈ lw_all := lw_g (lw_at lw_m10 105 rfl) rfl
theorem q2348 : (Jvm.Cond.code ({ cls := "CableTrayPlanner$Plan", name := "drum", desc := "(I)LCableTrayPlanner$Drum;" } : Jvm.MethodName) prog_11_method_7_code (2 : Nat) (Option.some (Jvm.ClassFile.FieldType.object "CableTrayPlanner$Drum"))) ∈ lw_all := lw_g (lw_at lw_m10 106 rfl) rfl
theorem q2350 : (Jvm.Cond.instanceMethod ({ cls := "CableTrayPlanner$Plan", name := "cutFrom", desc := "(I)I" } : Jvm.MethodName)) ∈ lw_all := lw_g (lw_at lw_m10 108 rfl) rfl
theorem q2351 : (Jvm.Cond.selects "CableTrayPlanner$Plan" ({ cls := "CableTrayPlanner$Plan", name := "cutFrom", desc := "(I)I" } : Jvm.MethodName) ({ cls := "CableTrayPlanner$Plan", name := "cutFrom", desc := "(I)I" } : Jvm.MethodName)) ∈ lw_all := lw_g (lw_at lw_m10 109 rfl) rfl
theorem q2352 : (Jvm.Cond.code ({ cls := "CableTrayPlanner$Plan", name := "cutFrom", desc := "(I)I" } : Jvm.MethodName) prog_11_method_32_code (5 : Nat) (Option.some Jvm.ClassFile.FieldType.int)) ∈ lw_all := lw_g (lw_at lw_m10 110 rfl) rfl
theorem q2361 : (Jvm.Cond.instanceMethod ({ cls := "CableTrayPlanner$Plan", name := "fewestDrums", desc := "(I)I" } : Jvm.MethodName)) ∈ lw_all := lw_g (lw_at lw_m10 119 rfl) rfl
theorem q2362 : (Jvm.Cond.selects "CableTrayPlanner$Plan" ({ cls := "CableTrayPlanner$Plan", name := "fewestDrums", desc := "(I)I" } : Jvm.MethodName) ({ cls := "CableTrayPlanner$Plan", name := "fewestDrums", desc := "(I)I" } : Jvm.MethodName)) ∈ lw_all := lw_g (lw_at lw_m10 120 rfl) rfl
theorem q2363 : (Jvm.Cond.code ({ cls := "CableTrayPlanner$Plan", name := "fewestDrums", desc := "(I)I" } : Jvm.MethodName) prog_11_method_31_code (8 : Nat) (Option.some Jvm.ClassFile.FieldType.int)) ∈ lw_all := lw_g (lw_at lw_m10 121 rfl) rfl
theorem q2364 : (Jvm.Cond.methodLink "CableTrayPlanner$Plan" (298 : Nat) ({ cls := "CableTrayPlanner$Plan", name := "needs", desc := "(I)Ljava/util/ArrayList;" } : Jvm.MethodName)) ∈ lw_all := lw_g (lw_at lw_m10 122 rfl) rfl
theorem q2365 : (Jvm.Cond.privateMethod ({ cls := "CableTrayPlanner$Plan", name := "needs", desc := "(I)Ljava/util/ArrayList;" } : Jvm.MethodName)) ∈ lw_tbl := lw_at lw_m10 123 rfl
theorem q2366 : (Jvm.Cond.instanceMethod ({ cls := "CableTrayPlanner$Plan", name := "needs", desc := "(I)Ljava/util/ArrayList;" } : Jvm.MethodName)) ∈ lw_all := lw_g (lw_at lw_m10 124 rfl) rfl
theorem q2367 : (Jvm.Cond.code ({ cls := "CableTrayPlanner$Plan", name := "needs", desc := "(I)Ljava/util/ArrayList;" } : Jvm.MethodName) prog_11_method_28_code (6 : Nat) (Option.some (Jvm.ClassFile.FieldType.object "java/util/ArrayList"))) ∈ lw_all := lw_g (lw_at lw_m10 125 rfl) rfl
theorem q2368 : (Jvm.Cond.methodLink "CableTrayPlanner$Plan" (302 : Nat) ({ cls := "CableTrayPlanner$Plan", name := "rests", desc := "(I)Ljava/util/ArrayList;" } : Jvm.MethodName)) ∈ lw_all := lw_g (lw_at lw_m10 126 rfl) rfl
theorem q2369 : (Jvm.Cond.privateMethod ({ cls := "CableTrayPlanner$Plan", name := "rests", desc := "(I)Ljava/util/ArrayList;" } : Jvm.MethodName)) ∈ lw_tbl := lw_at lw_m10 127 rfl
theorem q2370 : (Jvm.Cond.instanceMethod ({ cls := "CableTrayPlanner$Plan", name := "rests", desc := "(I)Ljava/util/ArrayList;" } : Jvm.MethodName)) ∈ lw_all := lw_g (lw_at lw_m10 128 rfl) rfl
theorem q2371 : (Jvm.Cond.code ({ cls := "CableTrayPlanner$Plan", name := "rests", desc := "(I)Ljava/util/ArrayList;" } : Jvm.MethodName) prog_11_method_29_code (6 : Nat) (Option.some (Jvm.ClassFile.FieldType.object "java/util/ArrayList"))) ∈ lw_all := lw_g (lw_at lw_m10 129 rfl) rfl
theorem q2372 : (Jvm.Cond.methodLink "CableTrayPlanner$Plan" (295 : Nat) ({ cls := "java/util/ArrayList", name := "add", desc := "(ILjava/lang/Object;)V" } : Jvm.MethodName)) ∈ lw_all := lw_g (lw_at lw_m10 130 rfl) rfl
theorem q2393 : (Jvm.Cond.methodLink "CableTrayPlanner$Plan" (305 : Nat) ({ cls := "CableTrayPlanner$Plan", name := "behind", desc := "(IILjava/util/ArrayList;)I" } : Jvm.MethodName)) ∈ lw_all := lw_g (lw_at lw_m10 151 rfl) rfl
theorem q2394 : (Jvm.Cond.static ({ cls := "CableTrayPlanner$Plan", name := "behind", desc := "(IILjava/util/ArrayList;)I" } : Jvm.MethodName)) ∈ lw_all := lw_g (lw_at lw_m10 152 rfl) rfl
theorem q2395 : (Jvm.Cond.code ({ cls := "CableTrayPlanner$Plan", name := "behind", desc := "(IILjava/util/ArrayList;)I" } : Jvm.MethodName) prog_11_method_30_code (5 : Nat) (Option.some Jvm.ClassFile.FieldType.int)) ∈ lw_all := lw_g (lw_at lw_m10 153 rfl) rfl
theorem q2396 : (Jvm.Cond.methodLink "CableTrayPlanner$Plan" (309 : Nat) ({ cls := "java/lang/Math", name := "min", desc := "(II)I" } : Jvm.MethodName)) ∈ lw_all := lw_g (lw_at lw_m10 154 rfl) rfl
theorem q2397 : (Jvm.Cond.methodLinkNest "CableTrayPlanner$Plan" (312 : Nat) ({ cls := "CableTrayPlanner", name := "checkElement", desc := "(Z)V" } : Jvm.MethodName) "CableTrayPlanner") ∈ lw_tbl := lw_at lw_m10 155 rfl
theorem q2671 : (Jvm.Cond.instanceMethod ({ cls := "CableTrayPlanner$Plan", name := "addType", desc := "(Ljava/lang/String;II)V" } : Jvm.MethodName)) ∈ lw_all := lw_g (lw_at lw_m11 189 rfl) rfl
theorem q2672 : (Jvm.Cond.selects "CableTrayPlanner$Plan" ({ cls := "CableTrayPlanner$Plan", name := "addType", desc := "(Ljava/lang/String;II)V" } : Jvm.MethodName) ({ cls := "CableTrayPlanner$Plan", name := "addType", desc := "(Ljava/lang/String;II)V" } : Jvm.MethodName)) ∈ lw_all := lw_g (lw_at lw_m11 190 rfl) rfl
theorem q2673 : (Jvm.Cond.code ({ cls := "CableTrayPlanner$Plan", name := "addType", desc := "(Ljava/lang/String;II)V" } : Jvm.MethodName) prog_11_method_9_code (4 : Nat) (Option.none : Option Jvm.ClassFile.FieldType)) ∈ lw_all := lw_g (lw_at lw_m11 191 rfl) rfl
theorem q2674 : (Jvm.Cond.constantLong "CableTrayPlanner$Plan" (120 : Nat) (2 : Int64)) ∈ lw_all := lw_g (lw_at lw_m11 192 rfl) rfl
theorem q2675 : (Jvm.Cond.methodLink "CableTrayPlanner$Plan" (127 : Nat) ({ cls := "CableTrayPlanner$Plan", name := "typeNamed", desc := "(Ljava/lang/String;)I" } : Jvm.MethodName)) ∈ lw_all := lw_g (lw_at lw_m11 193 rfl) rfl
theorem q2677 : (Jvm.Cond.methodLink "CableTrayPlanner$Plan" (134 : Nat) ({ cls := "CableTrayPlanner$Type", name := "<init>", desc := "(Ljava/lang/String;II)V" } : Jvm.MethodName)) ∈ lw_all := lw_g (lw_at lw_m11 195 rfl) rfl
theorem q2682 : (Jvm.Cond.fieldLinkNest "CableTrayPlanner$Plan" (84 : Nat) "CableTrayPlanner$Type" "name" "Ljava/lang/String;" "CableTrayPlanner") ∈ lw_tbl := lw_at lw_m11 200 rfl
theorem q2687 : (Jvm.Cond.fieldLinkNest "CableTrayPlanner$Plan" (330 : Nat) "CableTrayPlanner$Type" "level" "I" "CableTrayPlanner") ∈ lw_tbl := lw_at lw_m11 205 rfl
theorem q2691 : (Jvm.Cond.fieldLinkNest "CableTrayPlanner$Plan" (327 : Nat) "CableTrayPlanner$Type" "area" "I" "CableTrayPlanner") ∈ lw_tbl := lw_at lw_m11 209 rfl
theorem q3232 : (Jvm.Cond.castable "CableTrayPlanner$Plan" "java/lang/Object") ∈ lw_tbl := lw_at lw_m14 30 rfl
theorem in_X2 : ∀ w ∈ wsX20, w ∈ lw_all := lw_in wsX20 [234, 236, 238, 240, 242, 244, 246, 248] (by decide +kernel) (by decide +kernel)

/-! CableTrayPlanner$Tray -/
set_option maxRecDepth 100000
def RX4 : String := "CableTrayPlanner$Tray"
def TX4 : u_T := fun k => match k with
  | 0 => ("CableTrayPlanner$Tray", "from", "I", true)
  | 1 => ("CableTrayPlanner$Tray", "to", "I", true)
  | 2 => ("CableTrayPlanner$Tray", "length", "I", true)
  | 3 => ("CableTrayPlanner$Tray", "area", "I", true)
  | 4 => ("CableTrayPlanner$Tray", "classes", "[I", true)
  | 5 => ("CableTrayPlanner$Tray", "filled", "[I", true)
  | _ => ("CableTrayPlanner$Tray", "counts", "[I", true)
def tyX4 : Nat → FieldType := fun k => match k with
  | 0 => .int
  | 1 => .int
  | 2 => .int
  | 3 => .int
  | 4 => .array .int
  | 5 => .array .int
  | _ => .array .int
abbrev wsX40 : List Cond := u_ws RX4 TX4 7
theorem nmX4 : ∀ a, a < 7 → ∀ b, b < 7 → a ≠ b → (TX4 a).2.1 ≠ (TX4 b).2.1 := by decide +kernel
theorem tyX4_ok : ∀ k, k < 7 → parseFieldDescriptor (TX4 k).2.2.1 = some (tyX4 k) := by decide +kernel
abbrev cX4_otherEnd : ByteArray := prog_18_method_12_code
def yX4_otherEnd : MethodName := ⟨RX4, "otherEnd", "(I)I"⟩
abbrev cX4_copy : ByteArray := prog_18_method_2_code
def yX4_copy : MethodName := ⟨RX4, "copy", "()LCableTrayPlanner$Tray;"⟩
abbrev cX4_init : ByteArray := prog_18_method_1_code
def yX4_init : MethodName := ⟨RX4, "<init>", "(IIIII)V"⟩
abbrev cX4_count : ByteArray := prog_18_method_10_code
def yX4_count : MethodName := ⟨RX4, "count", "()I"⟩
abbrev cX4_compartmentFor : ByteArray := prog_18_method_6_code
def yX4_compartmentFor : MethodName := ⟨RX4, "compartmentFor", "(LCableTrayPlanner$Type;I)I"⟩
abbrev cX4_compartment : ByteArray := prog_18_method_5_code
def yX4_compartment : MethodName := ⟨RX4, "compartment", "(III)I"⟩
abbrev cX4_room : ByteArray := prog_18_method_3_code
def yX4_room : MethodName := ⟨RX4, "room", "()I"⟩
abbrev cX4_kept : ByteArray := prog_18_method_4_code
def yX4_kept : MethodName := ⟨RX4, "kept", "(I)I"⟩
abbrev cX4_lay : ByteArray := prog_18_method_7_code
def yX4_lay : MethodName := ⟨RX4, "lay", "(LCableTrayPlanner$Type;I)V"⟩
abbrev cX4_leave : ByteArray := prog_18_method_8_code
def yX4_leave : MethodName := ⟨RX4, "leave", "(LCableTrayPlanner$Type;I)V"⟩
abbrev cX4_filled : ByteArray := prog_18_method_9_code
def yX4_filled : MethodName := ⟨RX4, "filled", "()I"⟩
abbrev cX4_free : ByteArray := prog_18_method_11_code
def yX4_free : MethodName := ⟨RX4, "free", "()I"⟩
theorem q118 : (Jvm.Cond.initialized "CableTrayPlanner$Tray") ∈ lw_all := lw_g (lw_at lw_m1 36 rfl) rfl
theorem q666 : (Jvm.Cond.selects "CableTrayPlanner$Tray" ({ cls := "java/lang/Object", name := "hashCode", desc := "()I" } : Jvm.MethodName) ({ cls := "java/lang/Object", name := "hashCode", desc := "()I" } : Jvm.MethodName)) ∈ lw_all := lw_g (lw_at lw_m3 104 rfl) rfl
theorem q765 : (Jvm.Cond.selects "CableTrayPlanner$Tray" ({ cls := "java/lang/Object", name := "equals", desc := "(Ljava/lang/Object;)Z" } : Jvm.MethodName) ({ cls := "java/lang/Object", name := "equals", desc := "(Ljava/lang/Object;)Z" } : Jvm.MethodName)) ∈ lw_all := lw_g (lw_at lw_m3 203 rfl) rfl
theorem q830 : (Jvm.Cond.selects "CableTrayPlanner$Tray" ({ cls := "java/lang/Object", name := "getClass", desc := "()Ljava/lang/Class;" } : Jvm.MethodName) ({ cls := "java/lang/Object", name := "getClass", desc := "()Ljava/lang/Class;" } : Jvm.MethodName)) ∈ lw_all := lw_g (lw_at lw_m4 28 rfl) rfl
theorem q1171 : (Jvm.Cond.instanceMethod ({ cls := "CableTrayPlanner$Tray", name := "otherEnd", desc := "(I)I" } : Jvm.MethodName)) ∈ lw_all := lw_g (lw_at lw_m5 129 rfl) rfl
theorem q1172 : (Jvm.Cond.selects "CableTrayPlanner$Tray" ({ cls := "CableTrayPlanner$Tray", name := "otherEnd", desc := "(I)I" } : Jvm.MethodName) ({ cls := "CableTrayPlanner$Tray", name := "otherEnd", desc := "(I)I" } : Jvm.MethodName)) ∈ lw_all := lw_g (lw_at lw_m5 130 rfl) rfl
theorem q1173 : (Jvm.Cond.code ({ cls := "CableTrayPlanner$Tray", name := "otherEnd", desc := "(I)I" } : Jvm.MethodName) prog_18_method_12_code (2 : Nat) (Option.some Jvm.ClassFile.FieldType.int)) ∈ lw_all := lw_g (lw_at lw_m5 131 rfl) rfl
theorem q1439 : (Jvm.Cond.instanceMethod ({ cls := "CableTrayPlanner$Tray", name := "copy", desc := "()LCableTrayPlanner$Tray;" } : Jvm.MethodName)) ∈ lw_all := lw_g (lw_at lw_m6 157 rfl) rfl
theorem q1440 : (Jvm.Cond.selects "CableTrayPlanner$Tray" ({ cls := "CableTrayPlanner$Tray", name := "copy", desc := "()LCableTrayPlanner$Tray;" } : Jvm.MethodName) ({ cls := "CableTrayPlanner$Tray", name := "copy", desc := "()LCableTrayPlanner$Tray;" } : Jvm.MethodName)) ∈ lw_all := lw_g (lw_at lw_m6 158 rfl) rfl
theorem q1441 : (Jvm.Cond.code ({ cls := "CableTrayPlanner$Tray", name := "copy", desc := "()LCableTrayPlanner$Tray;" } : Jvm.MethodName) prog_18_method_2_code (2 : Nat) (Option.some (Jvm.ClassFile.FieldType.object "CableTrayPlanner$Tray"))) ∈ lw_all := lw_g (lw_at lw_m6 159 rfl) rfl
theorem q1442 : (Jvm.Cond.classLink "CableTrayPlanner$Tray" (10 : Nat) "CableTrayPlanner$Tray") ∈ lw_all := lw_g (lw_at lw_m6 160 rfl) rfl
theorem q1443 : (Jvm.Cond.instantiable "CableTrayPlanner$Tray" (7 : Nat)) ∈ lw_all := lw_g (lw_at lw_m6 161 rfl) rfl
theorem q1444 : (Jvm.Cond.methodLink "CableTrayPlanner$Tray" (34 : Nat) ({ cls := "CableTrayPlanner$Tray", name := "<init>", desc := "(IIIII)V" } : Jvm.MethodName)) ∈ lw_all := lw_g (lw_at lw_m6 162 rfl) rfl
theorem q1445 : (Jvm.Cond.instanceMethod ({ cls := "CableTrayPlanner$Tray", name := "<init>", desc := "(IIIII)V" } : Jvm.MethodName)) ∈ lw_all := lw_g (lw_at lw_m6 163 rfl) rfl
theorem q1446 : (Jvm.Cond.code ({ cls := "CableTrayPlanner$Tray", name := "<init>", desc := "(IIIII)V" } : Jvm.MethodName) prog_18_method_1_code (7 : Nat) (Option.none : Option Jvm.ClassFile.FieldType)) ∈ lw_all := lw_g (lw_at lw_m6 164 rfl) rfl
theorem q1447 : (Jvm.Cond.methodLink "CableTrayPlanner$Tray" (3 : Nat) ({ cls := "java/lang/Object", name := "<init>", desc := "()V" } : Jvm.MethodName)) ∈ lw_all := lw_g (lw_at lw_m6 165 rfl) rfl
theorem q1448 : (Jvm.Cond.fieldLink "CableTrayPlanner$Tray" (9 : Nat) "CableTrayPlanner$Tray" "from" "I") ∈ lw_all := lw_g (lw_at lw_m6 166 rfl) rfl
theorem q1450 : (Jvm.Cond.fieldLink "CableTrayPlanner$Tray" (15 : Nat) "CableTrayPlanner$Tray" "to" "I") ∈ lw_all := lw_g (lw_at lw_m6 168 rfl) rfl
theorem q1452 : (Jvm.Cond.fieldLink "CableTrayPlanner$Tray" (18 : Nat) "CableTrayPlanner$Tray" "length" "I") ∈ lw_all := lw_g (lw_at lw_m6 170 rfl) rfl
theorem q1456 : (Jvm.Cond.fieldLink "CableTrayPlanner$Tray" (21 : Nat) "CableTrayPlanner$Tray" "area" "I") ∈ lw_all := lw_g (lw_at lw_m6 174 rfl) rfl
theorem q1458 : (Jvm.Cond.fieldLink "CableTrayPlanner$Tray" (24 : Nat) "CableTrayPlanner$Tray" "classes" "[I") ∈ lw_all := lw_g (lw_at lw_m6 176 rfl) rfl
theorem q1461 : (Jvm.Cond.fieldLink "CableTrayPlanner$Tray" (28 : Nat) "CableTrayPlanner$Tray" "filled" "[I") ∈ lw_all := lw_g (lw_at lw_m6 179 rfl) rfl
theorem q1464 : (Jvm.Cond.fieldLink "CableTrayPlanner$Tray" (31 : Nat) "CableTrayPlanner$Tray" "counts" "[I") ∈ lw_all := lw_g (lw_at lw_m6 182 rfl) rfl
theorem q1465 : (Jvm.Cond.laysFinal "CableTrayPlanner$Tray" "CableTrayPlanner$Tray" "from" "I") ∈ lw_all := lw_g (lw_at lw_m6 183 rfl) rfl
theorem q1466 : (Jvm.Cond.soleField "CableTrayPlanner$Tray" "from") ∈ lw_all := lw_g (lw_at lw_m6 184 rfl) rfl
theorem q1467 : (Jvm.Cond.laysFinal "CableTrayPlanner$Tray" "CableTrayPlanner$Tray" "to" "I") ∈ lw_all := lw_g (lw_at lw_m6 185 rfl) rfl
theorem q1468 : (Jvm.Cond.soleField "CableTrayPlanner$Tray" "to") ∈ lw_all := lw_g (lw_at lw_m6 186 rfl) rfl
theorem q1469 : (Jvm.Cond.laysFinal "CableTrayPlanner$Tray" "CableTrayPlanner$Tray" "length" "I") ∈ lw_all := lw_g (lw_at lw_m6 187 rfl) rfl
theorem q1470 : (Jvm.Cond.soleField "CableTrayPlanner$Tray" "length") ∈ lw_all := lw_g (lw_at lw_m6 188 rfl) rfl
theorem q1471 : (Jvm.Cond.laysFinal "CableTrayPlanner$Tray" "CableTrayPlanner$Tray" "area" "I") ∈ lw_all := lw_g (lw_at lw_m6 189 rfl) rfl
theorem q1472 : (Jvm.Cond.soleField "CableTrayPlanner$Tray" "area") ∈ lw_all := lw_g (lw_at lw_m6 190 rfl) rfl
theorem q1473 : (Jvm.Cond.laysFinal "CableTrayPlanner$Tray" "CableTrayPlanner$Tray" "classes" "[I") ∈ lw_all := lw_g (lw_at lw_m6 191 rfl) rfl
theorem q1474 : (Jvm.Cond.soleField "CableTrayPlanner$Tray" "classes") ∈ lw_all := lw_g (lw_at lw_m6 192 rfl) rfl
theorem q1475 : (Jvm.Cond.laysFinal "CableTrayPlanner$Tray" "CableTrayPlanner$Tray" "filled" "[I") ∈ lw_all := lw_g (lw_at lw_m6 193 rfl) rfl
theorem q1476 : (Jvm.Cond.soleField "CableTrayPlanner$Tray" "filled") ∈ lw_all := lw_g (lw_at lw_m6 194 rfl) rfl
theorem q1477 : (Jvm.Cond.laysFinal "CableTrayPlanner$Tray" "CableTrayPlanner$Tray" "counts" "[I") ∈ lw_all := lw_g (lw_at lw_m6 195 rfl) rfl
theorem q1478 : (Jvm.Cond.soleField "CableTrayPlanner$Tray" "counts") ∈ lw_all := lw_g (lw_at lw_m6 196 rfl) rfl
theorem q1479 : (Jvm.Cond.superclass "CableTrayPlanner$Tray" "java/lang/Object") ∈ lw_all := lw_g (lw_at lw_m6 197 rfl) rfl
theorem q1481 : (Jvm.Cond.methodLink "CableTrayPlanner$Tray" (37 : Nat) ({ cls := "java/lang/System", name := "arraycopy", desc := "(Ljava/lang/Object;ILjava/lang/Object;II)V" } : Jvm.MethodName)) ∈ lw_all := lw_g (lw_at lw_m6 199 rfl) rfl
theorem q1754 : (Jvm.Cond.instanceMethod ({ cls := "CableTrayPlanner$Tray", name := "count", desc := "()I" } : Jvm.MethodName)) ∈ lw_all := lw_g (lw_at lw_m7 232 rfl) rfl
theorem q1755 : (Jvm.Cond.selects "CableTrayPlanner$Tray" ({ cls := "CableTrayPlanner$Tray", name := "count", desc := "()I" } : Jvm.MethodName) ({ cls := "CableTrayPlanner$Tray", name := "count", desc := "()I" } : Jvm.MethodName)) ∈ lw_all := lw_g (lw_at lw_m7 233 rfl) rfl
theorem q1756 : (Jvm.Cond.code ({ cls := "CableTrayPlanner$Tray", name := "count", desc := "()I" } : Jvm.MethodName) prog_18_method_10_code (6 : Nat) (Option.some Jvm.ClassFile.FieldType.int)) ∈ lw_all := lw_g (lw_at lw_m7 234 rfl) rfl
theorem q2002 : (Jvm.Cond.instanceMethod ({ cls := "CableTrayPlanner$Tray", name := "compartmentFor", desc := "(LCableTrayPlanner$Type;I)I" } : Jvm.MethodName)) ∈ lw_all := lw_g (lw_at lw_m9 0 rfl) rfl
theorem q2003 : (Jvm.Cond.selects "CableTrayPlanner$Tray" ({ cls := "CableTrayPlanner$Tray", name := "compartmentFor", desc := "(LCableTrayPlanner$Type;I)I" } : Jvm.MethodName) ({ cls := "CableTrayPlanner$Tray", name := "compartmentFor", desc := "(LCableTrayPlanner$Type;I)I" } : Jvm.MethodName)) ∈ lw_all := lw_g (lw_at lw_m9 1 rfl) rfl
theorem q2004 : (Jvm.Cond.code ({ cls := "CableTrayPlanner$Tray", name := "compartmentFor", desc := "(LCableTrayPlanner$Type;I)I" } : Jvm.MethodName) prog_18_method_6_code (4 : Nat) (Option.some Jvm.ClassFile.FieldType.int)) ∈ lw_all := lw_g (lw_at lw_m9 2 rfl) rfl
theorem q2005 : (Jvm.Cond.methodLink "CableTrayPlanner$Tray" (57 : Nat) ({ cls := "CableTrayPlanner$Tray", name := "compartment", desc := "(III)I" } : Jvm.MethodName)) ∈ lw_all := lw_g (lw_at lw_m9 3 rfl) rfl
theorem q2006 : (Jvm.Cond.privateMethod ({ cls := "CableTrayPlanner$Tray", name := "compartment", desc := "(III)I" } : Jvm.MethodName)) ∈ lw_tbl := lw_at lw_m9 4 rfl
theorem q2007 : (Jvm.Cond.instanceMethod ({ cls := "CableTrayPlanner$Tray", name := "compartment", desc := "(III)I" } : Jvm.MethodName)) ∈ lw_all := lw_g (lw_at lw_m9 5 rfl) rfl
theorem q2008 : (Jvm.Cond.code ({ cls := "CableTrayPlanner$Tray", name := "compartment", desc := "(III)I" } : Jvm.MethodName) prog_18_method_5_code (5 : Nat) (Option.some Jvm.ClassFile.FieldType.int)) ∈ lw_all := lw_g (lw_at lw_m9 6 rfl) rfl
theorem q2009 : (Jvm.Cond.methodLink "CableTrayPlanner$Tray" (43 : Nat) ({ cls := "CableTrayPlanner$Tray", name := "room", desc := "()I" } : Jvm.MethodName)) ∈ lw_all := lw_g (lw_at lw_m9 7 rfl) rfl
theorem q2010 : (Jvm.Cond.instanceMethod ({ cls := "CableTrayPlanner$Tray", name := "room", desc := "()I" } : Jvm.MethodName)) ∈ lw_all := lw_g (lw_at lw_m9 8 rfl) rfl
theorem q2011 : (Jvm.Cond.selects "CableTrayPlanner$Tray" ({ cls := "CableTrayPlanner$Tray", name := "room", desc := "()I" } : Jvm.MethodName) ({ cls := "CableTrayPlanner$Tray", name := "room", desc := "()I" } : Jvm.MethodName)) ∈ lw_all := lw_g (lw_at lw_m9 9 rfl) rfl
theorem q2012 : (Jvm.Cond.code ({ cls := "CableTrayPlanner$Tray", name := "room", desc := "()I" } : Jvm.MethodName) prog_18_method_3_code (1 : Nat) (Option.some Jvm.ClassFile.FieldType.int)) ∈ lw_all := lw_g (lw_at lw_m9 10 rfl) rfl
theorem q2013 : (Jvm.Cond.methodLink "CableTrayPlanner$Tray" (47 : Nat) ({ cls := "CableTrayPlanner$Tray", name := "kept", desc := "(I)I" } : Jvm.MethodName)) ∈ lw_all := lw_g (lw_at lw_m9 11 rfl) rfl
theorem q2014 : (Jvm.Cond.instanceMethod ({ cls := "CableTrayPlanner$Tray", name := "kept", desc := "(I)I" } : Jvm.MethodName)) ∈ lw_all := lw_g (lw_at lw_m9 12 rfl) rfl
theorem q2015 : (Jvm.Cond.selects "CableTrayPlanner$Tray" ({ cls := "CableTrayPlanner$Tray", name := "kept", desc := "(I)I" } : Jvm.MethodName) ({ cls := "CableTrayPlanner$Tray", name := "kept", desc := "(I)I" } : Jvm.MethodName)) ∈ lw_all := lw_g (lw_at lw_m9 13 rfl) rfl
theorem q2016 : (Jvm.Cond.code ({ cls := "CableTrayPlanner$Tray", name := "kept", desc := "(I)I" } : Jvm.MethodName) prog_18_method_4_code (2 : Nat) (Option.some Jvm.ClassFile.FieldType.int)) ∈ lw_all := lw_g (lw_at lw_m9 14 rfl) rfl
theorem q2080 : (Jvm.Cond.instanceMethod ({ cls := "CableTrayPlanner$Tray", name := "lay", desc := "(LCableTrayPlanner$Type;I)V" } : Jvm.MethodName)) ∈ lw_all := lw_g (lw_at lw_m9 78 rfl) rfl
theorem q2081 : (Jvm.Cond.selects "CableTrayPlanner$Tray" ({ cls := "CableTrayPlanner$Tray", name := "lay", desc := "(LCableTrayPlanner$Type;I)V" } : Jvm.MethodName) ({ cls := "CableTrayPlanner$Tray", name := "lay", desc := "(LCableTrayPlanner$Type;I)V" } : Jvm.MethodName)) ∈ lw_all := lw_g (lw_at lw_m9 79 rfl) rfl
theorem q2082 : (Jvm.Cond.code ({ cls := "CableTrayPlanner$Tray", name := "lay", desc := "(LCableTrayPlanner$Type;I)V" } : Jvm.MethodName) prog_18_method_7_code (3 : Nat) (Option.none : Option Jvm.ClassFile.FieldType)) ∈ lw_all := lw_g (lw_at lw_m9 80 rfl) rfl
theorem q2161 : (Jvm.Cond.instanceMethod ({ cls := "CableTrayPlanner$Tray", name := "leave", desc := "(LCableTrayPlanner$Type;I)V" } : Jvm.MethodName)) ∈ lw_all := lw_g (lw_at lw_m9 159 rfl) rfl
theorem q2162 : (Jvm.Cond.selects "CableTrayPlanner$Tray" ({ cls := "CableTrayPlanner$Tray", name := "leave", desc := "(LCableTrayPlanner$Type;I)V" } : Jvm.MethodName) ({ cls := "CableTrayPlanner$Tray", name := "leave", desc := "(LCableTrayPlanner$Type;I)V" } : Jvm.MethodName)) ∈ lw_all := lw_g (lw_at lw_m9 160 rfl) rfl
theorem q2163 : (Jvm.Cond.code ({ cls := "CableTrayPlanner$Tray", name := "leave", desc := "(LCableTrayPlanner$Type;I)V" } : Jvm.MethodName) prog_18_method_8_code (3 : Nat) (Option.none : Option Jvm.ClassFile.FieldType)) ∈ lw_all := lw_g (lw_at lw_m9 161 rfl) rfl
theorem q2284 : (Jvm.Cond.instanceMethod ({ cls := "CableTrayPlanner$Tray", name := "filled", desc := "()I" } : Jvm.MethodName)) ∈ lw_all := lw_g (lw_at lw_m10 42 rfl) rfl
theorem q2285 : (Jvm.Cond.selects "CableTrayPlanner$Tray" ({ cls := "CableTrayPlanner$Tray", name := "filled", desc := "()I" } : Jvm.MethodName) ({ cls := "CableTrayPlanner$Tray", name := "filled", desc := "()I" } : Jvm.MethodName)) ∈ lw_all := lw_g (lw_at lw_m10 43 rfl) rfl
theorem q2286 : (Jvm.Cond.code ({ cls := "CableTrayPlanner$Tray", name := "filled", desc := "()I" } : Jvm.MethodName) prog_18_method_9_code (6 : Nat) (Option.some Jvm.ClassFile.FieldType.int)) ∈ lw_all := lw_g (lw_at lw_m10 44 rfl) rfl
theorem q2289 : (Jvm.Cond.instanceMethod ({ cls := "CableTrayPlanner$Tray", name := "free", desc := "()I" } : Jvm.MethodName)) ∈ lw_all := lw_g (lw_at lw_m10 47 rfl) rfl
theorem q2290 : (Jvm.Cond.selects "CableTrayPlanner$Tray" ({ cls := "CableTrayPlanner$Tray", name := "free", desc := "()I" } : Jvm.MethodName) ({ cls := "CableTrayPlanner$Tray", name := "free", desc := "()I" } : Jvm.MethodName)) ∈ lw_all := lw_g (lw_at lw_m10 48 rfl) rfl
theorem q2291 : (Jvm.Cond.code ({ cls := "CableTrayPlanner$Tray", name := "free", desc := "()I" } : Jvm.MethodName) prog_18_method_11_code (6 : Nat) (Option.some Jvm.ClassFile.FieldType.int)) ∈ lw_all := lw_g (lw_at lw_m10 49 rfl) rfl
theorem q2685 : (Jvm.Cond.fieldLinkNest "CableTrayPlanner$Tray" (51 : Nat) "CableTrayPlanner$Type" "level" "I" "CableTrayPlanner") ∈ lw_tbl := lw_at lw_m11 203 rfl
theorem q2689 : (Jvm.Cond.fieldLinkNest "CableTrayPlanner$Tray" (56 : Nat) "CableTrayPlanner$Type" "area" "I" "CableTrayPlanner") ∈ lw_tbl := lw_at lw_m11 207 rfl
theorem q3244 : (Jvm.Cond.castable "CableTrayPlanner$Tray" "java/lang/Object") ∈ lw_tbl := lw_at lw_m14 42 rfl
theorem in_X4 : ∀ w ∈ wsX40, w ∈ lw_all := lw_in wsX40 [1465, 1467, 1469, 1471, 1473, 1475, 1477] (by decide +kernel) (by decide +kernel)

/-! CableTrayPlanner$Cable -/
set_option maxRecDepth 100000
def RX5 : String := "CableTrayPlanner$Cable"
def TX5 : u_T := fun k => match k with
  | 0 => ("CableTrayPlanner$Cable", "type", "I", true)
  | 1 => ("CableTrayPlanner$Cable", "from", "I", true)
  | 2 => ("CableTrayPlanner$Cable", "to", "I", true)
  | 3 => ("CableTrayPlanner$Cable", "state", "I", false)
  | 4 => ("CableTrayPlanner$Cable", "route", "Ljava/util/ArrayList;", true)
  | 5 => ("CableTrayPlanner$Cable", "length", "I", false)
  | _ => ("CableTrayPlanner$Cable", "drum", "I", false)
def tyX5 : Nat → FieldType := fun k => match k with
  | 0 => .int
  | 1 => .int
  | 2 => .int
  | 3 => .int
  | 4 => .object "java/util/ArrayList"
  | 5 => .int
  | _ => .int
abbrev wsX50 : List Cond := u_ws RX5 TX5 7
theorem nmX5 : ∀ a, a < 7 → ∀ b, b < 7 → a ≠ b → (TX5 a).2.1 ≠ (TX5 b).2.1 := by decide +kernel
theorem tyX5_ok : ∀ k, k < 7 → parseFieldDescriptor (TX5 k).2.2.1 = some (tyX5 k) := by decide +kernel
abbrev cX5_compartmentIn : ByteArray := prog_4_method_3_code
def yX5_compartmentIn : MethodName := ⟨RX5, "compartmentIn", "(I)I"⟩
abbrev cX5_copy : ByteArray := prog_4_method_2_code
def yX5_copy : MethodName := ⟨RX5, "copy", "()LCableTrayPlanner$Cable;"⟩
abbrev cX5_init : ByteArray := prog_4_method_1_code
def yX5_init : MethodName := ⟨RX5, "<init>", "(III)V"⟩
abbrev cX5_renumber : ByteArray := prog_4_method_4_code
def yX5_renumber : MethodName := ⟨RX5, "renumber", "(I)V"⟩
theorem q119 : (Jvm.Cond.initialized "CableTrayPlanner$Cable") ∈ lw_all := lw_g (lw_at lw_m1 37 rfl) rfl
theorem q653 : (Jvm.Cond.selects "CableTrayPlanner$Cable" ({ cls := "java/lang/Object", name := "hashCode", desc := "()I" } : Jvm.MethodName) ({ cls := "java/lang/Object", name := "hashCode", desc := "()I" } : Jvm.MethodName)) ∈ lw_all := lw_g (lw_at lw_m3 91 rfl) rfl
theorem q752 : (Jvm.Cond.selects "CableTrayPlanner$Cable" ({ cls := "java/lang/Object", name := "equals", desc := "(Ljava/lang/Object;)Z" } : Jvm.MethodName) ({ cls := "java/lang/Object", name := "equals", desc := "(Ljava/lang/Object;)Z" } : Jvm.MethodName)) ∈ lw_all := lw_g (lw_at lw_m3 190 rfl) rfl
theorem q817 : (Jvm.Cond.selects "CableTrayPlanner$Cable" ({ cls := "java/lang/Object", name := "getClass", desc := "()Ljava/lang/Class;" } : Jvm.MethodName) ({ cls := "java/lang/Object", name := "getClass", desc := "()Ljava/lang/Class;" } : Jvm.MethodName)) ∈ lw_all := lw_g (lw_at lw_m4 15 rfl) rfl
theorem q1245 : (Jvm.Cond.instanceMethod ({ cls := "CableTrayPlanner$Cable", name := "compartmentIn", desc := "(I)I" } : Jvm.MethodName)) ∈ lw_all := lw_g (lw_at lw_m5 203 rfl) rfl
theorem q1246 : (Jvm.Cond.selects "CableTrayPlanner$Cable" ({ cls := "CableTrayPlanner$Cable", name := "compartmentIn", desc := "(I)I" } : Jvm.MethodName) ({ cls := "CableTrayPlanner$Cable", name := "compartmentIn", desc := "(I)I" } : Jvm.MethodName)) ∈ lw_all := lw_g (lw_at lw_m5 204 rfl) rfl
theorem q1247 : (Jvm.Cond.code ({ cls := "CableTrayPlanner$Cable", name := "compartmentIn", desc := "(I)I" } : Jvm.MethodName) prog_4_method_3_code (4 : Nat) (Option.some Jvm.ClassFile.FieldType.int)) ∈ lw_all := lw_g (lw_at lw_m5 205 rfl) rfl
theorem q1248 : (Jvm.Cond.methodLink "CableTrayPlanner$Cable" (44 : Nat) ({ cls := "java/util/ArrayList", name := "iterator", desc := "()Ljava/util/Iterator;" } : Jvm.MethodName)) ∈ lw_all := lw_g (lw_at lw_m5 206 rfl) rfl
theorem q1249 : (Jvm.Cond.interfaceEntry "CableTrayPlanner$Cable" (48 : Nat)) ∈ lw_tbl := lw_at lw_m5 207 rfl
theorem q1250 : (Jvm.Cond.methodLink "CableTrayPlanner$Cable" (48 : Nat) ({ cls := "java/util/Iterator", name := "hasNext", desc := "()Z" } : Jvm.MethodName)) ∈ lw_all := lw_g (lw_at lw_m5 208 rfl) rfl
theorem q1251 : (Jvm.Cond.interfaceEntry "CableTrayPlanner$Cable" (54 : Nat)) ∈ lw_tbl := lw_at lw_m5 209 rfl
theorem q1252 : (Jvm.Cond.methodLink "CableTrayPlanner$Cable" (54 : Nat) ({ cls := "java/util/Iterator", name := "next", desc := "()Ljava/lang/Object;" } : Jvm.MethodName)) ∈ lw_all := lw_g (lw_at lw_m5 210 rfl) rfl
theorem q1253 : (Jvm.Cond.classLink "CableTrayPlanner$Cable" (58 : Nat) "CableTrayPlanner$Step") ∈ lw_all := lw_g (lw_at lw_m5 211 rfl) rfl
theorem q1483 : (Jvm.Cond.instanceMethod ({ cls := "CableTrayPlanner$Cable", name := "copy", desc := "()LCableTrayPlanner$Cable;" } : Jvm.MethodName)) ∈ lw_all := lw_g (lw_at lw_m6 201 rfl) rfl
theorem q1484 : (Jvm.Cond.selects "CableTrayPlanner$Cable" ({ cls := "CableTrayPlanner$Cable", name := "copy", desc := "()LCableTrayPlanner$Cable;" } : Jvm.MethodName) ({ cls := "CableTrayPlanner$Cable", name := "copy", desc := "()LCableTrayPlanner$Cable;" } : Jvm.MethodName)) ∈ lw_all := lw_g (lw_at lw_m6 202 rfl) rfl
theorem q1485 : (Jvm.Cond.code ({ cls := "CableTrayPlanner$Cable", name := "copy", desc := "()LCableTrayPlanner$Cable;" } : Jvm.MethodName) prog_4_method_2_code (3 : Nat) (Option.some (Jvm.ClassFile.FieldType.object "CableTrayPlanner$Cable"))) ∈ lw_all := lw_g (lw_at lw_m6 203 rfl) rfl
theorem q1486 : (Jvm.Cond.classLink "CableTrayPlanner$Cable" (10 : Nat) "CableTrayPlanner$Cable") ∈ lw_all := lw_g (lw_at lw_m6 204 rfl) rfl
theorem q1487 : (Jvm.Cond.instantiable "CableTrayPlanner$Cable" (7 : Nat)) ∈ lw_all := lw_g (lw_at lw_m6 205 rfl) rfl
theorem q1488 : (Jvm.Cond.methodLink "CableTrayPlanner$Cable" (34 : Nat) ({ cls := "CableTrayPlanner$Cable", name := "<init>", desc := "(III)V" } : Jvm.MethodName)) ∈ lw_all := lw_g (lw_at lw_m6 206 rfl) rfl
theorem q1489 : (Jvm.Cond.instanceMethod ({ cls := "CableTrayPlanner$Cable", name := "<init>", desc := "(III)V" } : Jvm.MethodName)) ∈ lw_all := lw_g (lw_at lw_m6 207 rfl) rfl
theorem q1490 : (Jvm.Cond.code ({ cls := "CableTrayPlanner$Cable", name := "<init>", desc := "(III)V" } : Jvm.MethodName) prog_4_method_1_code (4 : Nat) (Option.none : Option Jvm.ClassFile.FieldType)) ∈ lw_all := lw_g (lw_at lw_m6 208 rfl) rfl
theorem q1491 : (Jvm.Cond.methodLink "CableTrayPlanner$Cable" (3 : Nat) ({ cls := "java/lang/Object", name := "<init>", desc := "()V" } : Jvm.MethodName)) ∈ lw_all := lw_g (lw_at lw_m6 209 rfl) rfl
theorem q1492 : (Jvm.Cond.classLink "CableTrayPlanner$Cable" (15 : Nat) "java/util/ArrayList") ∈ lw_all := lw_g (lw_at lw_m6 210 rfl) rfl
theorem q1493 : (Jvm.Cond.methodLink "CableTrayPlanner$Cable" (17 : Nat) ({ cls := "java/util/ArrayList", name := "<init>", desc := "()V" } : Jvm.MethodName)) ∈ lw_all := lw_g (lw_at lw_m6 211 rfl) rfl
theorem q1494 : (Jvm.Cond.fieldLink "CableTrayPlanner$Cable" (25 : Nat) "CableTrayPlanner$Cable" "type" "I") ∈ lw_all := lw_g (lw_at lw_m6 212 rfl) rfl
theorem q1497 : (Jvm.Cond.fieldLink "CableTrayPlanner$Cable" (28 : Nat) "CableTrayPlanner$Cable" "from" "I") ∈ lw_all := lw_g (lw_at lw_m6 215 rfl) rfl
theorem q1500 : (Jvm.Cond.fieldLink "CableTrayPlanner$Cable" (31 : Nat) "CableTrayPlanner$Cable" "to" "I") ∈ lw_all := lw_g (lw_at lw_m6 218 rfl) rfl
theorem q1503 : (Jvm.Cond.fieldLink "CableTrayPlanner$Cable" (9 : Nat) "CableTrayPlanner$Cable" "state" "I") ∈ lw_all := lw_g (lw_at lw_m6 221 rfl) rfl
theorem q1506 : (Jvm.Cond.fieldLink "CableTrayPlanner$Cable" (18 : Nat) "CableTrayPlanner$Cable" "route" "Ljava/util/ArrayList;") ∈ lw_all := lw_g (lw_at lw_m6 224 rfl) rfl
theorem q1509 : (Jvm.Cond.fieldLink "CableTrayPlanner$Cable" (41 : Nat) "CableTrayPlanner$Cable" "length" "I") ∈ lw_all := lw_g (lw_at lw_m6 227 rfl) rfl
theorem q1511 : (Jvm.Cond.fieldLink "CableTrayPlanner$Cable" (22 : Nat) "CableTrayPlanner$Cable" "drum" "I") ∈ lw_all := lw_g (lw_at lw_m6 229 rfl) rfl
theorem q1514 : (Jvm.Cond.laysFinal "CableTrayPlanner$Cable" "CableTrayPlanner$Cable" "type" "I") ∈ lw_all := lw_g (lw_at lw_m6 232 rfl) rfl
theorem q1515 : (Jvm.Cond.soleField "CableTrayPlanner$Cable" "type") ∈ lw_all := lw_g (lw_at lw_m6 233 rfl) rfl
theorem q1516 : (Jvm.Cond.laysFinal "CableTrayPlanner$Cable" "CableTrayPlanner$Cable" "from" "I") ∈ lw_all := lw_g (lw_at lw_m6 234 rfl) rfl
theorem q1517 : (Jvm.Cond.soleField "CableTrayPlanner$Cable" "from") ∈ lw_all := lw_g (lw_at lw_m6 235 rfl) rfl
theorem q1518 : (Jvm.Cond.laysFinal "CableTrayPlanner$Cable" "CableTrayPlanner$Cable" "to" "I") ∈ lw_all := lw_g (lw_at lw_m6 236 rfl) rfl
theorem q1519 : (Jvm.Cond.soleField "CableTrayPlanner$Cable" "to") ∈ lw_all := lw_g (lw_at lw_m6 237 rfl) rfl
theorem q1520 : (Jvm.Cond.lays "CableTrayPlanner$Cable" "CableTrayPlanner$Cable" "state" "I") ∈ lw_all := lw_g (lw_at lw_m6 238 rfl) rfl
theorem q1521 : (Jvm.Cond.soleField "CableTrayPlanner$Cable" "state") ∈ lw_all := lw_g (lw_at lw_m6 239 rfl) rfl
theorem q1522 : (Jvm.Cond.laysFinal "CableTrayPlanner$Cable" "CableTrayPlanner$Cable" "route" "Ljava/util/ArrayList;") ∈ lw_all := lw_g (lw_at lw_m7 0 rfl) rfl
theorem q1523 : (Jvm.Cond.soleField "CableTrayPlanner$Cable" "route") ∈ lw_all := lw_g (lw_at lw_m7 1 rfl) rfl
theorem q1524 : (Jvm.Cond.lays "CableTrayPlanner$Cable" "CableTrayPlanner$Cable" "length" "I") ∈ lw_all := lw_g (lw_at lw_m7 2 rfl) rfl
theorem q1525 : (Jvm.Cond.soleField "CableTrayPlanner$Cable" "length") ∈ lw_all := lw_g (lw_at lw_m7 3 rfl) rfl
theorem q1526 : (Jvm.Cond.lays "CableTrayPlanner$Cable" "CableTrayPlanner$Cable" "drum" "I") ∈ lw_all := lw_g (lw_at lw_m7 4 rfl) rfl
theorem q1527 : (Jvm.Cond.soleField "CableTrayPlanner$Cable" "drum") ∈ lw_all := lw_g (lw_at lw_m7 5 rfl) rfl
theorem q1528 : (Jvm.Cond.superclass "CableTrayPlanner$Cable" "java/lang/Object") ∈ lw_all := lw_g (lw_at lw_m7 6 rfl) rfl
theorem q1529 : (Jvm.Cond.methodLink "CableTrayPlanner$Cable" (37 : Nat) ({ cls := "java/util/ArrayList", name := "addAll", desc := "(Ljava/util/Collection;)Z" } : Jvm.MethodName)) ∈ lw_all := lw_g (lw_at lw_m7 7 rfl) rfl
theorem q1766 : (Jvm.Cond.instanceMethod ({ cls := "CableTrayPlanner$Cable", name := "renumber", desc := "(I)V" } : Jvm.MethodName)) ∈ lw_all := lw_g (lw_at lw_m8 4 rfl) rfl
theorem q1767 : (Jvm.Cond.selects "CableTrayPlanner$Cable" ({ cls := "CableTrayPlanner$Cable", name := "renumber", desc := "(I)V" } : Jvm.MethodName) ({ cls := "CableTrayPlanner$Cable", name := "renumber", desc := "(I)V" } : Jvm.MethodName)) ∈ lw_all := lw_g (lw_at lw_m8 5 rfl) rfl
theorem q1768 : (Jvm.Cond.code ({ cls := "CableTrayPlanner$Cable", name := "renumber", desc := "(I)V" } : Jvm.MethodName) prog_4_method_4_code (5 : Nat) (Option.none : Option Jvm.ClassFile.FieldType)) ∈ lw_all := lw_g (lw_at lw_m8 6 rfl) rfl
theorem q1769 : (Jvm.Cond.methodLink "CableTrayPlanner$Cable" (66 : Nat) ({ cls := "java/util/ArrayList", name := "size", desc := "()I" } : Jvm.MethodName)) ∈ lw_all := lw_g (lw_at lw_m8 7 rfl) rfl
theorem q1770 : (Jvm.Cond.methodLink "CableTrayPlanner$Cable" (70 : Nat) ({ cls := "java/util/ArrayList", name := "get", desc := "(I)Ljava/lang/Object;" } : Jvm.MethodName)) ∈ lw_all := lw_g (lw_at lw_m8 8 rfl) rfl
theorem q1772 : (Jvm.Cond.methodLink "CableTrayPlanner$Cable" (74 : Nat) ({ cls := "CableTrayPlanner$Step", name := "<init>", desc := "(II)V" } : Jvm.MethodName)) ∈ lw_all := lw_g (lw_at lw_m8 10 rfl) rfl
theorem q1777 : (Jvm.Cond.fieldLinkNest "CableTrayPlanner$Cable" (60 : Nat) "CableTrayPlanner$Step" "tray" "I" "CableTrayPlanner") ∈ lw_tbl := lw_at lw_m8 15 rfl
theorem q1781 : (Jvm.Cond.fieldLinkNest "CableTrayPlanner$Cable" (63 : Nat) "CableTrayPlanner$Step" "compartment" "I" "CableTrayPlanner") ∈ lw_tbl := lw_at lw_m8 19 rfl
theorem q1789 : (Jvm.Cond.methodLink "CableTrayPlanner$Cable" (77 : Nat) ({ cls := "java/util/ArrayList", name := "set", desc := "(ILjava/lang/Object;)Ljava/lang/Object;" } : Jvm.MethodName)) ∈ lw_all := lw_g (lw_at lw_m8 27 rfl) rfl
theorem q3245 : (Jvm.Cond.castable "CableTrayPlanner$Cable" "java/lang/Object") ∈ lw_tbl := lw_at lw_m14 43 rfl
theorem in_X5 : ∀ w ∈ wsX50, w ∈ lw_all := lw_in wsX50 [1514, 1516, 1518, 1520, 1522, 1524, 1526] (by decide +kernel) (by decide +kernel)

/-! CableTrayPlanner$Drum -/
set_option maxRecDepth 100000
def RX6 : String := "CableTrayPlanner$Drum"
def TX6 : u_T := fun k => match k with
  | 0 => ("CableTrayPlanner$Drum", "type", "I", true)
  | 1 => ("CableTrayPlanner$Drum", "first", "I", true)
  | _ => ("CableTrayPlanner$Drum", "rest", "I", false)
def tyX6 : Nat → FieldType := fun k => match k with
  | 0 => .int
  | 1 => .int
  | _ => .int
abbrev wsX60 : List Cond := u_ws RX6 TX6 3
theorem nmX6 : ∀ a, a < 3 → ∀ b, b < 3 → a ≠ b → (TX6 a).2.1 ≠ (TX6 b).2.1 := by decide +kernel
theorem tyX6_ok : ∀ k, k < 3 → parseFieldDescriptor (TX6 k).2.2.1 = some (tyX6 k) := by decide +kernel
abbrev cX6_copy : ByteArray := prog_6_method_2_code
def yX6_copy : MethodName := ⟨RX6, "copy", "()LCableTrayPlanner$Drum;"⟩
abbrev cX6_init : ByteArray := prog_6_method_1_code
def yX6_init : MethodName := ⟨RX6, "<init>", "(II)V"⟩
theorem q120 : (Jvm.Cond.initialized "CableTrayPlanner$Drum") ∈ lw_all := lw_g (lw_at lw_m1 38 rfl) rfl
theorem q654 : (Jvm.Cond.selects "CableTrayPlanner$Drum" ({ cls := "java/lang/Object", name := "hashCode", desc := "()I" } : Jvm.MethodName) ({ cls := "java/lang/Object", name := "hashCode", desc := "()I" } : Jvm.MethodName)) ∈ lw_all := lw_g (lw_at lw_m3 92 rfl) rfl
theorem q753 : (Jvm.Cond.selects "CableTrayPlanner$Drum" ({ cls := "java/lang/Object", name := "equals", desc := "(Ljava/lang/Object;)Z" } : Jvm.MethodName) ({ cls := "java/lang/Object", name := "equals", desc := "(Ljava/lang/Object;)Z" } : Jvm.MethodName)) ∈ lw_all := lw_g (lw_at lw_m3 191 rfl) rfl
theorem q818 : (Jvm.Cond.selects "CableTrayPlanner$Drum" ({ cls := "java/lang/Object", name := "getClass", desc := "()Ljava/lang/Class;" } : Jvm.MethodName) ({ cls := "java/lang/Object", name := "getClass", desc := "()Ljava/lang/Class;" } : Jvm.MethodName)) ∈ lw_all := lw_g (lw_at lw_m4 16 rfl) rfl
theorem q1560 : (Jvm.Cond.instanceMethod ({ cls := "CableTrayPlanner$Drum", name := "copy", desc := "()LCableTrayPlanner$Drum;" } : Jvm.MethodName)) ∈ lw_all := lw_g (lw_at lw_m7 38 rfl) rfl
theorem q1561 : (Jvm.Cond.selects "CableTrayPlanner$Drum" ({ cls := "CableTrayPlanner$Drum", name := "copy", desc := "()LCableTrayPlanner$Drum;" } : Jvm.MethodName) ({ cls := "CableTrayPlanner$Drum", name := "copy", desc := "()LCableTrayPlanner$Drum;" } : Jvm.MethodName)) ∈ lw_all := lw_g (lw_at lw_m7 39 rfl) rfl
theorem q1562 : (Jvm.Cond.code ({ cls := "CableTrayPlanner$Drum", name := "copy", desc := "()LCableTrayPlanner$Drum;" } : Jvm.MethodName) prog_6_method_2_code (2 : Nat) (Option.some (Jvm.ClassFile.FieldType.object "CableTrayPlanner$Drum"))) ∈ lw_all := lw_g (lw_at lw_m7 40 rfl) rfl
theorem q1563 : (Jvm.Cond.classLink "CableTrayPlanner$Drum" (8 : Nat) "CableTrayPlanner$Drum") ∈ lw_all := lw_g (lw_at lw_m7 41 rfl) rfl
theorem q1564 : (Jvm.Cond.instantiable "CableTrayPlanner$Drum" (3 : Nat)) ∈ lw_all := lw_g (lw_at lw_m7 42 rfl) rfl
theorem q1565 : (Jvm.Cond.methodLink "CableTrayPlanner$Drum" (19 : Nat) ({ cls := "CableTrayPlanner$Drum", name := "<init>", desc := "(II)V" } : Jvm.MethodName)) ∈ lw_all := lw_g (lw_at lw_m7 43 rfl) rfl
theorem q1566 : (Jvm.Cond.instanceMethod ({ cls := "CableTrayPlanner$Drum", name := "<init>", desc := "(II)V" } : Jvm.MethodName)) ∈ lw_all := lw_g (lw_at lw_m7 44 rfl) rfl
theorem q1567 : (Jvm.Cond.code ({ cls := "CableTrayPlanner$Drum", name := "<init>", desc := "(II)V" } : Jvm.MethodName) prog_6_method_1_code (3 : Nat) (Option.none : Option Jvm.ClassFile.FieldType)) ∈ lw_all := lw_g (lw_at lw_m7 45 rfl) rfl
theorem q1568 : (Jvm.Cond.methodLink "CableTrayPlanner$Drum" (1 : Nat) ({ cls := "java/lang/Object", name := "<init>", desc := "()V" } : Jvm.MethodName)) ∈ lw_all := lw_g (lw_at lw_m7 46 rfl) rfl
theorem q1569 : (Jvm.Cond.fieldLink "CableTrayPlanner$Drum" (7 : Nat) "CableTrayPlanner$Drum" "type" "I") ∈ lw_all := lw_g (lw_at lw_m7 47 rfl) rfl
theorem q1572 : (Jvm.Cond.fieldLink "CableTrayPlanner$Drum" (13 : Nat) "CableTrayPlanner$Drum" "first" "I") ∈ lw_all := lw_g (lw_at lw_m7 50 rfl) rfl
theorem q1575 : (Jvm.Cond.fieldLink "CableTrayPlanner$Drum" (16 : Nat) "CableTrayPlanner$Drum" "rest" "I") ∈ lw_all := lw_g (lw_at lw_m7 53 rfl) rfl
theorem q1578 : (Jvm.Cond.laysFinal "CableTrayPlanner$Drum" "CableTrayPlanner$Drum" "type" "I") ∈ lw_all := lw_g (lw_at lw_m7 56 rfl) rfl
theorem q1579 : (Jvm.Cond.soleField "CableTrayPlanner$Drum" "type") ∈ lw_all := lw_g (lw_at lw_m7 57 rfl) rfl
theorem q1580 : (Jvm.Cond.laysFinal "CableTrayPlanner$Drum" "CableTrayPlanner$Drum" "first" "I") ∈ lw_all := lw_g (lw_at lw_m7 58 rfl) rfl
theorem q1581 : (Jvm.Cond.soleField "CableTrayPlanner$Drum" "first") ∈ lw_all := lw_g (lw_at lw_m7 59 rfl) rfl
theorem q1582 : (Jvm.Cond.lays "CableTrayPlanner$Drum" "CableTrayPlanner$Drum" "rest" "I") ∈ lw_all := lw_g (lw_at lw_m7 60 rfl) rfl
theorem q1583 : (Jvm.Cond.soleField "CableTrayPlanner$Drum" "rest") ∈ lw_all := lw_g (lw_at lw_m7 61 rfl) rfl
theorem q1584 : (Jvm.Cond.superclass "CableTrayPlanner$Drum" "java/lang/Object") ∈ lw_all := lw_g (lw_at lw_m7 62 rfl) rfl
theorem q3247 : (Jvm.Cond.castable "CableTrayPlanner$Drum" "java/lang/Object") ∈ lw_tbl := lw_at lw_m14 45 rfl
theorem in_X6 : ∀ w ∈ wsX60, w ∈ lw_all := lw_in wsX60 [1578, 1580, 1582] (by decide +kernel) (by decide +kernel)

/-! CableTrayPlanner$Step -/
set_option maxRecDepth 100000
def RX7 : String := "CableTrayPlanner$Step"
def TX7 : u_T := fun k => match k with
  | 0 => ("CableTrayPlanner$Step", "tray", "I", true)
  | _ => ("CableTrayPlanner$Step", "compartment", "I", true)
def tyX7 : Nat → FieldType := fun k => match k with
  | 0 => .int
  | _ => .int
abbrev wsX70 : List Cond := u_ws RX7 TX7 2
theorem nmX7 : ∀ a, a < 2 → ∀ b, b < 2 → a ≠ b → (TX7 a).2.1 ≠ (TX7 b).2.1 := by decide +kernel
theorem tyX7_ok : ∀ k, k < 2 → parseFieldDescriptor (TX7 k).2.2.1 = some (tyX7 k) := by decide +kernel
abbrev cX7_init : ByteArray := prog_16_method_1_code
def yX7_init : MethodName := ⟨RX7, "<init>", "(II)V"⟩
theorem q124 : (Jvm.Cond.initialized "CableTrayPlanner$Step") ∈ lw_all := lw_g (lw_at lw_m1 42 rfl) rfl
theorem q664 : (Jvm.Cond.selects "CableTrayPlanner$Step" ({ cls := "java/lang/Object", name := "hashCode", desc := "()I" } : Jvm.MethodName) ({ cls := "java/lang/Object", name := "hashCode", desc := "()I" } : Jvm.MethodName)) ∈ lw_all := lw_g (lw_at lw_m3 102 rfl) rfl
theorem q763 : (Jvm.Cond.selects "CableTrayPlanner$Step" ({ cls := "java/lang/Object", name := "equals", desc := "(Ljava/lang/Object;)Z" } : Jvm.MethodName) ({ cls := "java/lang/Object", name := "equals", desc := "(Ljava/lang/Object;)Z" } : Jvm.MethodName)) ∈ lw_all := lw_g (lw_at lw_m3 201 rfl) rfl
theorem q828 : (Jvm.Cond.selects "CableTrayPlanner$Step" ({ cls := "java/lang/Object", name := "getClass", desc := "()Ljava/lang/Class;" } : Jvm.MethodName) ({ cls := "java/lang/Object", name := "getClass", desc := "()Ljava/lang/Class;" } : Jvm.MethodName)) ∈ lw_all := lw_g (lw_at lw_m4 26 rfl) rfl
theorem q1771 : (Jvm.Cond.instantiable "CableTrayPlanner$Step" (2 : Nat)) ∈ lw_all := lw_g (lw_at lw_m8 9 rfl) rfl
theorem q1773 : (Jvm.Cond.instanceMethod ({ cls := "CableTrayPlanner$Step", name := "<init>", desc := "(II)V" } : Jvm.MethodName)) ∈ lw_all := lw_g (lw_at lw_m8 11 rfl) rfl
theorem q1774 : (Jvm.Cond.code ({ cls := "CableTrayPlanner$Step", name := "<init>", desc := "(II)V" } : Jvm.MethodName) prog_16_method_1_code (3 : Nat) (Option.none : Option Jvm.ClassFile.FieldType)) ∈ lw_all := lw_g (lw_at lw_m8 12 rfl) rfl
theorem q1775 : (Jvm.Cond.methodLink "CableTrayPlanner$Step" (1 : Nat) ({ cls := "java/lang/Object", name := "<init>", desc := "()V" } : Jvm.MethodName)) ∈ lw_all := lw_g (lw_at lw_m8 13 rfl) rfl
theorem q1776 : (Jvm.Cond.fieldLink "CableTrayPlanner$Step" (7 : Nat) "CableTrayPlanner$Step" "tray" "I") ∈ lw_all := lw_g (lw_at lw_m8 14 rfl) rfl
theorem q1780 : (Jvm.Cond.fieldLink "CableTrayPlanner$Step" (13 : Nat) "CableTrayPlanner$Step" "compartment" "I") ∈ lw_all := lw_g (lw_at lw_m8 18 rfl) rfl
theorem q1784 : (Jvm.Cond.laysFinal "CableTrayPlanner$Step" "CableTrayPlanner$Step" "tray" "I") ∈ lw_all := lw_g (lw_at lw_m8 22 rfl) rfl
theorem q1785 : (Jvm.Cond.soleField "CableTrayPlanner$Step" "tray") ∈ lw_all := lw_g (lw_at lw_m8 23 rfl) rfl
theorem q1786 : (Jvm.Cond.laysFinal "CableTrayPlanner$Step" "CableTrayPlanner$Step" "compartment" "I") ∈ lw_all := lw_g (lw_at lw_m8 24 rfl) rfl
theorem q1787 : (Jvm.Cond.soleField "CableTrayPlanner$Step" "compartment") ∈ lw_all := lw_g (lw_at lw_m8 25 rfl) rfl
theorem q1788 : (Jvm.Cond.superclass "CableTrayPlanner$Step" "java/lang/Object") ∈ lw_all := lw_g (lw_at lw_m8 26 rfl) rfl
theorem q3252 : (Jvm.Cond.castable "CableTrayPlanner$Step" "java/lang/Object") ∈ lw_tbl := lw_at lw_m14 50 rfl
theorem in_X7 : ∀ w ∈ wsX70, w ∈ lw_all := lw_in wsX70 [1784, 1786] (by decide +kernel) (by decide +kernel)

/-! CableTrayPlanner$1 -/
set_option maxRecDepth 100000
def RX9 : String := "CableTrayPlanner$1"
def TX9 : u_T := fun k => match k with
  | 0 => ("CableTrayPlanner$Deed", "this$0", "LCableTrayPlanner;", true)
  | 1 => ("CableTrayPlanner$1", "val$cable", "I", true)
  | _ => ("CableTrayPlanner$1", "this$0", "LCableTrayPlanner;", true)
def tyX9 : Nat → FieldType := fun k => match k with
  | 0 => .object "CableTrayPlanner"
  | 1 => .int
  | _ => .object "CableTrayPlanner"
abbrev wsX90 : List Cond := u_ws RX9 TX9 3
-- two fields of one name: no nmX9
theorem tyX9_ok : ∀ k, k < 3 → parseFieldDescriptor (TX9 k).2.2.1 = some (tyX9 k) := by decide +kernel
abbrev cX9_init : ByteArray := prog_2_method_1_code
def yX9_init : MethodName := ⟨RX9, "<init>", "(LCableTrayPlanner;I)V"⟩
abbrev cX9_does : ByteArray := prog_2_method_2_code
def yX9_does : MethodName := ⟨RX9, "does", "(LCableTrayPlanner$Plan;)I"⟩
theorem q126 : (Jvm.Cond.initialized "CableTrayPlanner$1") ∈ lw_all := lw_g (lw_at lw_m1 44 rfl) rfl
theorem q651 : (Jvm.Cond.selects "CableTrayPlanner$1" ({ cls := "java/lang/Object", name := "hashCode", desc := "()I" } : Jvm.MethodName) ({ cls := "java/lang/Object", name := "hashCode", desc := "()I" } : Jvm.MethodName)) ∈ lw_all := lw_g (lw_at lw_m3 89 rfl) rfl
theorem q750 : (Jvm.Cond.selects "CableTrayPlanner$1" ({ cls := "java/lang/Object", name := "equals", desc := "(Ljava/lang/Object;)Z" } : Jvm.MethodName) ({ cls := "java/lang/Object", name := "equals", desc := "(Ljava/lang/Object;)Z" } : Jvm.MethodName)) ∈ lw_all := lw_g (lw_at lw_m3 188 rfl) rfl
theorem q815 : (Jvm.Cond.selects "CableTrayPlanner$1" ({ cls := "java/lang/Object", name := "getClass", desc := "()Ljava/lang/Class;" } : Jvm.MethodName) ({ cls := "java/lang/Object", name := "getClass", desc := "()Ljava/lang/Class;" } : Jvm.MethodName)) ∈ lw_all := lw_g (lw_at lw_m4 13 rfl) rfl
theorem q1830 : (Jvm.Cond.instantiable "CableTrayPlanner$1" (3 : Nat)) ∈ lw_all := lw_g (lw_at lw_m8 68 rfl) rfl
theorem q1832 : (Jvm.Cond.instanceMethod ({ cls := "CableTrayPlanner$1", name := "<init>", desc := "(LCableTrayPlanner;I)V" } : Jvm.MethodName)) ∈ lw_all := lw_g (lw_at lw_m8 70 rfl) rfl
theorem q1833 : (Jvm.Cond.code ({ cls := "CableTrayPlanner$1", name := "<init>", desc := "(LCableTrayPlanner;I)V" } : Jvm.MethodName) prog_2_method_1_code (3 : Nat) (Option.none : Option Jvm.ClassFile.FieldType)) ∈ lw_all := lw_g (lw_at lw_m8 71 rfl) rfl
theorem q1834 : (Jvm.Cond.methodLinkNest "CableTrayPlanner$1" (11 : Nat) ({ cls := "CableTrayPlanner$Deed", name := "<init>", desc := "(LCableTrayPlanner;)V" } : Jvm.MethodName) "CableTrayPlanner") ∈ lw_tbl := lw_at lw_m8 72 rfl
theorem q1838 : (Jvm.Cond.fieldLink "CableTrayPlanner$1" (7 : Nat) "CableTrayPlanner$1" "val$cable" "I") ∈ lw_all := lw_g (lw_at lw_m8 76 rfl) rfl
theorem q1839 : (Jvm.Cond.fieldLink "CableTrayPlanner$1" (1 : Nat) "CableTrayPlanner$1" "this$0" "LCableTrayPlanner;") ∈ lw_all := lw_g (lw_at lw_m8 77 rfl) rfl
theorem q1841 : (Jvm.Cond.laysFinal "CableTrayPlanner$1" "CableTrayPlanner$1" "val$cable" "I") ∈ lw_all := lw_g (lw_at lw_m8 79 rfl) rfl
theorem q1842 : (Jvm.Cond.soleField "CableTrayPlanner$1" "val$cable") ∈ lw_all := lw_g (lw_at lw_m8 80 rfl) rfl
theorem q1843 : (Jvm.Cond.laysFinal "CableTrayPlanner$1" "CableTrayPlanner$1" "this$0" "LCableTrayPlanner;") ∈ lw_all := lw_g (lw_at lw_m8 81 rfl) rfl
theorem q1844 : (Jvm.Cond.soleField "CableTrayPlanner$1" "this$0") ∈ lw_all := lw_g (lw_at lw_m8 82 rfl) rfl
theorem q1845 : (Jvm.Cond.laysFinal "CableTrayPlanner$1" "CableTrayPlanner$Deed" "this$0" "LCableTrayPlanner;") ∈ lw_all := lw_g (lw_at lw_m8 83 rfl) rfl
theorem q1847 : (Jvm.Cond.superclass "CableTrayPlanner$1" "CableTrayPlanner$Deed") ∈ lw_all := lw_g (lw_at lw_m8 85 rfl) rfl
theorem q1849 : (Jvm.Cond.sameMethod "CableTrayPlanner$1" "CableTrayPlanner$Deed" "run" "()I") ∈ lw_all := lw_g (lw_at lw_m8 87 rfl) rfl
theorem q1851 : (Jvm.Cond.selects "CableTrayPlanner$1" ({ cls := "CableTrayPlanner$1", name := "run", desc := "()I" } : Jvm.MethodName) ({ cls := "CableTrayPlanner$Deed", name := "run", desc := "()I" } : Jvm.MethodName)) ∈ lw_all := lw_g (lw_at lw_m8 89 rfl) rfl
theorem q1859 : (Jvm.Cond.selects "CableTrayPlanner$1" ({ cls := "CableTrayPlanner$Deed", name := "does", desc := "(LCableTrayPlanner$Plan;)I" } : Jvm.MethodName) ({ cls := "CableTrayPlanner$1", name := "does", desc := "(LCableTrayPlanner$Plan;)I" } : Jvm.MethodName)) ∈ lw_all := lw_g (lw_at lw_m8 97 rfl) rfl
theorem q1860 : (Jvm.Cond.instanceMethod ({ cls := "CableTrayPlanner$1", name := "does", desc := "(LCableTrayPlanner$Plan;)I" } : Jvm.MethodName)) ∈ lw_all := lw_g (lw_at lw_m8 98 rfl) rfl
theorem q1861 : (Jvm.Cond.code ({ cls := "CableTrayPlanner$1", name := "does", desc := "(LCableTrayPlanner$Plan;)I" } : Jvm.MethodName) prog_2_method_2_code (2 : Nat) (Option.some Jvm.ClassFile.FieldType.int)) ∈ lw_all := lw_g (lw_at lw_m8 99 rfl) rfl
theorem q1862 : (Jvm.Cond.methodLink "CableTrayPlanner$1" (17 : Nat) ({ cls := "CableTrayPlanner$Plan", name := "route", desc := "(I)I" } : Jvm.MethodName)) ∈ lw_all := lw_g (lw_at lw_m8 100 rfl) rfl
theorem q3253 : (Jvm.Cond.castable "CableTrayPlanner$1" "java/lang/Object") ∈ lw_tbl := lw_at lw_m14 51 rfl
theorem in_X9 : ∀ w ∈ wsX90, w ∈ lw_all := lw_in wsX90 [1845, 1841, 1843] (by decide +kernel) (by decide +kernel)

/-! CableTrayPlanner$2 -/
set_option maxRecDepth 100000
def RX15 : String := "CableTrayPlanner$2"
def TX15 : u_T := fun k => match k with
  | 0 => ("CableTrayPlanner$Deed", "this$0", "LCableTrayPlanner;", true)
  | 1 => ("CableTrayPlanner$2", "val$cable", "I", true)
  | _ => ("CableTrayPlanner$2", "this$0", "LCableTrayPlanner;", true)
def tyX15 : Nat → FieldType := fun k => match k with
  | 0 => .object "CableTrayPlanner"
  | 1 => .int
  | _ => .object "CableTrayPlanner"
abbrev wsX150 : List Cond := u_ws RX15 TX15 3
-- two fields of one name: no nmX15
theorem tyX15_ok : ∀ k, k < 3 → parseFieldDescriptor (TX15 k).2.2.1 = some (tyX15 k) := by decide +kernel
abbrev cX15_does : ByteArray := prog_3_method_2_code
def yX15_does : MethodName := ⟨RX15, "does", "(LCableTrayPlanner$Plan;)I"⟩
abbrev cX15_init : ByteArray := prog_3_method_1_code
def yX15_init : MethodName := ⟨RX15, "<init>", "(LCableTrayPlanner;I)V"⟩
theorem q134 : (Jvm.Cond.initialized "CableTrayPlanner$2") ∈ lw_all := lw_g (lw_at lw_m1 52 rfl) rfl
theorem q652 : (Jvm.Cond.selects "CableTrayPlanner$2" ({ cls := "java/lang/Object", name := "hashCode", desc := "()I" } : Jvm.MethodName) ({ cls := "java/lang/Object", name := "hashCode", desc := "()I" } : Jvm.MethodName)) ∈ lw_all := lw_g (lw_at lw_m3 90 rfl) rfl
theorem q751 : (Jvm.Cond.selects "CableTrayPlanner$2" ({ cls := "java/lang/Object", name := "equals", desc := "(Ljava/lang/Object;)Z" } : Jvm.MethodName) ({ cls := "java/lang/Object", name := "equals", desc := "(Ljava/lang/Object;)Z" } : Jvm.MethodName)) ∈ lw_all := lw_g (lw_at lw_m3 189 rfl) rfl
theorem q816 : (Jvm.Cond.selects "CableTrayPlanner$2" ({ cls := "java/lang/Object", name := "getClass", desc := "()Ljava/lang/Class;" } : Jvm.MethodName) ({ cls := "java/lang/Object", name := "getClass", desc := "()Ljava/lang/Class;" } : Jvm.MethodName)) ∈ lw_all := lw_g (lw_at lw_m4 14 rfl) rfl
theorem q2092 : (Jvm.Cond.selects "CableTrayPlanner$2" ({ cls := "CableTrayPlanner$Deed", name := "does", desc := "(LCableTrayPlanner$Plan;)I" } : Jvm.MethodName) ({ cls := "CableTrayPlanner$2", name := "does", desc := "(LCableTrayPlanner$Plan;)I" } : Jvm.MethodName)) ∈ lw_all := lw_g (lw_at lw_m9 90 rfl) rfl
theorem q2093 : (Jvm.Cond.instanceMethod ({ cls := "CableTrayPlanner$2", name := "does", desc := "(LCableTrayPlanner$Plan;)I" } : Jvm.MethodName)) ∈ lw_all := lw_g (lw_at lw_m9 91 rfl) rfl
theorem q2094 : (Jvm.Cond.code ({ cls := "CableTrayPlanner$2", name := "does", desc := "(LCableTrayPlanner$Plan;)I" } : Jvm.MethodName) prog_3_method_2_code (2 : Nat) (Option.some Jvm.ClassFile.FieldType.int)) ∈ lw_all := lw_g (lw_at lw_m9 92 rfl) rfl
theorem q2095 : (Jvm.Cond.methodLink "CableTrayPlanner$2" (17 : Nat) ({ cls := "CableTrayPlanner$Plan", name := "cut", desc := "(I)I" } : Jvm.MethodName)) ∈ lw_all := lw_g (lw_at lw_m9 93 rfl) rfl
theorem q2176 : (Jvm.Cond.instantiable "CableTrayPlanner$2" (3 : Nat)) ∈ lw_all := lw_g (lw_at lw_m9 174 rfl) rfl
theorem q2178 : (Jvm.Cond.instanceMethod ({ cls := "CableTrayPlanner$2", name := "<init>", desc := "(LCableTrayPlanner;I)V" } : Jvm.MethodName)) ∈ lw_all := lw_g (lw_at lw_m9 176 rfl) rfl
theorem q2179 : (Jvm.Cond.code ({ cls := "CableTrayPlanner$2", name := "<init>", desc := "(LCableTrayPlanner;I)V" } : Jvm.MethodName) prog_3_method_1_code (3 : Nat) (Option.none : Option Jvm.ClassFile.FieldType)) ∈ lw_all := lw_g (lw_at lw_m9 177 rfl) rfl
theorem q2180 : (Jvm.Cond.methodLinkNest "CableTrayPlanner$2" (11 : Nat) ({ cls := "CableTrayPlanner$Deed", name := "<init>", desc := "(LCableTrayPlanner;)V" } : Jvm.MethodName) "CableTrayPlanner") ∈ lw_tbl := lw_at lw_m9 178 rfl
theorem q2181 : (Jvm.Cond.fieldLink "CableTrayPlanner$2" (7 : Nat) "CableTrayPlanner$2" "val$cable" "I") ∈ lw_all := lw_g (lw_at lw_m9 179 rfl) rfl
theorem q2182 : (Jvm.Cond.fieldLink "CableTrayPlanner$2" (1 : Nat) "CableTrayPlanner$2" "this$0" "LCableTrayPlanner;") ∈ lw_all := lw_g (lw_at lw_m9 180 rfl) rfl
theorem q2183 : (Jvm.Cond.laysFinal "CableTrayPlanner$2" "CableTrayPlanner$2" "val$cable" "I") ∈ lw_all := lw_g (lw_at lw_m9 181 rfl) rfl
theorem q2184 : (Jvm.Cond.soleField "CableTrayPlanner$2" "val$cable") ∈ lw_all := lw_g (lw_at lw_m9 182 rfl) rfl
theorem q2185 : (Jvm.Cond.laysFinal "CableTrayPlanner$2" "CableTrayPlanner$2" "this$0" "LCableTrayPlanner;") ∈ lw_all := lw_g (lw_at lw_m9 183 rfl) rfl
theorem q2186 : (Jvm.Cond.soleField "CableTrayPlanner$2" "this$0") ∈ lw_all := lw_g (lw_at lw_m9 184 rfl) rfl
theorem q2187 : (Jvm.Cond.laysFinal "CableTrayPlanner$2" "CableTrayPlanner$Deed" "this$0" "LCableTrayPlanner;") ∈ lw_all := lw_g (lw_at lw_m9 185 rfl) rfl
theorem q2188 : (Jvm.Cond.superclass "CableTrayPlanner$2" "CableTrayPlanner$Deed") ∈ lw_all := lw_g (lw_at lw_m9 186 rfl) rfl
theorem q2190 : (Jvm.Cond.sameMethod "CableTrayPlanner$2" "CableTrayPlanner$Deed" "run" "()I") ∈ lw_all := lw_g (lw_at lw_m9 188 rfl) rfl
theorem q2191 : (Jvm.Cond.selects "CableTrayPlanner$2" ({ cls := "CableTrayPlanner$2", name := "run", desc := "()I" } : Jvm.MethodName) ({ cls := "CableTrayPlanner$Deed", name := "run", desc := "()I" } : Jvm.MethodName)) ∈ lw_all := lw_g (lw_at lw_m9 189 rfl) rfl
theorem q3261 : (Jvm.Cond.castable "CableTrayPlanner$2" "java/lang/Object") ∈ lw_tbl := lw_at lw_m14 59 rfl
theorem in_X15 : ∀ w ∈ wsX150, w ∈ lw_all := lw_in wsX150 [2187, 2183, 2185] (by decide +kernel) (by decide +kernel)

/-! CableTrayPlanner$Refusal -/
set_option maxRecDepth 100000
def RX10 : String := "CableTrayPlanner$Refusal"
def TX10 : u_T := fun k => match k with
  | 0 => ("java/lang/Throwable", "cause", "Ljava/lang/Throwable;", false)
  | 1 => ("java/lang/Throwable", "stackTrace", "[Ljava/lang/StackTraceElement;", false)
  | 2 => ("java/lang/Throwable", "suppressedExceptions", "Ljava/util/List;", false)
  | 3 => ("java/lang/Throwable", "detailMessage", "Ljava/lang/String;", false)
  | 4 => ("java/lang/Throwable", "backtrace", "Ljava/lang/Object;", false)
  | 5 => ("java/lang/Throwable", "depth", "I", false)
  | _ => ("CableTrayPlanner$Refusal", "number", "I", true)
def tyX10 : Nat → FieldType := fun k => match k with
  | 0 => .object "java/lang/Throwable"
  | 1 => .array (.object "java/lang/StackTraceElement")
  | 2 => .object "java/util/List"
  | 3 => .object "java/lang/String"
  | 4 => .object "java/lang/Object"
  | 5 => .int
  | _ => .int
abbrev wsX100 : List Cond := u_ws RX10 TX10 7
theorem nmX10 : ∀ a, a < 7 → ∀ b, b < 7 → a ≠ b → (TX10 a).2.1 ≠ (TX10 b).2.1 := by decide +kernel
theorem tyX10_ok : ∀ k, k < 7 → parseFieldDescriptor (TX10 k).2.2.1 = some (tyX10 k) := by decide +kernel
abbrev cX10_of : ByteArray := prog_15_method_2_code
def yX10_of : MethodName := ⟨RX10, "of", "(I[I)LCableTrayPlanner$Refusal;"⟩
abbrev cX10_init : ByteArray := prog_15_method_1_code
def yX10_init : MethodName := ⟨RX10, "<init>", "(ILCableTrayPlanner$Refusal;)V"⟩
abbrev cX10_chain : ByteArray := prog_15_method_3_code
def yX10_chain : MethodName := ⟨RX10, "chain", "()[I"⟩
theorem q127 : (Jvm.Cond.initialized "CableTrayPlanner$Refusal") ∈ lw_all := lw_g (lw_at lw_m1 45 rfl) rfl
theorem q421 : (Jvm.Cond.selects "CableTrayPlanner$Refusal" ({ cls := "java/lang/Throwable", name := "fillInStackTrace", desc := "()Ljava/lang/Throwable;" } : Jvm.MethodName) ({ cls := "java/lang/Throwable", name := "fillInStackTrace", desc := "()Ljava/lang/Throwable;" } : Jvm.MethodName)) ∈ lw_all := lw_g (lw_at lw_m2 99 rfl) rfl
theorem q663 : (Jvm.Cond.selects "CableTrayPlanner$Refusal" ({ cls := "java/lang/Object", name := "hashCode", desc := "()I" } : Jvm.MethodName) ({ cls := "java/lang/Object", name := "hashCode", desc := "()I" } : Jvm.MethodName)) ∈ lw_all := lw_g (lw_at lw_m3 101 rfl) rfl
theorem q762 : (Jvm.Cond.selects "CableTrayPlanner$Refusal" ({ cls := "java/lang/Object", name := "equals", desc := "(Ljava/lang/Object;)Z" } : Jvm.MethodName) ({ cls := "java/lang/Object", name := "equals", desc := "(Ljava/lang/Object;)Z" } : Jvm.MethodName)) ∈ lw_all := lw_g (lw_at lw_m3 200 rfl) rfl
theorem q827 : (Jvm.Cond.selects "CableTrayPlanner$Refusal" ({ cls := "java/lang/Object", name := "getClass", desc := "()Ljava/lang/Class;" } : Jvm.MethodName) ({ cls := "java/lang/Object", name := "getClass", desc := "()Ljava/lang/Class;" } : Jvm.MethodName)) ∈ lw_all := lw_g (lw_at lw_m4 25 rfl) rfl
theorem q1871 : (Jvm.Cond.static ({ cls := "CableTrayPlanner$Refusal", name := "of", desc := "(I[I)LCableTrayPlanner$Refusal;" } : Jvm.MethodName)) ∈ lw_all := lw_g (lw_at lw_m8 109 rfl) rfl
theorem q1872 : (Jvm.Cond.code ({ cls := "CableTrayPlanner$Refusal", name := "of", desc := "(I[I)LCableTrayPlanner$Refusal;" } : Jvm.MethodName) prog_15_method_2_code (2 : Nat) (Option.some (Jvm.ClassFile.FieldType.object "CableTrayPlanner$Refusal"))) ∈ lw_all := lw_g (lw_at lw_m8 110 rfl) rfl
theorem q1873 : (Jvm.Cond.classLink "CableTrayPlanner$Refusal" (8 : Nat) "CableTrayPlanner$Refusal") ∈ lw_all := lw_g (lw_at lw_m8 111 rfl) rfl
theorem q1874 : (Jvm.Cond.instantiable "CableTrayPlanner$Refusal" (7 : Nat)) ∈ lw_all := lw_g (lw_at lw_m8 112 rfl) rfl
theorem q1875 : (Jvm.Cond.castable "CableTrayPlanner$Refusal" "CableTrayPlanner$Refusal") ∈ lw_tbl := lw_at lw_m8 113 rfl
theorem q1876 : (Jvm.Cond.selects "CableTrayPlanner$Refusal" ({ cls := "java/lang/Throwable", name := "fillInStackTrace", desc := "(I)Ljava/lang/Throwable;" } : Jvm.MethodName) ({ cls := "java/lang/Throwable", name := "fillInStackTrace", desc := "(I)Ljava/lang/Throwable;" } : Jvm.MethodName)) ∈ lw_all := lw_g (lw_at lw_m8 114 rfl) rfl
theorem q1877 : (Jvm.Cond.lays "CableTrayPlanner$Refusal" "java/lang/Throwable" "cause" "Ljava/lang/Throwable;") ∈ lw_all := lw_g (lw_at lw_m8 115 rfl) rfl
theorem q1878 : (Jvm.Cond.lays "CableTrayPlanner$Refusal" "java/lang/Throwable" "stackTrace" "[Ljava/lang/StackTraceElement;") ∈ lw_all := lw_g (lw_at lw_m8 116 rfl) rfl
theorem q1879 : (Jvm.Cond.lays "CableTrayPlanner$Refusal" "java/lang/Throwable" "suppressedExceptions" "Ljava/util/List;") ∈ lw_all := lw_g (lw_at lw_m8 117 rfl) rfl
theorem q1880 : (Jvm.Cond.lays "CableTrayPlanner$Refusal" "java/lang/Throwable" "detailMessage" "Ljava/lang/String;") ∈ lw_all := lw_g (lw_at lw_m8 118 rfl) rfl
theorem q1881 : (Jvm.Cond.lays "CableTrayPlanner$Refusal" "java/lang/Throwable" "backtrace" "Ljava/lang/Object;") ∈ lw_all := lw_g (lw_at lw_m8 119 rfl) rfl
theorem q1882 : (Jvm.Cond.methodLink "CableTrayPlanner$Refusal" (13 : Nat) ({ cls := "CableTrayPlanner$Refusal", name := "of", desc := "(I[I)LCableTrayPlanner$Refusal;" } : Jvm.MethodName)) ∈ lw_all := lw_g (lw_at lw_m8 120 rfl) rfl
theorem q1883 : (Jvm.Cond.methodLink "CableTrayPlanner$Refusal" (17 : Nat) ({ cls := "CableTrayPlanner$Refusal", name := "<init>", desc := "(ILCableTrayPlanner$Refusal;)V" } : Jvm.MethodName)) ∈ lw_all := lw_g (lw_at lw_m8 121 rfl) rfl
theorem q1884 : (Jvm.Cond.instanceMethod ({ cls := "CableTrayPlanner$Refusal", name := "<init>", desc := "(ILCableTrayPlanner$Refusal;)V" } : Jvm.MethodName)) ∈ lw_all := lw_g (lw_at lw_m8 122 rfl) rfl
theorem q1885 : (Jvm.Cond.code ({ cls := "CableTrayPlanner$Refusal", name := "<init>", desc := "(ILCableTrayPlanner$Refusal;)V" } : Jvm.MethodName) prog_15_method_1_code (3 : Nat) (Option.none : Option Jvm.ClassFile.FieldType)) ∈ lw_all := lw_g (lw_at lw_m8 123 rfl) rfl
theorem q1886 : (Jvm.Cond.methodLink "CableTrayPlanner$Refusal" (1 : Nat) ({ cls := "java/lang/Exception", name := "<init>", desc := "(Ljava/lang/String;Ljava/lang/Throwable;ZZ)V" } : Jvm.MethodName)) ∈ lw_all := lw_g (lw_at lw_m8 124 rfl) rfl
theorem q1892 : (Jvm.Cond.fieldLink "CableTrayPlanner$Refusal" (7 : Nat) "CableTrayPlanner$Refusal" "number" "I") ∈ lw_all := lw_g (lw_at lw_m8 130 rfl) rfl
theorem q1893 : (Jvm.Cond.laysFinal "CableTrayPlanner$Refusal" "CableTrayPlanner$Refusal" "number" "I") ∈ lw_all := lw_g (lw_at lw_m8 131 rfl) rfl
theorem q1894 : (Jvm.Cond.soleField "CableTrayPlanner$Refusal" "number") ∈ lw_all := lw_g (lw_at lw_m8 132 rfl) rfl
theorem q1895 : (Jvm.Cond.lays "CableTrayPlanner$Refusal" "java/lang/Throwable" "depth" "I") ∈ lw_all := lw_g (lw_at lw_m8 133 rfl) rfl
theorem q1896 : (Jvm.Cond.superclass "CableTrayPlanner$Refusal" "java/lang/Exception") ∈ lw_all := lw_g (lw_at lw_m8 134 rfl) rfl
theorem q2106 : (Jvm.Cond.instanceMethod ({ cls := "CableTrayPlanner$Refusal", name := "chain", desc := "()[I" } : Jvm.MethodName)) ∈ lw_all := lw_g (lw_at lw_m9 104 rfl) rfl
theorem q2107 : (Jvm.Cond.selects "CableTrayPlanner$Refusal" ({ cls := "CableTrayPlanner$Refusal", name := "chain", desc := "()[I" } : Jvm.MethodName) ({ cls := "CableTrayPlanner$Refusal", name := "chain", desc := "()[I" } : Jvm.MethodName)) ∈ lw_all := lw_g (lw_at lw_m9 105 rfl) rfl
theorem q2108 : (Jvm.Cond.sameMethod "CableTrayPlanner$Refusal" "CableTrayPlanner$Refusal" "chain" "()[I") ∈ lw_all := lw_g (lw_at lw_m9 106 rfl) rfl
theorem q2110 : (Jvm.Cond.code ({ cls := "CableTrayPlanner$Refusal", name := "chain", desc := "()[I" } : Jvm.MethodName) prog_15_method_3_code (5 : Nat) (Option.some (Jvm.ClassFile.FieldType.array Jvm.ClassFile.FieldType.int))) ∈ lw_all := lw_g (lw_at lw_m9 108 rfl) rfl
theorem q2111 : (Jvm.Cond.methodLink "CableTrayPlanner$Refusal" (20 : Nat) ({ cls := "java/lang/Throwable", name := "getCause", desc := "()Ljava/lang/Throwable;" } : Jvm.MethodName)) ∈ lw_all := lw_g (lw_at lw_m9 109 rfl) rfl
theorem q2116 : (Jvm.Cond.selects "CableTrayPlanner$Refusal" ({ cls := "java/lang/Throwable", name := "getCause", desc := "()Ljava/lang/Throwable;" } : Jvm.MethodName) ({ cls := "java/lang/Throwable", name := "getCause", desc := "()Ljava/lang/Throwable;" } : Jvm.MethodName)) ∈ lw_all := lw_g (lw_at lw_m9 114 rfl) rfl
theorem q3254 : (Jvm.Cond.castable "CableTrayPlanner$Refusal" "java/lang/Object") ∈ lw_tbl := lw_at lw_m14 52 rfl
theorem in_X10 : ∀ w ∈ wsX100, w ∈ lw_all := lw_in wsX100 [1877, 1878, 1879, 1880, 1881, 1895, 1893] (by decide +kernel) (by decide +kernel)

/-! CableTrayPlanner$NoRoom -/
set_option maxRecDepth 100000
def RX14 : String := "CableTrayPlanner$NoRoom"
def TX14 : u_T := fun k => match k with
  | 0 => ("java/lang/Throwable", "cause", "Ljava/lang/Throwable;", false)
  | 1 => ("java/lang/Throwable", "stackTrace", "[Ljava/lang/StackTraceElement;", false)
  | 2 => ("java/lang/Throwable", "suppressedExceptions", "Ljava/util/List;", false)
  | 3 => ("java/lang/Throwable", "detailMessage", "Ljava/lang/String;", false)
  | 4 => ("java/lang/Throwable", "backtrace", "Ljava/lang/Object;", false)
  | 5 => ("CableTrayPlanner$Refusal", "number", "I", true)
  | _ => ("java/lang/Throwable", "depth", "I", false)
def tyX14 : Nat → FieldType := fun k => match k with
  | 0 => .object "java/lang/Throwable"
  | 1 => .array (.object "java/lang/StackTraceElement")
  | 2 => .object "java/util/List"
  | 3 => .object "java/lang/String"
  | 4 => .object "java/lang/Object"
  | 5 => .int
  | _ => .int
abbrev wsX140 : List Cond := u_ws RX14 TX14 7
theorem nmX14 : ∀ a, a < 7 → ∀ b, b < 7 → a ≠ b → (TX14 a).2.1 ≠ (TX14 b).2.1 := by decide +kernel
theorem tyX14_ok : ∀ k, k < 7 → parseFieldDescriptor (TX14 k).2.2.1 = some (tyX14 k) := by decide +kernel
abbrev cX14_init : ByteArray := prog_9_method_1_code
def yX14_init : MethodName := ⟨RX14, "<init>", "(LCableTrayPlanner$Refusal;)V"⟩
theorem q132 : (Jvm.Cond.initialized "CableTrayPlanner$NoRoom") ∈ lw_all := lw_g (lw_at lw_m1 50 rfl) rfl
theorem q420 : (Jvm.Cond.selects "CableTrayPlanner$NoRoom" ({ cls := "java/lang/Throwable", name := "fillInStackTrace", desc := "()Ljava/lang/Throwable;" } : Jvm.MethodName) ({ cls := "java/lang/Throwable", name := "fillInStackTrace", desc := "()Ljava/lang/Throwable;" } : Jvm.MethodName)) ∈ lw_all := lw_g (lw_at lw_m2 98 rfl) rfl
theorem q657 : (Jvm.Cond.selects "CableTrayPlanner$NoRoom" ({ cls := "java/lang/Object", name := "hashCode", desc := "()I" } : Jvm.MethodName) ({ cls := "java/lang/Object", name := "hashCode", desc := "()I" } : Jvm.MethodName)) ∈ lw_all := lw_g (lw_at lw_m3 95 rfl) rfl
theorem q756 : (Jvm.Cond.selects "CableTrayPlanner$NoRoom" ({ cls := "java/lang/Object", name := "equals", desc := "(Ljava/lang/Object;)Z" } : Jvm.MethodName) ({ cls := "java/lang/Object", name := "equals", desc := "(Ljava/lang/Object;)Z" } : Jvm.MethodName)) ∈ lw_all := lw_g (lw_at lw_m3 194 rfl) rfl
theorem q821 : (Jvm.Cond.selects "CableTrayPlanner$NoRoom" ({ cls := "java/lang/Object", name := "getClass", desc := "()Ljava/lang/Class;" } : Jvm.MethodName) ({ cls := "java/lang/Object", name := "getClass", desc := "()Ljava/lang/Class;" } : Jvm.MethodName)) ∈ lw_all := lw_g (lw_at lw_m4 19 rfl) rfl
theorem q2060 : (Jvm.Cond.instantiable "CableTrayPlanner$NoRoom" (7 : Nat)) ∈ lw_all := lw_g (lw_at lw_m9 58 rfl) rfl
theorem q2061 : (Jvm.Cond.castable "CableTrayPlanner$NoRoom" "CableTrayPlanner$NoRoom") ∈ lw_tbl := lw_at lw_m9 59 rfl
theorem q2062 : (Jvm.Cond.selects "CableTrayPlanner$NoRoom" ({ cls := "java/lang/Throwable", name := "fillInStackTrace", desc := "(I)Ljava/lang/Throwable;" } : Jvm.MethodName) ({ cls := "java/lang/Throwable", name := "fillInStackTrace", desc := "(I)Ljava/lang/Throwable;" } : Jvm.MethodName)) ∈ lw_all := lw_g (lw_at lw_m9 60 rfl) rfl
theorem q2063 : (Jvm.Cond.lays "CableTrayPlanner$NoRoom" "java/lang/Throwable" "cause" "Ljava/lang/Throwable;") ∈ lw_all := lw_g (lw_at lw_m9 61 rfl) rfl
theorem q2064 : (Jvm.Cond.lays "CableTrayPlanner$NoRoom" "java/lang/Throwable" "stackTrace" "[Ljava/lang/StackTraceElement;") ∈ lw_all := lw_g (lw_at lw_m9 62 rfl) rfl
theorem q2065 : (Jvm.Cond.lays "CableTrayPlanner$NoRoom" "java/lang/Throwable" "suppressedExceptions" "Ljava/util/List;") ∈ lw_all := lw_g (lw_at lw_m9 63 rfl) rfl
theorem q2066 : (Jvm.Cond.lays "CableTrayPlanner$NoRoom" "java/lang/Throwable" "detailMessage" "Ljava/lang/String;") ∈ lw_all := lw_g (lw_at lw_m9 64 rfl) rfl
theorem q2067 : (Jvm.Cond.lays "CableTrayPlanner$NoRoom" "java/lang/Throwable" "backtrace" "Ljava/lang/Object;") ∈ lw_all := lw_g (lw_at lw_m9 65 rfl) rfl
theorem q2069 : (Jvm.Cond.instanceMethod ({ cls := "CableTrayPlanner$NoRoom", name := "<init>", desc := "(LCableTrayPlanner$Refusal;)V" } : Jvm.MethodName)) ∈ lw_all := lw_g (lw_at lw_m9 67 rfl) rfl
theorem q2070 : (Jvm.Cond.code ({ cls := "CableTrayPlanner$NoRoom", name := "<init>", desc := "(LCableTrayPlanner$Refusal;)V" } : Jvm.MethodName) prog_9_method_1_code (2 : Nat) (Option.none : Option Jvm.ClassFile.FieldType)) ∈ lw_all := lw_g (lw_at lw_m9 68 rfl) rfl
theorem q2071 : (Jvm.Cond.methodLink "CableTrayPlanner$NoRoom" (1 : Nat) ({ cls := "CableTrayPlanner$Refusal", name := "<init>", desc := "(ILCableTrayPlanner$Refusal;)V" } : Jvm.MethodName)) ∈ lw_all := lw_g (lw_at lw_m9 69 rfl) rfl
theorem q2072 : (Jvm.Cond.laysFinal "CableTrayPlanner$NoRoom" "CableTrayPlanner$Refusal" "number" "I") ∈ lw_all := lw_g (lw_at lw_m9 70 rfl) rfl
theorem q2073 : (Jvm.Cond.lays "CableTrayPlanner$NoRoom" "java/lang/Throwable" "depth" "I") ∈ lw_all := lw_g (lw_at lw_m9 71 rfl) rfl
theorem q2074 : (Jvm.Cond.superclass "CableTrayPlanner$NoRoom" "CableTrayPlanner$Refusal") ∈ lw_all := lw_g (lw_at lw_m9 72 rfl) rfl
theorem q2109 : (Jvm.Cond.selects "CableTrayPlanner$NoRoom" ({ cls := "CableTrayPlanner$Refusal", name := "chain", desc := "()[I" } : Jvm.MethodName) ({ cls := "CableTrayPlanner$Refusal", name := "chain", desc := "()[I" } : Jvm.MethodName)) ∈ lw_all := lw_g (lw_at lw_m9 107 rfl) rfl
theorem q2115 : (Jvm.Cond.selects "CableTrayPlanner$NoRoom" ({ cls := "java/lang/Throwable", name := "getCause", desc := "()Ljava/lang/Throwable;" } : Jvm.MethodName) ({ cls := "java/lang/Throwable", name := "getCause", desc := "()Ljava/lang/Throwable;" } : Jvm.MethodName)) ∈ lw_all := lw_g (lw_at lw_m9 113 rfl) rfl
theorem q3229 : (Jvm.Cond.castable "CableTrayPlanner$NoRoom" "CableTrayPlanner$Refusal") ∈ lw_tbl := lw_at lw_m14 27 rfl
theorem q3259 : (Jvm.Cond.castable "CableTrayPlanner$NoRoom" "java/lang/Object") ∈ lw_tbl := lw_at lw_m14 57 rfl
theorem in_X14 : ∀ w ∈ wsX140, w ∈ lw_all := lw_in wsX140 [2063, 2064, 2065, 2066, 2067, 2072, 2073] (by decide +kernel) (by decide +kernel)

/-! CableTrayPlanner$Plan$Search -/
set_option maxRecDepth 100000
def RX11 : String := "CableTrayPlanner$Plan$Search"
def TX11 : u_T := fun k => match k with
  | 0 => ("CableTrayPlanner$Plan$Search", "type", "LCableTrayPlanner$Type;", true)
  | 1 => ("CableTrayPlanner$Plan$Search", "to", "I", true)
  | 2 => ("CableTrayPlanner$Plan$Search", "row", "[I", true)
  | 3 => ("CableTrayPlanner$Plan$Search", "count", "I", false)
  | 4 => ("CableTrayPlanner$Plan$Search", "visited", "I", false)
  | 5 => ("CableTrayPlanner$Plan$Search", "best", "[I", false)
  | 6 => ("CableTrayPlanner$Plan$Search", "bestCount", "I", false)
  | 7 => ("CableTrayPlanner$Plan$Search", "bestLength", "I", false)
  | _ => ("CableTrayPlanner$Plan$Search", "this$0", "LCableTrayPlanner$Plan;", true)
def tyX11 : Nat → FieldType := fun k => match k with
  | 0 => .object "CableTrayPlanner$Type"
  | 1 => .int
  | 2 => .array .int
  | 3 => .int
  | 4 => .int
  | 5 => .array .int
  | 6 => .int
  | 7 => .int
  | _ => .object "CableTrayPlanner$Plan"
abbrev wsX110 : List Cond := u_ws RX11 TX11 9
theorem nmX11 : ∀ a, a < 9 → ∀ b, b < 9 → a ≠ b → (TX11 a).2.1 ≠ (TX11 b).2.1 := by decide +kernel
theorem tyX11_ok : ∀ k, k < 9 → parseFieldDescriptor (TX11 k).2.2.1 = some (tyX11 k) := by decide +kernel
abbrev cX11_init : ByteArray := prog_14_method_1_code
def yX11_init : MethodName := ⟨RX11, "<init>", "(LCableTrayPlanner$Plan;LCableTrayPlanner$Type;II)V"⟩
abbrev cX11_go : ByteArray := prog_14_method_4_code
def yX11_go : MethodName := ⟨RX11, "go", "(II)V"⟩
abbrev cX11_arrive : ByteArray := prog_14_method_3_code
def yX11_arrive : MethodName := ⟨RX11, "arrive", "(I)V"⟩
abbrev cX11_isFound : ByteArray := prog_14_method_2_code
def yX11_isFound : MethodName := ⟨RX11, "isFound", "()Z"⟩
theorem q128 : (Jvm.Cond.initialized "CableTrayPlanner$Plan$Search") ∈ lw_all := lw_g (lw_at lw_m1 46 rfl) rfl
theorem q222 : (Jvm.Cond.fieldLinkNest "CableTrayPlanner$Plan$Search" (83 : Nat) "CableTrayPlanner$Plan" "trays" "Ljava/util/ArrayList;" "CableTrayPlanner") ∈ lw_tbl := lw_at lw_m1 140 rfl
theorem q662 : (Jvm.Cond.selects "CableTrayPlanner$Plan$Search" ({ cls := "java/lang/Object", name := "hashCode", desc := "()I" } : Jvm.MethodName) ({ cls := "java/lang/Object", name := "hashCode", desc := "()I" } : Jvm.MethodName)) ∈ lw_all := lw_g (lw_at lw_m3 100 rfl) rfl
theorem q761 : (Jvm.Cond.selects "CableTrayPlanner$Plan$Search" ({ cls := "java/lang/Object", name := "equals", desc := "(Ljava/lang/Object;)Z" } : Jvm.MethodName) ({ cls := "java/lang/Object", name := "equals", desc := "(Ljava/lang/Object;)Z" } : Jvm.MethodName)) ∈ lw_all := lw_g (lw_at lw_m3 199 rfl) rfl
theorem q826 : (Jvm.Cond.selects "CableTrayPlanner$Plan$Search" ({ cls := "java/lang/Object", name := "getClass", desc := "()Ljava/lang/Class;" } : Jvm.MethodName) ({ cls := "java/lang/Object", name := "getClass", desc := "()Ljava/lang/Class;" } : Jvm.MethodName)) ∈ lw_all := lw_g (lw_at lw_m4 24 rfl) rfl
theorem q1453 : (Jvm.Cond.fieldLinkNest "CableTrayPlanner$Plan$Search" (103 : Nat) "CableTrayPlanner$Tray" "length" "I" "CableTrayPlanner") ∈ lw_tbl := lw_at lw_m6 171 rfl
theorem q1898 : (Jvm.Cond.instantiable "CableTrayPlanner$Plan$Search" (9 : Nat)) ∈ lw_all := lw_g (lw_at lw_m8 136 rfl) rfl
theorem q1900 : (Jvm.Cond.instanceMethod ({ cls := "CableTrayPlanner$Plan$Search", name := "<init>", desc := "(LCableTrayPlanner$Plan;LCableTrayPlanner$Type;II)V" } : Jvm.MethodName)) ∈ lw_all := lw_g (lw_at lw_m8 138 rfl) rfl
theorem q1901 : (Jvm.Cond.code ({ cls := "CableTrayPlanner$Plan$Search", name := "<init>", desc := "(LCableTrayPlanner$Plan;LCableTrayPlanner$Type;II)V" } : Jvm.MethodName) prog_14_method_1_code (5 : Nat) (Option.none : Option Jvm.ClassFile.FieldType)) ∈ lw_all := lw_g (lw_at lw_m8 139 rfl) rfl
theorem q1902 : (Jvm.Cond.methodLink "CableTrayPlanner$Plan$Search" (9 : Nat) ({ cls := "java/lang/Object", name := "<init>", desc := "()V" } : Jvm.MethodName)) ∈ lw_all := lw_g (lw_at lw_m8 140 rfl) rfl
theorem q1903 : (Jvm.Cond.constant "CableTrayPlanner$Plan$Search" (21 : Nat) (2147483647 : Int32)) ∈ lw_all := lw_g (lw_at lw_m8 141 rfl) rfl
theorem q1904 : (Jvm.Cond.methodLink "CableTrayPlanner$Plan$Search" (36 : Nat) ({ cls := "CableTrayPlanner$Plan$Search", name := "go", desc := "(II)V" } : Jvm.MethodName)) ∈ lw_all := lw_g (lw_at lw_m8 142 rfl) rfl
theorem q1905 : (Jvm.Cond.privateMethod ({ cls := "CableTrayPlanner$Plan$Search", name := "go", desc := "(II)V" } : Jvm.MethodName)) ∈ lw_tbl := lw_at lw_m8 143 rfl
theorem q1906 : (Jvm.Cond.instanceMethod ({ cls := "CableTrayPlanner$Plan$Search", name := "go", desc := "(II)V" } : Jvm.MethodName)) ∈ lw_all := lw_g (lw_at lw_m8 144 rfl) rfl
theorem q1907 : (Jvm.Cond.code ({ cls := "CableTrayPlanner$Plan$Search", name := "go", desc := "(II)V" } : Jvm.MethodName) prog_14_method_4_code (7 : Nat) (Option.none : Option Jvm.ClassFile.FieldType)) ∈ lw_all := lw_g (lw_at lw_m8 145 rfl) rfl
theorem q1908 : (Jvm.Cond.methodLink "CableTrayPlanner$Plan$Search" (54 : Nat) ({ cls := "CableTrayPlanner$Plan$Search", name := "arrive", desc := "(I)V" } : Jvm.MethodName)) ∈ lw_all := lw_g (lw_at lw_m8 146 rfl) rfl
theorem q1909 : (Jvm.Cond.privateMethod ({ cls := "CableTrayPlanner$Plan$Search", name := "arrive", desc := "(I)V" } : Jvm.MethodName)) ∈ lw_tbl := lw_at lw_m8 147 rfl
theorem q1910 : (Jvm.Cond.instanceMethod ({ cls := "CableTrayPlanner$Plan$Search", name := "arrive", desc := "(I)V" } : Jvm.MethodName)) ∈ lw_all := lw_g (lw_at lw_m8 148 rfl) rfl
theorem q1911 : (Jvm.Cond.code ({ cls := "CableTrayPlanner$Plan$Search", name := "arrive", desc := "(I)V" } : Jvm.MethodName) prog_14_method_3_code (2 : Nat) (Option.none : Option Jvm.ClassFile.FieldType)) ∈ lw_all := lw_g (lw_at lw_m8 149 rfl) rfl
theorem q1912 : (Jvm.Cond.methodLink "CableTrayPlanner$Plan$Search" (49 : Nat) ({ cls := "[I", name := "clone", desc := "()Ljava/lang/Object;" } : Jvm.MethodName)) ∈ lw_all := lw_g (lw_at lw_m8 150 rfl) rfl
theorem q1916 : (Jvm.Cond.classLink "CableTrayPlanner$Plan$Search" (50 : Nat) "[I") ∈ lw_all := lw_g (lw_at lw_m8 154 rfl) rfl
theorem q1917 : (Jvm.Cond.methodLinkNest "CableTrayPlanner$Plan$Search" (58 : Nat) ({ cls := "CableTrayPlanner$Plan", name := "traysAt", desc := "(I)Ljava/lang/Iterable;" } : Jvm.MethodName) "CableTrayPlanner") ∈ lw_tbl := lw_at lw_m8 155 rfl
theorem q1936 : (Jvm.Cond.interfaceEntry "CableTrayPlanner$Plan$Search" (64 : Nat)) ∈ lw_tbl := lw_at lw_m8 174 rfl
theorem q1937 : (Jvm.Cond.methodLink "CableTrayPlanner$Plan$Search" (64 : Nat) ({ cls := "java/lang/Iterable", name := "iterator", desc := "()Ljava/util/Iterator;" } : Jvm.MethodName)) ∈ lw_all := lw_g (lw_at lw_m8 175 rfl) rfl
theorem q1988 : (Jvm.Cond.interfaceEntry "CableTrayPlanner$Plan$Search" (70 : Nat)) ∈ lw_tbl := lw_at lw_m8 226 rfl
theorem q1989 : (Jvm.Cond.methodLink "CableTrayPlanner$Plan$Search" (70 : Nat) ({ cls := "java/util/Iterator", name := "hasNext", desc := "()Z" } : Jvm.MethodName)) ∈ lw_all := lw_g (lw_at lw_m8 227 rfl) rfl
theorem q1990 : (Jvm.Cond.interfaceEntry "CableTrayPlanner$Plan$Search" (76 : Nat)) ∈ lw_tbl := lw_at lw_m8 228 rfl
theorem q1991 : (Jvm.Cond.methodLink "CableTrayPlanner$Plan$Search" (76 : Nat) ({ cls := "java/util/Iterator", name := "next", desc := "()Ljava/lang/Object;" } : Jvm.MethodName)) ∈ lw_all := lw_g (lw_at lw_m8 229 rfl) rfl
theorem q1992 : (Jvm.Cond.classLink "CableTrayPlanner$Plan$Search" (19 : Nat) "java/lang/Integer") ∈ lw_all := lw_g (lw_at lw_m8 230 rfl) rfl
theorem q1993 : (Jvm.Cond.methodLink "CableTrayPlanner$Plan$Search" (79 : Nat) ({ cls := "java/lang/Integer", name := "intValue", desc := "()I" } : Jvm.MethodName)) ∈ lw_all := lw_g (lw_at lw_m8 231 rfl) rfl
theorem q1994 : (Jvm.Cond.methodLink "CableTrayPlanner$Plan$Search" (87 : Nat) ({ cls := "java/util/ArrayList", name := "get", desc := "(I)Ljava/lang/Object;" } : Jvm.MethodName)) ∈ lw_all := lw_g (lw_at lw_m8 232 rfl) rfl
theorem q1995 : (Jvm.Cond.classLink "CableTrayPlanner$Plan$Search" (93 : Nat) "CableTrayPlanner$Tray") ∈ lw_all := lw_g (lw_at lw_m8 233 rfl) rfl
theorem q1996 : (Jvm.Cond.methodLink "CableTrayPlanner$Plan$Search" (95 : Nat) ({ cls := "CableTrayPlanner$Tray", name := "otherEnd", desc := "(I)I" } : Jvm.MethodName)) ∈ lw_all := lw_g (lw_at lw_m8 234 rfl) rfl
theorem q1997 : (Jvm.Cond.methodLink "CableTrayPlanner$Plan$Search" (99 : Nat) ({ cls := "CableTrayPlanner$Plan", name := "fits", desc := "(ILCableTrayPlanner$Type;)Z" } : Jvm.MethodName)) ∈ lw_all := lw_g (lw_at lw_m8 235 rfl) rfl
theorem q2017 : (Jvm.Cond.fieldLink "CableTrayPlanner$Plan$Search" (26 : Nat) "CableTrayPlanner$Plan$Search" "type" "LCableTrayPlanner$Type;") ∈ lw_all := lw_g (lw_at lw_m9 15 rfl) rfl
theorem q2018 : (Jvm.Cond.fieldLink "CableTrayPlanner$Plan$Search" (30 : Nat) "CableTrayPlanner$Plan$Search" "to" "I") ∈ lw_all := lw_g (lw_at lw_m9 16 rfl) rfl
theorem q2019 : (Jvm.Cond.fieldLink "CableTrayPlanner$Plan$Search" (15 : Nat) "CableTrayPlanner$Plan$Search" "row" "[I") ∈ lw_all := lw_g (lw_at lw_m9 17 rfl) rfl
theorem q2020 : (Jvm.Cond.fieldLink "CableTrayPlanner$Plan$Search" (43 : Nat) "CableTrayPlanner$Plan$Search" "count" "I") ∈ lw_all := lw_g (lw_at lw_m9 18 rfl) rfl
theorem q2021 : (Jvm.Cond.fieldLink "CableTrayPlanner$Plan$Search" (33 : Nat) "CableTrayPlanner$Plan$Search" "visited" "I") ∈ lw_all := lw_g (lw_at lw_m9 19 rfl) rfl
theorem q2022 : (Jvm.Cond.fieldLink "CableTrayPlanner$Plan$Search" (40 : Nat) "CableTrayPlanner$Plan$Search" "best" "[I") ∈ lw_all := lw_g (lw_at lw_m9 20 rfl) rfl
theorem q2024 : (Jvm.Cond.fieldLink "CableTrayPlanner$Plan$Search" (46 : Nat) "CableTrayPlanner$Plan$Search" "bestCount" "I") ∈ lw_all := lw_g (lw_at lw_m9 22 rfl) rfl
theorem q2026 : (Jvm.Cond.fieldLink "CableTrayPlanner$Plan$Search" (22 : Nat) "CableTrayPlanner$Plan$Search" "bestLength" "I") ∈ lw_all := lw_g (lw_at lw_m9 24 rfl) rfl
theorem q2028 : (Jvm.Cond.fieldLink "CableTrayPlanner$Plan$Search" (3 : Nat) "CableTrayPlanner$Plan$Search" "this$0" "LCableTrayPlanner$Plan;") ∈ lw_all := lw_g (lw_at lw_m9 26 rfl) rfl
theorem q2029 : (Jvm.Cond.laysFinal "CableTrayPlanner$Plan$Search" "CableTrayPlanner$Plan$Search" "type" "LCableTrayPlanner$Type;") ∈ lw_all := lw_g (lw_at lw_m9 27 rfl) rfl
theorem q2030 : (Jvm.Cond.soleField "CableTrayPlanner$Plan$Search" "type") ∈ lw_all := lw_g (lw_at lw_m9 28 rfl) rfl
theorem q2031 : (Jvm.Cond.laysFinal "CableTrayPlanner$Plan$Search" "CableTrayPlanner$Plan$Search" "to" "I") ∈ lw_all := lw_g (lw_at lw_m9 29 rfl) rfl
theorem q2032 : (Jvm.Cond.soleField "CableTrayPlanner$Plan$Search" "to") ∈ lw_all := lw_g (lw_at lw_m9 30 rfl) rfl
theorem q2033 : (Jvm.Cond.laysFinal "CableTrayPlanner$Plan$Search" "CableTrayPlanner$Plan$Search" "row" "[I") ∈ lw_all := lw_g (lw_at lw_m9 31 rfl) rfl
theorem q2034 : (Jvm.Cond.soleField "CableTrayPlanner$Plan$Search" "row") ∈ lw_all := lw_g (lw_at lw_m9 32 rfl) rfl
theorem q2035 : (Jvm.Cond.lays "CableTrayPlanner$Plan$Search" "CableTrayPlanner$Plan$Search" "count" "I") ∈ lw_all := lw_g (lw_at lw_m9 33 rfl) rfl
theorem q2036 : (Jvm.Cond.soleField "CableTrayPlanner$Plan$Search" "count") ∈ lw_all := lw_g (lw_at lw_m9 34 rfl) rfl
theorem q2037 : (Jvm.Cond.lays "CableTrayPlanner$Plan$Search" "CableTrayPlanner$Plan$Search" "visited" "I") ∈ lw_all := lw_g (lw_at lw_m9 35 rfl) rfl
theorem q2038 : (Jvm.Cond.soleField "CableTrayPlanner$Plan$Search" "visited") ∈ lw_all := lw_g (lw_at lw_m9 36 rfl) rfl
theorem q2039 : (Jvm.Cond.lays "CableTrayPlanner$Plan$Search" "CableTrayPlanner$Plan$Search" "best" "[I") ∈ lw_all := lw_g (lw_at lw_m9 37 rfl) rfl
theorem q2040 : (Jvm.Cond.soleField "CableTrayPlanner$Plan$Search" "best") ∈ lw_all := lw_g (lw_at lw_m9 38 rfl) rfl
theorem q2041 : (Jvm.Cond.lays "CableTrayPlanner$Plan$Search" "CableTrayPlanner$Plan$Search" "bestCount" "I") ∈ lw_all := lw_g (lw_at lw_m9 39 rfl) rfl
theorem q2042 : (Jvm.Cond.soleField "CableTrayPlanner$Plan$Search" "bestCount") ∈ lw_all := lw_g (lw_at lw_m9 40 rfl) rfl
theorem q2043 : (Jvm.Cond.lays "CableTrayPlanner$Plan$Search" "CableTrayPlanner$Plan$Search" "bestLength" "I") ∈ lw_all := lw_g (lw_at lw_m9 41 rfl) rfl
theorem q2044 : (Jvm.Cond.soleField "CableTrayPlanner$Plan$Search" "bestLength") ∈ lw_all := lw_g (lw_at lw_m9 42 rfl) rfl
theorem q2045 : (Jvm.Cond.laysFinal "CableTrayPlanner$Plan$Search" "CableTrayPlanner$Plan$Search" "this$0" "LCableTrayPlanner$Plan;") ∈ lw_all := lw_g (lw_at lw_m9 43 rfl) rfl
theorem q2046 : (Jvm.Cond.soleField "CableTrayPlanner$Plan$Search" "this$0") ∈ lw_all := lw_g (lw_at lw_m9 44 rfl) rfl
theorem q2047 : (Jvm.Cond.superclass "CableTrayPlanner$Plan$Search" "java/lang/Object") ∈ lw_all := lw_g (lw_at lw_m9 45 rfl) rfl
theorem q2049 : (Jvm.Cond.instanceMethod ({ cls := "CableTrayPlanner$Plan$Search", name := "isFound", desc := "()Z" } : Jvm.MethodName)) ∈ lw_all := lw_g (lw_at lw_m9 47 rfl) rfl
theorem q2050 : (Jvm.Cond.selects "CableTrayPlanner$Plan$Search" ({ cls := "CableTrayPlanner$Plan$Search", name := "isFound", desc := "()Z" } : Jvm.MethodName) ({ cls := "CableTrayPlanner$Plan$Search", name := "isFound", desc := "()Z" } : Jvm.MethodName)) ∈ lw_all := lw_g (lw_at lw_m9 48 rfl) rfl
theorem q2051 : (Jvm.Cond.code ({ cls := "CableTrayPlanner$Plan$Search", name := "isFound", desc := "()Z" } : Jvm.MethodName) prog_14_method_2_code (1 : Nat) (Option.some Jvm.ClassFile.FieldType.boolean)) ∈ lw_all := lw_g (lw_at lw_m9 49 rfl) rfl
theorem q3255 : (Jvm.Cond.castable "CableTrayPlanner$Plan$Search" "java/lang/Object") ∈ lw_tbl := lw_at lw_m14 53 rfl
theorem in_X11 : ∀ w ∈ wsX110, w ∈ lw_all := lw_in wsX110 [2029, 2031, 2033, 2035, 2037, 2039, 2041, 2043, 2045] (by decide +kernel) (by decide +kernel)

/-! CableTrayPlanner$Plan$1 -/
set_option maxRecDepth 100000
def RX12 : String := "CableTrayPlanner$Plan$1"
def TX12 : u_T := fun k => match k with
  | 0 => ("CableTrayPlanner$Plan$1", "val$place", "I", true)
  | _ => ("CableTrayPlanner$Plan$1", "this$0", "LCableTrayPlanner$Plan;", true)
def tyX12 : Nat → FieldType := fun k => match k with
  | 0 => .int
  | _ => .object "CableTrayPlanner$Plan"
abbrev wsX120 : List Cond := u_ws RX12 TX12 2
theorem nmX12 : ∀ a, a < 2 → ∀ b, b < 2 → a ≠ b → (TX12 a).2.1 ≠ (TX12 b).2.1 := by decide +kernel
theorem tyX12_ok : ∀ k, k < 2 → parseFieldDescriptor (TX12 k).2.2.1 = some (tyX12 k) := by decide +kernel
abbrev cX12_init : ByteArray := prog_12_method_1_code
def yX12_init : MethodName := ⟨RX12, "<init>", "(LCableTrayPlanner$Plan;I)V"⟩
abbrev cX12_iterator : ByteArray := prog_12_method_2_code
def yX12_iterator : MethodName := ⟨RX12, "iterator", "()Ljava/util/Iterator;"⟩
theorem q129 : (Jvm.Cond.initialized "CableTrayPlanner$Plan$1") ∈ lw_all := lw_g (lw_at lw_m1 47 rfl) rfl
theorem q660 : (Jvm.Cond.selects "CableTrayPlanner$Plan$1" ({ cls := "java/lang/Object", name := "hashCode", desc := "()I" } : Jvm.MethodName) ({ cls := "java/lang/Object", name := "hashCode", desc := "()I" } : Jvm.MethodName)) ∈ lw_all := lw_g (lw_at lw_m3 98 rfl) rfl
theorem q759 : (Jvm.Cond.selects "CableTrayPlanner$Plan$1" ({ cls := "java/lang/Object", name := "equals", desc := "(Ljava/lang/Object;)Z" } : Jvm.MethodName) ({ cls := "java/lang/Object", name := "equals", desc := "(Ljava/lang/Object;)Z" } : Jvm.MethodName)) ∈ lw_all := lw_g (lw_at lw_m3 197 rfl) rfl
theorem q824 : (Jvm.Cond.selects "CableTrayPlanner$Plan$1" ({ cls := "java/lang/Object", name := "getClass", desc := "()Ljava/lang/Class;" } : Jvm.MethodName) ({ cls := "java/lang/Object", name := "getClass", desc := "()Ljava/lang/Class;" } : Jvm.MethodName)) ∈ lw_all := lw_g (lw_at lw_m4 22 rfl) rfl
theorem q1922 : (Jvm.Cond.instantiable "CableTrayPlanner$Plan$1" (2 : Nat)) ∈ lw_all := lw_g (lw_at lw_m8 160 rfl) rfl
theorem q1924 : (Jvm.Cond.instanceMethod ({ cls := "CableTrayPlanner$Plan$1", name := "<init>", desc := "(LCableTrayPlanner$Plan;I)V" } : Jvm.MethodName)) ∈ lw_all := lw_g (lw_at lw_m8 162 rfl) rfl
theorem q1925 : (Jvm.Cond.code ({ cls := "CableTrayPlanner$Plan$1", name := "<init>", desc := "(LCableTrayPlanner$Plan;I)V" } : Jvm.MethodName) prog_12_method_1_code (3 : Nat) (Option.none : Option Jvm.ClassFile.FieldType)) ∈ lw_all := lw_g (lw_at lw_m8 163 rfl) rfl
theorem q1926 : (Jvm.Cond.methodLink "CableTrayPlanner$Plan$1" (11 : Nat) ({ cls := "java/lang/Object", name := "<init>", desc := "()V" } : Jvm.MethodName)) ∈ lw_all := lw_g (lw_at lw_m8 164 rfl) rfl
theorem q1927 : (Jvm.Cond.fieldLink "CableTrayPlanner$Plan$1" (7 : Nat) "CableTrayPlanner$Plan$1" "val$place" "I") ∈ lw_all := lw_g (lw_at lw_m8 165 rfl) rfl
theorem q1929 : (Jvm.Cond.fieldLink "CableTrayPlanner$Plan$1" (1 : Nat) "CableTrayPlanner$Plan$1" "this$0" "LCableTrayPlanner$Plan;") ∈ lw_all := lw_g (lw_at lw_m8 167 rfl) rfl
theorem q1931 : (Jvm.Cond.laysFinal "CableTrayPlanner$Plan$1" "CableTrayPlanner$Plan$1" "val$place" "I") ∈ lw_all := lw_g (lw_at lw_m8 169 rfl) rfl
theorem q1932 : (Jvm.Cond.soleField "CableTrayPlanner$Plan$1" "val$place") ∈ lw_all := lw_g (lw_at lw_m8 170 rfl) rfl
theorem q1933 : (Jvm.Cond.laysFinal "CableTrayPlanner$Plan$1" "CableTrayPlanner$Plan$1" "this$0" "LCableTrayPlanner$Plan;") ∈ lw_all := lw_g (lw_at lw_m8 171 rfl) rfl
theorem q1934 : (Jvm.Cond.soleField "CableTrayPlanner$Plan$1" "this$0") ∈ lw_all := lw_g (lw_at lw_m8 172 rfl) rfl
theorem q1935 : (Jvm.Cond.superclass "CableTrayPlanner$Plan$1" "java/lang/Object") ∈ lw_all := lw_g (lw_at lw_m8 173 rfl) rfl
theorem q1940 : (Jvm.Cond.castable "CableTrayPlanner$Plan$1" "java/lang/Iterable") ∈ lw_tbl := lw_at lw_m8 178 rfl
theorem q1941 : (Jvm.Cond.selects "CableTrayPlanner$Plan$1" ({ cls := "java/lang/Iterable", name := "iterator", desc := "()Ljava/util/Iterator;" } : Jvm.MethodName) ({ cls := "CableTrayPlanner$Plan$1", name := "iterator", desc := "()Ljava/util/Iterator;" } : Jvm.MethodName)) ∈ lw_all := lw_g (lw_at lw_m8 179 rfl) rfl
theorem q1942 : (Jvm.Cond.unhidden "CableTrayPlanner$Plan$1" "iterator" "()Ljava/util/Iterator;") ∈ lw_tbl := lw_at lw_m8 180 rfl
theorem q1943 : (Jvm.Cond.instanceMethod ({ cls := "CableTrayPlanner$Plan$1", name := "iterator", desc := "()Ljava/util/Iterator;" } : Jvm.MethodName)) ∈ lw_all := lw_g (lw_at lw_m8 181 rfl) rfl
theorem q1944 : (Jvm.Cond.publicMethod ({ cls := "CableTrayPlanner$Plan$1", name := "iterator", desc := "()Ljava/util/Iterator;" } : Jvm.MethodName)) ∈ lw_tbl := lw_at lw_m8 182 rfl
theorem q1945 : (Jvm.Cond.code ({ cls := "CableTrayPlanner$Plan$1", name := "iterator", desc := "()Ljava/util/Iterator;" } : Jvm.MethodName) prog_12_method_2_code (1 : Nat) (Option.some (Jvm.ClassFile.FieldType.object "java/util/Iterator"))) ∈ lw_all := lw_g (lw_at lw_m8 183 rfl) rfl
theorem q1946 : (Jvm.Cond.classLink "CableTrayPlanner$Plan$1" (17 : Nat) "CableTrayPlanner$Plan$1$1") ∈ lw_all := lw_g (lw_at lw_m8 184 rfl) rfl
theorem q1947 : (Jvm.Cond.methodLink "CableTrayPlanner$Plan$1" (19 : Nat) ({ cls := "CableTrayPlanner$Plan$1$1", name := "<init>", desc := "(LCableTrayPlanner$Plan$1;)V" } : Jvm.MethodName)) ∈ lw_all := lw_g (lw_at lw_m8 185 rfl) rfl
theorem q3256 : (Jvm.Cond.castable "CableTrayPlanner$Plan$1" "java/lang/Object") ∈ lw_tbl := lw_at lw_m14 54 rfl
theorem in_X12 : ∀ w ∈ wsX120, w ∈ lw_all := lw_in wsX120 [1931, 1933] (by decide +kernel) (by decide +kernel)

/-! CableTrayPlanner$Plan$1$1 -/
set_option maxRecDepth 100000
def RX13 : String := "CableTrayPlanner$Plan$1$1"
def TX13 : u_T := fun k => match k with
  | 0 => ("CableTrayPlanner$Plan$1$1", "next", "I", false)
  | _ => ("CableTrayPlanner$Plan$1$1", "this$1", "LCableTrayPlanner$Plan$1;", true)
def tyX13 : Nat → FieldType := fun k => match k with
  | 0 => .int
  | _ => .object "CableTrayPlanner$Plan$1"
abbrev wsX130 : List Cond := u_ws RX13 TX13 2
theorem nmX13 : ∀ a, a < 2 → ∀ b, b < 2 → a ≠ b → (TX13 a).2.1 ≠ (TX13 b).2.1 := by decide +kernel
theorem tyX13_ok : ∀ k, k < 2 → parseFieldDescriptor (TX13 k).2.2.1 = some (tyX13 k) := by decide +kernel
abbrev cX13_hasNext : ByteArray := prog_13_method_3_code
def yX13_hasNext : MethodName := ⟨RX13, "hasNext", "()Z"⟩
abbrev cX13_next : ByteArray := prog_13_method_5_code
def yX13_next : MethodName := ⟨RX13, "next", "()Ljava/lang/Object;"⟩
abbrev cX13_next_2 : ByteArray := prog_13_method_4_code
def yX13_next_2 : MethodName := ⟨RX13, "next", "()Ljava/lang/Integer;"⟩
abbrev cX13_nextFrom : ByteArray := prog_13_method_2_code
def yX13_nextFrom : MethodName := ⟨RX13, "nextFrom", "(I)I"⟩
abbrev cX13_init : ByteArray := prog_13_method_1_code
def yX13_init : MethodName := ⟨RX13, "<init>", "(LCableTrayPlanner$Plan$1;)V"⟩
theorem q130 : (Jvm.Cond.initialized "CableTrayPlanner$Plan$1$1") ∈ lw_all := lw_g (lw_at lw_m1 48 rfl) rfl
theorem q221 : (Jvm.Cond.fieldLinkNest "CableTrayPlanner$Plan$1$1" (29 : Nat) "CableTrayPlanner$Plan" "trays" "Ljava/util/ArrayList;" "CableTrayPlanner") ∈ lw_tbl := lw_at lw_m1 139 rfl
theorem q661 : (Jvm.Cond.selects "CableTrayPlanner$Plan$1$1" ({ cls := "java/lang/Object", name := "hashCode", desc := "()I" } : Jvm.MethodName) ({ cls := "java/lang/Object", name := "hashCode", desc := "()I" } : Jvm.MethodName)) ∈ lw_all := lw_g (lw_at lw_m3 99 rfl) rfl
theorem q760 : (Jvm.Cond.selects "CableTrayPlanner$Plan$1$1" ({ cls := "java/lang/Object", name := "equals", desc := "(Ljava/lang/Object;)Z" } : Jvm.MethodName) ({ cls := "java/lang/Object", name := "equals", desc := "(Ljava/lang/Object;)Z" } : Jvm.MethodName)) ∈ lw_all := lw_g (lw_at lw_m3 198 rfl) rfl
theorem q825 : (Jvm.Cond.selects "CableTrayPlanner$Plan$1$1" ({ cls := "java/lang/Object", name := "getClass", desc := "()Ljava/lang/Class;" } : Jvm.MethodName) ({ cls := "java/lang/Object", name := "getClass", desc := "()Ljava/lang/Class;" } : Jvm.MethodName)) ∈ lw_all := lw_g (lw_at lw_m4 23 rfl) rfl
theorem q1093 : (Jvm.Cond.castable "CableTrayPlanner$Plan$1$1" "java/util/Iterator") ∈ lw_tbl := lw_at lw_m5 51 rfl
theorem q1094 : (Jvm.Cond.selects "CableTrayPlanner$Plan$1$1" ({ cls := "java/util/Iterator", name := "hasNext", desc := "()Z" } : Jvm.MethodName) ({ cls := "CableTrayPlanner$Plan$1$1", name := "hasNext", desc := "()Z" } : Jvm.MethodName)) ∈ lw_all := lw_g (lw_at lw_m5 52 rfl) rfl
theorem q1095 : (Jvm.Cond.unhidden "CableTrayPlanner$Plan$1$1" "hasNext" "()Z") ∈ lw_tbl := lw_at lw_m5 53 rfl
theorem q1096 : (Jvm.Cond.instanceMethod ({ cls := "CableTrayPlanner$Plan$1$1", name := "hasNext", desc := "()Z" } : Jvm.MethodName)) ∈ lw_all := lw_g (lw_at lw_m5 54 rfl) rfl
theorem q1097 : (Jvm.Cond.publicMethod ({ cls := "CableTrayPlanner$Plan$1$1", name := "hasNext", desc := "()Z" } : Jvm.MethodName)) ∈ lw_tbl := lw_at lw_m5 55 rfl
theorem q1098 : (Jvm.Cond.code ({ cls := "CableTrayPlanner$Plan$1$1", name := "hasNext", desc := "()Z" } : Jvm.MethodName) prog_13_method_3_code (1 : Nat) (Option.some Jvm.ClassFile.FieldType.boolean)) ∈ lw_all := lw_g (lw_at lw_m5 56 rfl) rfl
theorem q1099 : (Jvm.Cond.methodLink "CableTrayPlanner$Plan$1$1" (35 : Nat) ({ cls := "java/util/ArrayList", name := "size", desc := "()I" } : Jvm.MethodName)) ∈ lw_all := lw_g (lw_at lw_m5 57 rfl) rfl
theorem q1116 : (Jvm.Cond.selects "CableTrayPlanner$Plan$1$1" ({ cls := "java/util/Iterator", name := "next", desc := "()Ljava/lang/Object;" } : Jvm.MethodName) ({ cls := "CableTrayPlanner$Plan$1$1", name := "next", desc := "()Ljava/lang/Object;" } : Jvm.MethodName)) ∈ lw_all := lw_g (lw_at lw_m5 74 rfl) rfl
theorem q1117 : (Jvm.Cond.unhidden "CableTrayPlanner$Plan$1$1" "next" "()Ljava/lang/Object;") ∈ lw_tbl := lw_at lw_m5 75 rfl
theorem q1118 : (Jvm.Cond.instanceMethod ({ cls := "CableTrayPlanner$Plan$1$1", name := "next", desc := "()Ljava/lang/Object;" } : Jvm.MethodName)) ∈ lw_all := lw_g (lw_at lw_m5 76 rfl) rfl
theorem q1119 : (Jvm.Cond.publicMethod ({ cls := "CableTrayPlanner$Plan$1$1", name := "next", desc := "()Ljava/lang/Object;" } : Jvm.MethodName)) ∈ lw_tbl := lw_at lw_m5 77 rfl
theorem q1120 : (Jvm.Cond.code ({ cls := "CableTrayPlanner$Plan$1$1", name := "next", desc := "()Ljava/lang/Object;" } : Jvm.MethodName) prog_13_method_5_code (1 : Nat) (Option.some (Jvm.ClassFile.FieldType.object "java/lang/Object"))) ∈ lw_all := lw_g (lw_at lw_m5 78 rfl) rfl
theorem q1121 : (Jvm.Cond.methodLink "CableTrayPlanner$Plan$1$1" (67 : Nat) ({ cls := "CableTrayPlanner$Plan$1$1", name := "next", desc := "()Ljava/lang/Integer;" } : Jvm.MethodName)) ∈ lw_all := lw_g (lw_at lw_m5 79 rfl) rfl
theorem q1122 : (Jvm.Cond.instanceMethod ({ cls := "CableTrayPlanner$Plan$1$1", name := "next", desc := "()Ljava/lang/Integer;" } : Jvm.MethodName)) ∈ lw_all := lw_g (lw_at lw_m5 80 rfl) rfl
theorem q1123 : (Jvm.Cond.selects "CableTrayPlanner$Plan$1$1" ({ cls := "CableTrayPlanner$Plan$1$1", name := "next", desc := "()Ljava/lang/Integer;" } : Jvm.MethodName) ({ cls := "CableTrayPlanner$Plan$1$1", name := "next", desc := "()Ljava/lang/Integer;" } : Jvm.MethodName)) ∈ lw_all := lw_g (lw_at lw_m5 81 rfl) rfl
theorem q1124 : (Jvm.Cond.code ({ cls := "CableTrayPlanner$Plan$1$1", name := "next", desc := "()Ljava/lang/Integer;" } : Jvm.MethodName) prog_13_method_4_code (2 : Nat) (Option.some (Jvm.ClassFile.FieldType.object "java/lang/Integer"))) ∈ lw_all := lw_g (lw_at lw_m5 82 rfl) rfl
theorem q1125 : (Jvm.Cond.methodLink "CableTrayPlanner$Plan$1$1" (53 : Nat) ({ cls := "CableTrayPlanner$Plan$1$1", name := "hasNext", desc := "()Z" } : Jvm.MethodName)) ∈ lw_all := lw_g (lw_at lw_m5 83 rfl) rfl
theorem q1126 : (Jvm.Cond.methodLinkNest "CableTrayPlanner$Plan$1$1" (57 : Nat) ({ cls := "CableTrayPlanner", name := "checkElement", desc := "(Z)V" } : Jvm.MethodName) "CableTrayPlanner") ∈ lw_tbl := lw_at lw_m5 84 rfl
theorem q1150 : (Jvm.Cond.methodLink "CableTrayPlanner$Plan$1$1" (15 : Nat) ({ cls := "CableTrayPlanner$Plan$1$1", name := "nextFrom", desc := "(I)I" } : Jvm.MethodName)) ∈ lw_all := lw_g (lw_at lw_m5 108 rfl) rfl
theorem q1151 : (Jvm.Cond.privateMethod ({ cls := "CableTrayPlanner$Plan$1$1", name := "nextFrom", desc := "(I)I" } : Jvm.MethodName)) ∈ lw_tbl := lw_at lw_m5 109 rfl
theorem q1152 : (Jvm.Cond.instanceMethod ({ cls := "CableTrayPlanner$Plan$1$1", name := "nextFrom", desc := "(I)I" } : Jvm.MethodName)) ∈ lw_all := lw_g (lw_at lw_m5 110 rfl) rfl
theorem q1153 : (Jvm.Cond.instantiable "CableTrayPlanner$Plan$1$1" (2 : Nat)) ∈ lw_all := lw_g (lw_at lw_m5 111 rfl) rfl
theorem q1154 : (Jvm.Cond.code ({ cls := "CableTrayPlanner$Plan$1$1", name := "nextFrom", desc := "(I)I" } : Jvm.MethodName) prog_13_method_2_code (3 : Nat) (Option.some Jvm.ClassFile.FieldType.int)) ∈ lw_all := lw_g (lw_at lw_m5 112 rfl) rfl
theorem q1155 : (Jvm.Cond.methodLink "CableTrayPlanner$Plan$1$1" (41 : Nat) ({ cls := "java/util/ArrayList", name := "get", desc := "(I)Ljava/lang/Object;" } : Jvm.MethodName)) ∈ lw_all := lw_g (lw_at lw_m5 113 rfl) rfl
theorem q1169 : (Jvm.Cond.classLink "CableTrayPlanner$Plan$1$1" (45 : Nat) "CableTrayPlanner$Tray") ∈ lw_all := lw_g (lw_at lw_m5 127 rfl) rfl
theorem q1170 : (Jvm.Cond.methodLink "CableTrayPlanner$Plan$1$1" (50 : Nat) ({ cls := "CableTrayPlanner$Tray", name := "otherEnd", desc := "(I)I" } : Jvm.MethodName)) ∈ lw_all := lw_g (lw_at lw_m5 128 rfl) rfl
theorem q1174 : (Jvm.Cond.methodLink "CableTrayPlanner$Plan$1$1" (61 : Nat) ({ cls := "java/lang/Integer", name := "valueOf", desc := "(I)Ljava/lang/Integer;" } : Jvm.MethodName)) ∈ lw_all := lw_g (lw_at lw_m5 132 rfl) rfl
theorem q1928 : (Jvm.Cond.fieldLink "CableTrayPlanner$Plan$1$1" (47 : Nat) "CableTrayPlanner$Plan$1" "val$place" "I") ∈ lw_all := lw_g (lw_at lw_m8 166 rfl) rfl
theorem q1930 : (Jvm.Cond.fieldLink "CableTrayPlanner$Plan$1$1" (23 : Nat) "CableTrayPlanner$Plan$1" "this$0" "LCableTrayPlanner$Plan;") ∈ lw_all := lw_g (lw_at lw_m8 168 rfl) rfl
theorem q1948 : (Jvm.Cond.instanceMethod ({ cls := "CableTrayPlanner$Plan$1$1", name := "<init>", desc := "(LCableTrayPlanner$Plan$1;)V" } : Jvm.MethodName)) ∈ lw_all := lw_g (lw_at lw_m8 186 rfl) rfl
theorem q1949 : (Jvm.Cond.code ({ cls := "CableTrayPlanner$Plan$1$1", name := "<init>", desc := "(LCableTrayPlanner$Plan$1;)V" } : Jvm.MethodName) prog_13_method_1_code (2 : Nat) (Option.none : Option Jvm.ClassFile.FieldType)) ∈ lw_all := lw_g (lw_at lw_m8 187 rfl) rfl
theorem q1950 : (Jvm.Cond.methodLink "CableTrayPlanner$Plan$1$1" (9 : Nat) ({ cls := "java/lang/Object", name := "<init>", desc := "()V" } : Jvm.MethodName)) ∈ lw_all := lw_g (lw_at lw_m8 188 rfl) rfl
theorem q1951 : (Jvm.Cond.fieldLink "CableTrayPlanner$Plan$1$1" (19 : Nat) "CableTrayPlanner$Plan$1$1" "next" "I") ∈ lw_all := lw_g (lw_at lw_m8 189 rfl) rfl
theorem q1952 : (Jvm.Cond.fieldLink "CableTrayPlanner$Plan$1$1" (3 : Nat) "CableTrayPlanner$Plan$1$1" "this$1" "LCableTrayPlanner$Plan$1;") ∈ lw_all := lw_g (lw_at lw_m8 190 rfl) rfl
theorem q1953 : (Jvm.Cond.lays "CableTrayPlanner$Plan$1$1" "CableTrayPlanner$Plan$1$1" "next" "I") ∈ lw_all := lw_g (lw_at lw_m8 191 rfl) rfl
theorem q1954 : (Jvm.Cond.soleField "CableTrayPlanner$Plan$1$1" "next") ∈ lw_all := lw_g (lw_at lw_m8 192 rfl) rfl
theorem q1955 : (Jvm.Cond.laysFinal "CableTrayPlanner$Plan$1$1" "CableTrayPlanner$Plan$1$1" "this$1" "LCableTrayPlanner$Plan$1;") ∈ lw_all := lw_g (lw_at lw_m8 193 rfl) rfl
theorem q1956 : (Jvm.Cond.soleField "CableTrayPlanner$Plan$1$1" "this$1") ∈ lw_all := lw_g (lw_at lw_m8 194 rfl) rfl
theorem q1957 : (Jvm.Cond.superclass "CableTrayPlanner$Plan$1$1" "java/lang/Object") ∈ lw_all := lw_g (lw_at lw_m8 195 rfl) rfl
theorem q3222 : (Jvm.Cond.selects "CableTrayPlanner$Plan$1$1" ({ cls := "CableTrayPlanner$Plan$1$1", name := "hasNext", desc := "()Z" } : Jvm.MethodName) ({ cls := "CableTrayPlanner$Plan$1$1", name := "hasNext", desc := "()Z" } : Jvm.MethodName)) ∈ lw_all := lw_g (lw_at lw_m14 20 rfl) rfl
theorem q3257 : (Jvm.Cond.castable "CableTrayPlanner$Plan$1$1" "java/lang/Object") ∈ lw_tbl := lw_at lw_m14 55 rfl
theorem in_X13 : ∀ w ∈ wsX130, w ∈ lw_all := lw_in wsX130 [1953, 1955] (by decide +kernel) (by decide +kernel)

/-! CableTrayPlanner$Parser -/
set_option maxRecDepth 100000
def RX16 : String := "CableTrayPlanner$Parser"
def TX16 : u_T := fun k => match k with
  | 0 => ("CableTrayPlanner$Parser", "text", "Ljava/lang/CharSequence;", true)
  | _ => ("CableTrayPlanner$Parser", "position", "I", false)
def tyX16 : Nat → FieldType := fun k => match k with
  | 0 => .object "java/lang/CharSequence"
  | _ => .int
abbrev wsX160 : List Cond := u_ws RX16 TX16 2
theorem nmX16 : ∀ a, a < 2 → ∀ b, b < 2 → a ≠ b → (TX16 a).2.1 ≠ (TX16 b).2.1 := by decide +kernel
theorem tyX16_ok : ∀ k, k < 2 → parseFieldDescriptor (TX16 k).2.2.1 = some (tyX16 k) := by decide +kernel
abbrev cX16_init : ByteArray := prog_10_method_1_code
def yX16_init : MethodName := ⟨RX16, "<init>", "(Ljava/lang/CharSequence;)V"⟩
abbrev cX16_items : ByteArray := prog_10_method_9_code
def yX16_items : MethodName := ⟨RX16, "items", "()Ljava/util/ArrayList;"⟩
abbrev cX16_item : ByteArray := prog_10_method_8_code
def yX16_item : MethodName := ⟨RX16, "item", "()LCableTrayPlanner$Item;"⟩
abbrev cX16_isNext : ByteArray := prog_10_method_2_code
def yX16_isNext : MethodName := ⟨RX16, "isNext", "(II)Z"⟩
abbrev cX16_name : ByteArray := prog_10_method_7_code
def yX16_name : MethodName := ⟨RX16, "name", "()Ljava/lang/String;"⟩
abbrev cX16_take : ByteArray := prog_10_method_3_code
def yX16_take : MethodName := ⟨RX16, "take", "(II)I"⟩
abbrev cX16_digitBehind : ByteArray := prog_10_method_5_code
def yX16_digitBehind : MethodName := ⟨RX16, "digitBehind", "(C)I"⟩
abbrev cX16_digit : ByteArray := prog_10_method_4_code
def yX16_digit : MethodName := ⟨RX16, "digit", "()I"⟩
abbrev cX16_numberBehind : ByteArray := prog_10_method_6_code
def yX16_numberBehind : MethodName := ⟨RX16, "numberBehind", "(C)I"⟩
theorem q136 : (Jvm.Cond.initialized "CableTrayPlanner$Parser") ∈ lw_all := lw_g (lw_at lw_m1 54 rfl) rfl
theorem q658 : (Jvm.Cond.selects "CableTrayPlanner$Parser" ({ cls := "java/lang/Object", name := "hashCode", desc := "()I" } : Jvm.MethodName) ({ cls := "java/lang/Object", name := "hashCode", desc := "()I" } : Jvm.MethodName)) ∈ lw_all := lw_g (lw_at lw_m3 96 rfl) rfl
theorem q757 : (Jvm.Cond.selects "CableTrayPlanner$Parser" ({ cls := "java/lang/Object", name := "equals", desc := "(Ljava/lang/Object;)Z" } : Jvm.MethodName) ({ cls := "java/lang/Object", name := "equals", desc := "(Ljava/lang/Object;)Z" } : Jvm.MethodName)) ∈ lw_all := lw_g (lw_at lw_m3 195 rfl) rfl
theorem q822 : (Jvm.Cond.selects "CableTrayPlanner$Parser" ({ cls := "java/lang/Object", name := "getClass", desc := "()Ljava/lang/Class;" } : Jvm.MethodName) ({ cls := "java/lang/Object", name := "getClass", desc := "()Ljava/lang/Class;" } : Jvm.MethodName)) ∈ lw_all := lw_g (lw_at lw_m4 20 rfl) rfl
theorem q2483 : (Jvm.Cond.instantiable "CableTrayPlanner$Parser" (2 : Nat)) ∈ lw_all := lw_g (lw_at lw_m11 1 rfl) rfl
theorem q2485 : (Jvm.Cond.instanceMethod ({ cls := "CableTrayPlanner$Parser", name := "<init>", desc := "(Ljava/lang/CharSequence;)V" } : Jvm.MethodName)) ∈ lw_all := lw_g (lw_at lw_m11 3 rfl) rfl
theorem q2486 : (Jvm.Cond.code ({ cls := "CableTrayPlanner$Parser", name := "<init>", desc := "(Ljava/lang/CharSequence;)V" } : Jvm.MethodName) prog_10_method_1_code (2 : Nat) (Option.none : Option Jvm.ClassFile.FieldType)) ∈ lw_all := lw_g (lw_at lw_m11 4 rfl) rfl
theorem q2487 : (Jvm.Cond.methodLink "CableTrayPlanner$Parser" (3 : Nat) ({ cls := "java/lang/Object", name := "<init>", desc := "()V" } : Jvm.MethodName)) ∈ lw_all := lw_g (lw_at lw_m11 5 rfl) rfl
theorem q2488 : (Jvm.Cond.fieldLink "CableTrayPlanner$Parser" (9 : Nat) "CableTrayPlanner$Parser" "text" "Ljava/lang/CharSequence;") ∈ lw_all := lw_g (lw_at lw_m11 6 rfl) rfl
theorem q2489 : (Jvm.Cond.fieldLink "CableTrayPlanner$Parser" (15 : Nat) "CableTrayPlanner$Parser" "position" "I") ∈ lw_all := lw_g (lw_at lw_m11 7 rfl) rfl
theorem q2490 : (Jvm.Cond.laysFinal "CableTrayPlanner$Parser" "CableTrayPlanner$Parser" "text" "Ljava/lang/CharSequence;") ∈ lw_all := lw_g (lw_at lw_m11 8 rfl) rfl
theorem q2491 : (Jvm.Cond.soleField "CableTrayPlanner$Parser" "text") ∈ lw_all := lw_g (lw_at lw_m11 9 rfl) rfl
theorem q2492 : (Jvm.Cond.lays "CableTrayPlanner$Parser" "CableTrayPlanner$Parser" "position" "I") ∈ lw_all := lw_g (lw_at lw_m11 10 rfl) rfl
theorem q2493 : (Jvm.Cond.soleField "CableTrayPlanner$Parser" "position") ∈ lw_all := lw_g (lw_at lw_m11 11 rfl) rfl
theorem q2494 : (Jvm.Cond.superclass "CableTrayPlanner$Parser" "java/lang/Object") ∈ lw_all := lw_g (lw_at lw_m11 12 rfl) rfl
theorem q2496 : (Jvm.Cond.instanceMethod ({ cls := "CableTrayPlanner$Parser", name := "items", desc := "()Ljava/util/ArrayList;" } : Jvm.MethodName)) ∈ lw_all := lw_g (lw_at lw_m11 14 rfl) rfl
theorem q2497 : (Jvm.Cond.selects "CableTrayPlanner$Parser" ({ cls := "CableTrayPlanner$Parser", name := "items", desc := "()Ljava/util/ArrayList;" } : Jvm.MethodName) ({ cls := "CableTrayPlanner$Parser", name := "items", desc := "()Ljava/util/ArrayList;" } : Jvm.MethodName)) ∈ lw_all := lw_g (lw_at lw_m11 15 rfl) rfl
theorem q2498 : (Jvm.Cond.code ({ cls := "CableTrayPlanner$Parser", name := "items", desc := "()Ljava/util/ArrayList;" } : Jvm.MethodName) prog_10_method_9_code (4 : Nat) (Option.some (Jvm.ClassFile.FieldType.object "java/util/ArrayList"))) ∈ lw_all := lw_g (lw_at lw_m11 16 rfl) rfl
theorem q2499 : (Jvm.Cond.classLink "CableTrayPlanner$Parser" (74 : Nat) "java/util/ArrayList") ∈ lw_all := lw_g (lw_at lw_m11 17 rfl) rfl
theorem q2500 : (Jvm.Cond.methodLink "CableTrayPlanner$Parser" (76 : Nat) ({ cls := "java/util/ArrayList", name := "<init>", desc := "()V" } : Jvm.MethodName)) ∈ lw_all := lw_g (lw_at lw_m11 18 rfl) rfl
theorem q2501 : (Jvm.Cond.methodLink "CableTrayPlanner$Parser" (77 : Nat) ({ cls := "CableTrayPlanner$Parser", name := "item", desc := "()LCableTrayPlanner$Item;" } : Jvm.MethodName)) ∈ lw_all := lw_g (lw_at lw_m11 19 rfl) rfl
theorem q2502 : (Jvm.Cond.privateMethod ({ cls := "CableTrayPlanner$Parser", name := "item", desc := "()LCableTrayPlanner$Item;" } : Jvm.MethodName)) ∈ lw_tbl := lw_at lw_m11 20 rfl
theorem q2503 : (Jvm.Cond.instanceMethod ({ cls := "CableTrayPlanner$Parser", name := "item", desc := "()LCableTrayPlanner$Item;" } : Jvm.MethodName)) ∈ lw_all := lw_g (lw_at lw_m11 21 rfl) rfl
theorem q2504 : (Jvm.Cond.code ({ cls := "CableTrayPlanner$Parser", name := "item", desc := "()LCableTrayPlanner$Item;" } : Jvm.MethodName) prog_10_method_8_code (5 : Nat) (Option.some (Jvm.ClassFile.FieldType.object "CableTrayPlanner$Item"))) ∈ lw_all := lw_g (lw_at lw_m11 22 rfl) rfl
theorem q2505 : (Jvm.Cond.methodLink "CableTrayPlanner$Parser" (33 : Nat) ({ cls := "CableTrayPlanner$Parser", name := "isNext", desc := "(II)Z" } : Jvm.MethodName)) ∈ lw_all := lw_g (lw_at lw_m11 23 rfl) rfl
theorem q2506 : (Jvm.Cond.privateMethod ({ cls := "CableTrayPlanner$Parser", name := "isNext", desc := "(II)Z" } : Jvm.MethodName)) ∈ lw_tbl := lw_at lw_m11 24 rfl
theorem q2507 : (Jvm.Cond.instanceMethod ({ cls := "CableTrayPlanner$Parser", name := "isNext", desc := "(II)Z" } : Jvm.MethodName)) ∈ lw_all := lw_g (lw_at lw_m11 25 rfl) rfl
theorem q2508 : (Jvm.Cond.code ({ cls := "CableTrayPlanner$Parser", name := "isNext", desc := "(II)Z" } : Jvm.MethodName) prog_10_method_2_code (3 : Nat) (Option.some Jvm.ClassFile.FieldType.boolean)) ∈ lw_all := lw_g (lw_at lw_m11 26 rfl) rfl
theorem q2509 : (Jvm.Cond.interfaceEntry "CableTrayPlanner$Parser" (19 : Nat)) ∈ lw_tbl := lw_at lw_m11 27 rfl
theorem q2510 : (Jvm.Cond.methodLink "CableTrayPlanner$Parser" (19 : Nat) ({ cls := "java/lang/CharSequence", name := "length", desc := "()I" } : Jvm.MethodName)) ∈ lw_all := lw_g (lw_at lw_m11 28 rfl) rfl
theorem q2521 : (Jvm.Cond.interfaceEntry "CableTrayPlanner$Parser" (25 : Nat)) ∈ lw_tbl := lw_at lw_m11 39 rfl
theorem q2522 : (Jvm.Cond.methodLink "CableTrayPlanner$Parser" (25 : Nat) ({ cls := "java/lang/CharSequence", name := "charAt", desc := "(I)C" } : Jvm.MethodName)) ∈ lw_all := lw_g (lw_at lw_m11 40 rfl) rfl
theorem q2539 : (Jvm.Cond.methodLinkNest "CableTrayPlanner$Parser" (29 : Nat) ({ cls := "CableTrayPlanner", name := "inRange", desc := "(JJJ)Z" } : Jvm.MethodName) "CableTrayPlanner") ∈ lw_tbl := lw_at lw_m11 57 rfl
theorem q2540 : (Jvm.Cond.methodLink "CableTrayPlanner$Parser" (61 : Nat) ({ cls := "CableTrayPlanner$Parser", name := "name", desc := "()Ljava/lang/String;" } : Jvm.MethodName)) ∈ lw_all := lw_g (lw_at lw_m11 58 rfl) rfl
theorem q2541 : (Jvm.Cond.privateMethod ({ cls := "CableTrayPlanner$Parser", name := "name", desc := "()Ljava/lang/String;" } : Jvm.MethodName)) ∈ lw_tbl := lw_at lw_m11 59 rfl
theorem q2542 : (Jvm.Cond.instanceMethod ({ cls := "CableTrayPlanner$Parser", name := "name", desc := "()Ljava/lang/String;" } : Jvm.MethodName)) ∈ lw_all := lw_g (lw_at lw_m11 60 rfl) rfl
theorem q2543 : (Jvm.Cond.code ({ cls := "CableTrayPlanner$Parser", name := "name", desc := "()Ljava/lang/String;" } : Jvm.MethodName) prog_10_method_7_code (3 : Nat) (Option.some (Jvm.ClassFile.FieldType.object "java/lang/String"))) ∈ lw_all := lw_g (lw_at lw_m11 61 rfl) rfl
theorem q2544 : (Jvm.Cond.methodLink "CableTrayPlanner$Parser" (42 : Nat) ({ cls := "CableTrayPlanner$Parser", name := "take", desc := "(II)I" } : Jvm.MethodName)) ∈ lw_all := lw_g (lw_at lw_m11 62 rfl) rfl
theorem q2545 : (Jvm.Cond.privateMethod ({ cls := "CableTrayPlanner$Parser", name := "take", desc := "(II)I" } : Jvm.MethodName)) ∈ lw_tbl := lw_at lw_m11 63 rfl
theorem q2546 : (Jvm.Cond.instanceMethod ({ cls := "CableTrayPlanner$Parser", name := "take", desc := "(II)I" } : Jvm.MethodName)) ∈ lw_all := lw_g (lw_at lw_m11 64 rfl) rfl
theorem q2547 : (Jvm.Cond.code ({ cls := "CableTrayPlanner$Parser", name := "take", desc := "(II)I" } : Jvm.MethodName) prog_10_method_3_code (3 : Nat) (Option.some Jvm.ClassFile.FieldType.int)) ∈ lw_all := lw_g (lw_at lw_m11 65 rfl) rfl
theorem q2548 : (Jvm.Cond.classLink "CableTrayPlanner$Parser" (37 : Nat) "CableTrayPlanner$SyntaxException") ∈ lw_all := lw_g (lw_at lw_m11 66 rfl) rfl
theorem q2557 : (Jvm.Cond.methodLink "CableTrayPlanner$Parser" (39 : Nat) ({ cls := "CableTrayPlanner$SyntaxException", name := "<init>", desc := "(I)V" } : Jvm.MethodName)) ∈ lw_all := lw_g (lw_at lw_m11 75 rfl) rfl
theorem q2567 : (Jvm.Cond.interfaceEntry "CableTrayPlanner$Parser" (53 : Nat)) ∈ lw_tbl := lw_at lw_m11 85 rfl
theorem q2568 : (Jvm.Cond.methodLink "CableTrayPlanner$Parser" (53 : Nat) ({ cls := "java/lang/CharSequence", name := "subSequence", desc := "(II)Ljava/lang/CharSequence;" } : Jvm.MethodName)) ∈ lw_all := lw_g (lw_at lw_m11 86 rfl) rfl
theorem q2620 : (Jvm.Cond.interfaceEntry "CableTrayPlanner$Parser" (57 : Nat)) ∈ lw_tbl := lw_at lw_m11 138 rfl
theorem q2621 : (Jvm.Cond.methodLink "CableTrayPlanner$Parser" (57 : Nat) ({ cls := "java/lang/CharSequence", name := "toString", desc := "()Ljava/lang/String;" } : Jvm.MethodName)) ∈ lw_all := lw_g (lw_at lw_m11 139 rfl) rfl
theorem q2632 : (Jvm.Cond.methodLink "CableTrayPlanner$Parser" (49 : Nat) ({ cls := "CableTrayPlanner$Parser", name := "digitBehind", desc := "(C)I" } : Jvm.MethodName)) ∈ lw_all := lw_g (lw_at lw_m11 150 rfl) rfl
theorem q2633 : (Jvm.Cond.privateMethod ({ cls := "CableTrayPlanner$Parser", name := "digitBehind", desc := "(C)I" } : Jvm.MethodName)) ∈ lw_tbl := lw_at lw_m11 151 rfl
theorem q2634 : (Jvm.Cond.instanceMethod ({ cls := "CableTrayPlanner$Parser", name := "digitBehind", desc := "(C)I" } : Jvm.MethodName)) ∈ lw_all := lw_g (lw_at lw_m11 152 rfl) rfl
theorem q2635 : (Jvm.Cond.code ({ cls := "CableTrayPlanner$Parser", name := "digitBehind", desc := "(C)I" } : Jvm.MethodName) prog_10_method_5_code (3 : Nat) (Option.some Jvm.ClassFile.FieldType.int)) ∈ lw_all := lw_g (lw_at lw_m11 153 rfl) rfl
theorem q2636 : (Jvm.Cond.methodLink "CableTrayPlanner$Parser" (46 : Nat) ({ cls := "CableTrayPlanner$Parser", name := "digit", desc := "()I" } : Jvm.MethodName)) ∈ lw_all := lw_g (lw_at lw_m11 154 rfl) rfl
theorem q2637 : (Jvm.Cond.privateMethod ({ cls := "CableTrayPlanner$Parser", name := "digit", desc := "()I" } : Jvm.MethodName)) ∈ lw_tbl := lw_at lw_m11 155 rfl
theorem q2638 : (Jvm.Cond.instanceMethod ({ cls := "CableTrayPlanner$Parser", name := "digit", desc := "()I" } : Jvm.MethodName)) ∈ lw_all := lw_g (lw_at lw_m11 156 rfl) rfl
theorem q2639 : (Jvm.Cond.code ({ cls := "CableTrayPlanner$Parser", name := "digit", desc := "()I" } : Jvm.MethodName) prog_10_method_4_code (1 : Nat) (Option.some Jvm.ClassFile.FieldType.int)) ∈ lw_all := lw_g (lw_at lw_m11 157 rfl) rfl
theorem q2640 : (Jvm.Cond.classLink "CableTrayPlanner$Parser" (64 : Nat) "CableTrayPlanner$Item") ∈ lw_all := lw_g (lw_at lw_m11 158 rfl) rfl
theorem q2642 : (Jvm.Cond.methodLink "CableTrayPlanner$Parser" (66 : Nat) ({ cls := "CableTrayPlanner$Parser", name := "numberBehind", desc := "(C)I" } : Jvm.MethodName)) ∈ lw_all := lw_g (lw_at lw_m11 160 rfl) rfl
theorem q2643 : (Jvm.Cond.privateMethod ({ cls := "CableTrayPlanner$Parser", name := "numberBehind", desc := "(C)I" } : Jvm.MethodName)) ∈ lw_tbl := lw_at lw_m11 161 rfl
theorem q2644 : (Jvm.Cond.instanceMethod ({ cls := "CableTrayPlanner$Parser", name := "numberBehind", desc := "(C)I" } : Jvm.MethodName)) ∈ lw_all := lw_g (lw_at lw_m11 162 rfl) rfl
theorem q2645 : (Jvm.Cond.code ({ cls := "CableTrayPlanner$Parser", name := "numberBehind", desc := "(C)I" } : Jvm.MethodName) prog_10_method_6_code (4 : Nat) (Option.some Jvm.ClassFile.FieldType.int)) ∈ lw_all := lw_g (lw_at lw_m11 163 rfl) rfl
theorem q2646 : (Jvm.Cond.methodLink "CableTrayPlanner$Parser" (69 : Nat) ({ cls := "CableTrayPlanner$Item", name := "<init>", desc := "(CLjava/lang/String;[I)V" } : Jvm.MethodName)) ∈ lw_all := lw_g (lw_at lw_m11 164 rfl) rfl
theorem q2660 : (Jvm.Cond.stringRef "CableTrayPlanner$Parser" (72 : Nat) "") ∈ lw_tbl := lw_at lw_m11 178 rfl
theorem q2661 : (Jvm.Cond.methodLink "CableTrayPlanner$Parser" (81 : Nat) ({ cls := "java/util/ArrayList", name := "add", desc := "(Ljava/lang/Object;)Z" } : Jvm.MethodName)) ∈ lw_all := lw_g (lw_at lw_m11 179 rfl) rfl
theorem q3263 : (Jvm.Cond.castable "CableTrayPlanner$Parser" "java/lang/Object") ∈ lw_tbl := lw_at lw_m14 61 rfl
theorem in_X16 : ∀ w ∈ wsX160, w ∈ lw_all := lw_in wsX160 [2490, 2492] (by decide +kernel) (by decide +kernel)

/-! CableTrayPlanner$SyntaxException -/
set_option maxRecDepth 100000
def RX17 : String := "CableTrayPlanner$SyntaxException"
def TX17 : u_T := fun k => match k with
  | 0 => ("java/lang/Throwable", "cause", "Ljava/lang/Throwable;", false)
  | 1 => ("java/lang/Throwable", "stackTrace", "[Ljava/lang/StackTraceElement;", false)
  | 2 => ("java/lang/Throwable", "suppressedExceptions", "Ljava/util/List;", false)
  | 3 => ("java/lang/Throwable", "detailMessage", "Ljava/lang/String;", false)
  | 4 => ("java/lang/Throwable", "backtrace", "Ljava/lang/Object;", false)
  | 5 => ("java/lang/Throwable", "depth", "I", false)
  | _ => ("CableTrayPlanner$SyntaxException", "position", "I", true)
def tyX17 : Nat → FieldType := fun k => match k with
  | 0 => .object "java/lang/Throwable"
  | 1 => .array (.object "java/lang/StackTraceElement")
  | 2 => .object "java/util/List"
  | 3 => .object "java/lang/String"
  | 4 => .object "java/lang/Object"
  | 5 => .int
  | _ => .int
abbrev wsX170 : List Cond := u_ws RX17 TX17 7
theorem nmX17 : ∀ a, a < 7 → ∀ b, b < 7 → a ≠ b → (TX17 a).2.1 ≠ (TX17 b).2.1 := by decide +kernel
theorem tyX17_ok : ∀ k, k < 7 → parseFieldDescriptor (TX17 k).2.2.1 = some (tyX17 k) := by decide +kernel
abbrev cX17_init : ByteArray := prog_17_method_1_code
def yX17_init : MethodName := ⟨RX17, "<init>", "(I)V"⟩
theorem q137 : (Jvm.Cond.initialized "CableTrayPlanner$SyntaxException") ∈ lw_all := lw_g (lw_at lw_m1 55 rfl) rfl
theorem q422 : (Jvm.Cond.selects "CableTrayPlanner$SyntaxException" ({ cls := "java/lang/Throwable", name := "fillInStackTrace", desc := "()Ljava/lang/Throwable;" } : Jvm.MethodName) ({ cls := "java/lang/Throwable", name := "fillInStackTrace", desc := "()Ljava/lang/Throwable;" } : Jvm.MethodName)) ∈ lw_all := lw_g (lw_at lw_m2 100 rfl) rfl
theorem q665 : (Jvm.Cond.selects "CableTrayPlanner$SyntaxException" ({ cls := "java/lang/Object", name := "hashCode", desc := "()I" } : Jvm.MethodName) ({ cls := "java/lang/Object", name := "hashCode", desc := "()I" } : Jvm.MethodName)) ∈ lw_all := lw_g (lw_at lw_m3 103 rfl) rfl
theorem q764 : (Jvm.Cond.selects "CableTrayPlanner$SyntaxException" ({ cls := "java/lang/Object", name := "equals", desc := "(Ljava/lang/Object;)Z" } : Jvm.MethodName) ({ cls := "java/lang/Object", name := "equals", desc := "(Ljava/lang/Object;)Z" } : Jvm.MethodName)) ∈ lw_all := lw_g (lw_at lw_m3 202 rfl) rfl
theorem q829 : (Jvm.Cond.selects "CableTrayPlanner$SyntaxException" ({ cls := "java/lang/Object", name := "getClass", desc := "()Ljava/lang/Class;" } : Jvm.MethodName) ({ cls := "java/lang/Object", name := "getClass", desc := "()Ljava/lang/Class;" } : Jvm.MethodName)) ∈ lw_all := lw_g (lw_at lw_m4 27 rfl) rfl
theorem q2117 : (Jvm.Cond.selects "CableTrayPlanner$SyntaxException" ({ cls := "java/lang/Throwable", name := "getCause", desc := "()Ljava/lang/Throwable;" } : Jvm.MethodName) ({ cls := "java/lang/Throwable", name := "getCause", desc := "()Ljava/lang/Throwable;" } : Jvm.MethodName)) ∈ lw_all := lw_g (lw_at lw_m9 115 rfl) rfl
theorem q2549 : (Jvm.Cond.instantiable "CableTrayPlanner$SyntaxException" (7 : Nat)) ∈ lw_all := lw_g (lw_at lw_m11 67 rfl) rfl
theorem q2550 : (Jvm.Cond.castable "CableTrayPlanner$SyntaxException" "CableTrayPlanner$SyntaxException") ∈ lw_tbl := lw_at lw_m11 68 rfl
theorem q2551 : (Jvm.Cond.selects "CableTrayPlanner$SyntaxException" ({ cls := "java/lang/Throwable", name := "fillInStackTrace", desc := "(I)Ljava/lang/Throwable;" } : Jvm.MethodName) ({ cls := "java/lang/Throwable", name := "fillInStackTrace", desc := "(I)Ljava/lang/Throwable;" } : Jvm.MethodName)) ∈ lw_all := lw_g (lw_at lw_m11 69 rfl) rfl
theorem q2552 : (Jvm.Cond.lays "CableTrayPlanner$SyntaxException" "java/lang/Throwable" "cause" "Ljava/lang/Throwable;") ∈ lw_all := lw_g (lw_at lw_m11 70 rfl) rfl
theorem q2553 : (Jvm.Cond.lays "CableTrayPlanner$SyntaxException" "java/lang/Throwable" "stackTrace" "[Ljava/lang/StackTraceElement;") ∈ lw_all := lw_g (lw_at lw_m11 71 rfl) rfl
theorem q2554 : (Jvm.Cond.lays "CableTrayPlanner$SyntaxException" "java/lang/Throwable" "suppressedExceptions" "Ljava/util/List;") ∈ lw_all := lw_g (lw_at lw_m11 72 rfl) rfl
theorem q2555 : (Jvm.Cond.lays "CableTrayPlanner$SyntaxException" "java/lang/Throwable" "detailMessage" "Ljava/lang/String;") ∈ lw_all := lw_g (lw_at lw_m11 73 rfl) rfl
theorem q2556 : (Jvm.Cond.lays "CableTrayPlanner$SyntaxException" "java/lang/Throwable" "backtrace" "Ljava/lang/Object;") ∈ lw_all := lw_g (lw_at lw_m11 74 rfl) rfl
theorem q2558 : (Jvm.Cond.instanceMethod ({ cls := "CableTrayPlanner$SyntaxException", name := "<init>", desc := "(I)V" } : Jvm.MethodName)) ∈ lw_all := lw_g (lw_at lw_m11 76 rfl) rfl
theorem q2559 : (Jvm.Cond.code ({ cls := "CableTrayPlanner$SyntaxException", name := "<init>", desc := "(I)V" } : Jvm.MethodName) prog_17_method_1_code (2 : Nat) (Option.none : Option Jvm.ClassFile.FieldType)) ∈ lw_all := lw_g (lw_at lw_m11 77 rfl) rfl
theorem q2560 : (Jvm.Cond.methodLink "CableTrayPlanner$SyntaxException" (1 : Nat) ({ cls := "java/lang/Exception", name := "<init>", desc := "(Ljava/lang/String;Ljava/lang/Throwable;ZZ)V" } : Jvm.MethodName)) ∈ lw_all := lw_g (lw_at lw_m11 78 rfl) rfl
theorem q2561 : (Jvm.Cond.fieldLink "CableTrayPlanner$SyntaxException" (7 : Nat) "CableTrayPlanner$SyntaxException" "position" "I") ∈ lw_all := lw_g (lw_at lw_m11 79 rfl) rfl
theorem q2563 : (Jvm.Cond.laysFinal "CableTrayPlanner$SyntaxException" "CableTrayPlanner$SyntaxException" "position" "I") ∈ lw_all := lw_g (lw_at lw_m11 81 rfl) rfl
theorem q2564 : (Jvm.Cond.soleField "CableTrayPlanner$SyntaxException" "position") ∈ lw_all := lw_g (lw_at lw_m11 82 rfl) rfl
theorem q2565 : (Jvm.Cond.lays "CableTrayPlanner$SyntaxException" "java/lang/Throwable" "depth" "I") ∈ lw_all := lw_g (lw_at lw_m11 83 rfl) rfl
theorem q2566 : (Jvm.Cond.superclass "CableTrayPlanner$SyntaxException" "java/lang/Exception") ∈ lw_all := lw_g (lw_at lw_m11 84 rfl) rfl
theorem q3264 : (Jvm.Cond.castable "CableTrayPlanner$SyntaxException" "java/lang/Object") ∈ lw_tbl := lw_at lw_m14 62 rfl
theorem in_X17 : ∀ w ∈ wsX170, w ∈ lw_all := lw_in wsX170 [2552, 2553, 2554, 2555, 2556, 2565, 2563] (by decide +kernel) (by decide +kernel)

/-! CableTrayPlanner$Item -/
set_option maxRecDepth 100000
def RX18 : String := "CableTrayPlanner$Item"
def TX18 : u_T := fun k => match k with
  | 0 => ("CableTrayPlanner$Item", "sign", "C", true)
  | 1 => ("CableTrayPlanner$Item", "name", "Ljava/lang/String;", true)
  | _ => ("CableTrayPlanner$Item", "numbers", "[I", true)
def tyX18 : Nat → FieldType := fun k => match k with
  | 0 => .char
  | 1 => .object "java/lang/String"
  | _ => .array .int
abbrev wsX180 : List Cond := u_ws RX18 TX18 3
theorem nmX18 : ∀ a, a < 3 → ∀ b, b < 3 → a ≠ b → (TX18 a).2.1 ≠ (TX18 b).2.1 := by decide +kernel
theorem tyX18_ok : ∀ k, k < 3 → parseFieldDescriptor (TX18 k).2.2.1 = some (tyX18 k) := by decide +kernel
abbrev cX18_init : ByteArray := prog_7_method_1_code
def yX18_init : MethodName := ⟨RX18, "<init>", "(CLjava/lang/String;[I)V"⟩
abbrev cX18_carryOut : ByteArray := prog_7_method_3_code
def yX18_carryOut : MethodName := ⟨RX18, "carryOut", "(LCableTrayPlanner$Plan;)I"⟩
abbrev cX18_type : ByteArray := prog_7_method_2_code
def yX18_type : MethodName := ⟨RX18, "type", "(LCableTrayPlanner$Plan;)I"⟩
theorem q138 : (Jvm.Cond.initialized "CableTrayPlanner$Item") ∈ lw_all := lw_g (lw_at lw_m1 56 rfl) rfl
theorem q217 : (Jvm.Cond.fieldLinkNest "CableTrayPlanner$Item" (31 : Nat) "CableTrayPlanner$Plan" "types" "Ljava/util/ArrayList;" "CableTrayPlanner") ∈ lw_tbl := lw_at lw_m1 135 rfl
theorem q655 : (Jvm.Cond.selects "CableTrayPlanner$Item" ({ cls := "java/lang/Object", name := "hashCode", desc := "()I" } : Jvm.MethodName) ({ cls := "java/lang/Object", name := "hashCode", desc := "()I" } : Jvm.MethodName)) ∈ lw_all := lw_g (lw_at lw_m3 93 rfl) rfl
theorem q754 : (Jvm.Cond.selects "CableTrayPlanner$Item" ({ cls := "java/lang/Object", name := "equals", desc := "(Ljava/lang/Object;)Z" } : Jvm.MethodName) ({ cls := "java/lang/Object", name := "equals", desc := "(Ljava/lang/Object;)Z" } : Jvm.MethodName)) ∈ lw_all := lw_g (lw_at lw_m3 192 rfl) rfl
theorem q819 : (Jvm.Cond.selects "CableTrayPlanner$Item" ({ cls := "java/lang/Object", name := "getClass", desc := "()Ljava/lang/Class;" } : Jvm.MethodName) ({ cls := "java/lang/Object", name := "getClass", desc := "()Ljava/lang/Class;" } : Jvm.MethodName)) ∈ lw_all := lw_g (lw_at lw_m4 17 rfl) rfl
theorem q2641 : (Jvm.Cond.instantiable "CableTrayPlanner$Item" (3 : Nat)) ∈ lw_all := lw_g (lw_at lw_m11 159 rfl) rfl
theorem q2647 : (Jvm.Cond.instanceMethod ({ cls := "CableTrayPlanner$Item", name := "<init>", desc := "(CLjava/lang/String;[I)V" } : Jvm.MethodName)) ∈ lw_all := lw_g (lw_at lw_m11 165 rfl) rfl
theorem q2648 : (Jvm.Cond.code ({ cls := "CableTrayPlanner$Item", name := "<init>", desc := "(CLjava/lang/String;[I)V" } : Jvm.MethodName) prog_7_method_1_code (4 : Nat) (Option.none : Option Jvm.ClassFile.FieldType)) ∈ lw_all := lw_g (lw_at lw_m11 166 rfl) rfl
theorem q2649 : (Jvm.Cond.methodLink "CableTrayPlanner$Item" (1 : Nat) ({ cls := "java/lang/Object", name := "<init>", desc := "()V" } : Jvm.MethodName)) ∈ lw_all := lw_g (lw_at lw_m11 167 rfl) rfl
theorem q2650 : (Jvm.Cond.fieldLink "CableTrayPlanner$Item" (7 : Nat) "CableTrayPlanner$Item" "sign" "C") ∈ lw_all := lw_g (lw_at lw_m11 168 rfl) rfl
theorem q2651 : (Jvm.Cond.fieldLink "CableTrayPlanner$Item" (13 : Nat) "CableTrayPlanner$Item" "name" "Ljava/lang/String;") ∈ lw_all := lw_g (lw_at lw_m11 169 rfl) rfl
theorem q2652 : (Jvm.Cond.fieldLink "CableTrayPlanner$Item" (17 : Nat) "CableTrayPlanner$Item" "numbers" "[I") ∈ lw_all := lw_g (lw_at lw_m11 170 rfl) rfl
theorem q2653 : (Jvm.Cond.laysFinal "CableTrayPlanner$Item" "CableTrayPlanner$Item" "sign" "C") ∈ lw_all := lw_g (lw_at lw_m11 171 rfl) rfl
theorem q2654 : (Jvm.Cond.soleField "CableTrayPlanner$Item" "sign") ∈ lw_all := lw_g (lw_at lw_m11 172 rfl) rfl
theorem q2655 : (Jvm.Cond.laysFinal "CableTrayPlanner$Item" "CableTrayPlanner$Item" "name" "Ljava/lang/String;") ∈ lw_all := lw_g (lw_at lw_m11 173 rfl) rfl
theorem q2656 : (Jvm.Cond.soleField "CableTrayPlanner$Item" "name") ∈ lw_all := lw_g (lw_at lw_m11 174 rfl) rfl
theorem q2657 : (Jvm.Cond.laysFinal "CableTrayPlanner$Item" "CableTrayPlanner$Item" "numbers" "[I") ∈ lw_all := lw_g (lw_at lw_m11 175 rfl) rfl
theorem q2658 : (Jvm.Cond.soleField "CableTrayPlanner$Item" "numbers") ∈ lw_all := lw_g (lw_at lw_m11 176 rfl) rfl
theorem q2659 : (Jvm.Cond.superclass "CableTrayPlanner$Item" "java/lang/Object") ∈ lw_all := lw_g (lw_at lw_m11 177 rfl) rfl
theorem q2667 : (Jvm.Cond.instanceMethod ({ cls := "CableTrayPlanner$Item", name := "carryOut", desc := "(LCableTrayPlanner$Plan;)I" } : Jvm.MethodName)) ∈ lw_all := lw_g (lw_at lw_m11 185 rfl) rfl
theorem q2668 : (Jvm.Cond.selects "CableTrayPlanner$Item" ({ cls := "CableTrayPlanner$Item", name := "carryOut", desc := "(LCableTrayPlanner$Plan;)I" } : Jvm.MethodName) ({ cls := "CableTrayPlanner$Item", name := "carryOut", desc := "(LCableTrayPlanner$Plan;)I" } : Jvm.MethodName)) ∈ lw_all := lw_g (lw_at lw_m11 186 rfl) rfl
theorem q2669 : (Jvm.Cond.code ({ cls := "CableTrayPlanner$Item", name := "carryOut", desc := "(LCableTrayPlanner$Plan;)I" } : Jvm.MethodName) prog_7_method_3_code (2 : Nat) (Option.some Jvm.ClassFile.FieldType.int)) ∈ lw_all := lw_g (lw_at lw_m11 187 rfl) rfl
theorem q2670 : (Jvm.Cond.methodLink "CableTrayPlanner$Item" (27 : Nat) ({ cls := "CableTrayPlanner$Plan", name := "addType", desc := "(Ljava/lang/String;II)V" } : Jvm.MethodName)) ∈ lw_all := lw_g (lw_at lw_m11 188 rfl) rfl
theorem q2699 : (Jvm.Cond.methodLink "CableTrayPlanner$Item" (35 : Nat) ({ cls := "java/util/ArrayList", name := "size", desc := "()I" } : Jvm.MethodName)) ∈ lw_all := lw_g (lw_at lw_m11 217 rfl) rfl
theorem q2700 : (Jvm.Cond.methodLink "CableTrayPlanner$Item" (41 : Nat) ({ cls := "CableTrayPlanner$Plan", name := "addTray", desc := "(IIIII)I" } : Jvm.MethodName)) ∈ lw_all := lw_g (lw_at lw_m11 218 rfl) rfl
theorem q2701 : (Jvm.Cond.methodLink "CableTrayPlanner$Item" (45 : Nat) ({ cls := "CableTrayPlanner$Item", name := "type", desc := "(LCableTrayPlanner$Plan;)I" } : Jvm.MethodName)) ∈ lw_all := lw_g (lw_at lw_m11 219 rfl) rfl
theorem q2702 : (Jvm.Cond.privateMethod ({ cls := "CableTrayPlanner$Item", name := "type", desc := "(LCableTrayPlanner$Plan;)I" } : Jvm.MethodName)) ∈ lw_tbl := lw_at lw_m11 220 rfl
theorem q2703 : (Jvm.Cond.instanceMethod ({ cls := "CableTrayPlanner$Item", name := "type", desc := "(LCableTrayPlanner$Plan;)I" } : Jvm.MethodName)) ∈ lw_all := lw_g (lw_at lw_m11 221 rfl) rfl
theorem q2704 : (Jvm.Cond.code ({ cls := "CableTrayPlanner$Item", name := "type", desc := "(LCableTrayPlanner$Plan;)I" } : Jvm.MethodName) prog_7_method_2_code (2 : Nat) (Option.some Jvm.ClassFile.FieldType.int)) ∈ lw_all := lw_g (lw_at lw_m11 222 rfl) rfl
theorem q2705 : (Jvm.Cond.methodLink "CableTrayPlanner$Item" (21 : Nat) ({ cls := "CableTrayPlanner$Plan", name := "typeNamed", desc := "(Ljava/lang/String;)I" } : Jvm.MethodName)) ∈ lw_all := lw_g (lw_at lw_m11 223 rfl) rfl
theorem q2706 : (Jvm.Cond.methodLink "CableTrayPlanner$Item" (49 : Nat) ({ cls := "CableTrayPlanner$Plan", name := "addCable", desc := "(III)I" } : Jvm.MethodName)) ∈ lw_all := lw_g (lw_at lw_m11 224 rfl) rfl
theorem q2707 : (Jvm.Cond.methodLink "CableTrayPlanner$Item" (53 : Nat) ({ cls := "CableTrayPlanner$Plan", name := "addDrum", desc := "(II)I" } : Jvm.MethodName)) ∈ lw_all := lw_g (lw_at lw_m11 225 rfl) rfl
theorem q3265 : (Jvm.Cond.castable "CableTrayPlanner$Item" "java/lang/Object") ∈ lw_tbl := lw_at lw_m14 63 rfl
theorem in_X18 : ∀ w ∈ wsX180, w ∈ lw_all := lw_in wsX180 [2653, 2655, 2657] (by decide +kernel) (by decide +kernel)

/-! CableTrayPlanner$Type -/
set_option maxRecDepth 100000
def RX19 : String := "CableTrayPlanner$Type"
def TX19 : u_T := fun k => match k with
  | 0 => ("CableTrayPlanner$Type", "name", "Ljava/lang/String;", true)
  | 1 => ("CableTrayPlanner$Type", "level", "I", true)
  | _ => ("CableTrayPlanner$Type", "area", "I", true)
def tyX19 : Nat → FieldType := fun k => match k with
  | 0 => .object "java/lang/String"
  | 1 => .int
  | _ => .int
abbrev wsX190 : List Cond := u_ws RX19 TX19 3
theorem nmX19 : ∀ a, a < 3 → ∀ b, b < 3 → a ≠ b → (TX19 a).2.1 ≠ (TX19 b).2.1 := by decide +kernel
theorem tyX19_ok : ∀ k, k < 3 → parseFieldDescriptor (TX19 k).2.2.1 = some (tyX19 k) := by decide +kernel
abbrev cX19_init : ByteArray := prog_19_method_1_code
def yX19_init : MethodName := ⟨RX19, "<init>", "(Ljava/lang/String;II)V"⟩
theorem q139 : (Jvm.Cond.initialized "CableTrayPlanner$Type") ∈ lw_all := lw_g (lw_at lw_m1 57 rfl) rfl
theorem q667 : (Jvm.Cond.selects "CableTrayPlanner$Type" ({ cls := "java/lang/Object", name := "hashCode", desc := "()I" } : Jvm.MethodName) ({ cls := "java/lang/Object", name := "hashCode", desc := "()I" } : Jvm.MethodName)) ∈ lw_all := lw_g (lw_at lw_m3 105 rfl) rfl
theorem q766 : (Jvm.Cond.selects "CableTrayPlanner$Type" ({ cls := "java/lang/Object", name := "equals", desc := "(Ljava/lang/Object;)Z" } : Jvm.MethodName) ({ cls := "java/lang/Object", name := "equals", desc := "(Ljava/lang/Object;)Z" } : Jvm.MethodName)) ∈ lw_all := lw_g (lw_at lw_m3 204 rfl) rfl
theorem q831 : (Jvm.Cond.selects "CableTrayPlanner$Type" ({ cls := "java/lang/Object", name := "getClass", desc := "()Ljava/lang/Class;" } : Jvm.MethodName) ({ cls := "java/lang/Object", name := "getClass", desc := "()Ljava/lang/Class;" } : Jvm.MethodName)) ∈ lw_all := lw_g (lw_at lw_m4 29 rfl) rfl
theorem q2676 : (Jvm.Cond.instantiable "CableTrayPlanner$Type" (3 : Nat)) ∈ lw_all := lw_g (lw_at lw_m11 194 rfl) rfl
theorem q2678 : (Jvm.Cond.instanceMethod ({ cls := "CableTrayPlanner$Type", name := "<init>", desc := "(Ljava/lang/String;II)V" } : Jvm.MethodName)) ∈ lw_all := lw_g (lw_at lw_m11 196 rfl) rfl
theorem q2679 : (Jvm.Cond.code ({ cls := "CableTrayPlanner$Type", name := "<init>", desc := "(Ljava/lang/String;II)V" } : Jvm.MethodName) prog_19_method_1_code (4 : Nat) (Option.none : Option Jvm.ClassFile.FieldType)) ∈ lw_all := lw_g (lw_at lw_m11 197 rfl) rfl
theorem q2680 : (Jvm.Cond.methodLink "CableTrayPlanner$Type" (1 : Nat) ({ cls := "java/lang/Object", name := "<init>", desc := "()V" } : Jvm.MethodName)) ∈ lw_all := lw_g (lw_at lw_m11 198 rfl) rfl
theorem q2681 : (Jvm.Cond.fieldLink "CableTrayPlanner$Type" (7 : Nat) "CableTrayPlanner$Type" "name" "Ljava/lang/String;") ∈ lw_all := lw_g (lw_at lw_m11 199 rfl) rfl
theorem q2684 : (Jvm.Cond.fieldLink "CableTrayPlanner$Type" (13 : Nat) "CableTrayPlanner$Type" "level" "I") ∈ lw_all := lw_g (lw_at lw_m11 202 rfl) rfl
theorem q2688 : (Jvm.Cond.fieldLink "CableTrayPlanner$Type" (17 : Nat) "CableTrayPlanner$Type" "area" "I") ∈ lw_all := lw_g (lw_at lw_m11 206 rfl) rfl
theorem q2692 : (Jvm.Cond.laysFinal "CableTrayPlanner$Type" "CableTrayPlanner$Type" "name" "Ljava/lang/String;") ∈ lw_all := lw_g (lw_at lw_m11 210 rfl) rfl
theorem q2693 : (Jvm.Cond.soleField "CableTrayPlanner$Type" "name") ∈ lw_all := lw_g (lw_at lw_m11 211 rfl) rfl
theorem q2694 : (Jvm.Cond.laysFinal "CableTrayPlanner$Type" "CableTrayPlanner$Type" "level" "I") ∈ lw_all := lw_g (lw_at lw_m11 212 rfl) rfl
theorem q2695 : (Jvm.Cond.soleField "CableTrayPlanner$Type" "level") ∈ lw_all := lw_g (lw_at lw_m11 213 rfl) rfl
theorem q2696 : (Jvm.Cond.laysFinal "CableTrayPlanner$Type" "CableTrayPlanner$Type" "area" "I") ∈ lw_all := lw_g (lw_at lw_m11 214 rfl) rfl
theorem q2697 : (Jvm.Cond.soleField "CableTrayPlanner$Type" "area") ∈ lw_all := lw_g (lw_at lw_m11 215 rfl) rfl
theorem q2698 : (Jvm.Cond.superclass "CableTrayPlanner$Type" "java/lang/Object") ∈ lw_all := lw_g (lw_at lw_m11 216 rfl) rfl
theorem q3266 : (Jvm.Cond.castable "CableTrayPlanner$Type" "java/lang/Object") ∈ lw_tbl := lw_at lw_m14 64 rfl
theorem in_X19 : ∀ w ∈ wsX190, w ∈ lw_all := lw_in wsX190 [2692, 2694, 2696] (by decide +kernel) (by decide +kernel)

/-! CableTrayPlanner$ItemException -/
set_option maxRecDepth 100000
def RX20 : String := "CableTrayPlanner$ItemException"
def TX20 : u_T := fun k => match k with
  | 0 => ("java/lang/Throwable", "cause", "Ljava/lang/Throwable;", false)
  | 1 => ("java/lang/Throwable", "stackTrace", "[Ljava/lang/StackTraceElement;", false)
  | 2 => ("java/lang/Throwable", "suppressedExceptions", "Ljava/util/List;", false)
  | 3 => ("java/lang/Throwable", "detailMessage", "Ljava/lang/String;", false)
  | 4 => ("java/lang/Throwable", "backtrace", "Ljava/lang/Object;", false)
  | 5 => ("java/lang/Throwable", "depth", "I", false)
  | _ => ("CableTrayPlanner$ItemException", "number", "I", true)
def tyX20 : Nat → FieldType := fun k => match k with
  | 0 => .object "java/lang/Throwable"
  | 1 => .array (.object "java/lang/StackTraceElement")
  | 2 => .object "java/util/List"
  | 3 => .object "java/lang/String"
  | 4 => .object "java/lang/Object"
  | 5 => .int
  | _ => .int
abbrev wsX200 : List Cond := u_ws RX20 TX20 7
theorem nmX20 : ∀ a, a < 7 → ∀ b, b < 7 → a ≠ b → (TX20 a).2.1 ≠ (TX20 b).2.1 := by decide +kernel
theorem tyX20_ok : ∀ k, k < 7 → parseFieldDescriptor (TX20 k).2.2.1 = some (tyX20 k) := by decide +kernel
abbrev cX20_init : ByteArray := prog_8_method_1_code
def yX20_init : MethodName := ⟨RX20, "<init>", "(ILjava/lang/RuntimeException;)V"⟩
theorem q140 : (Jvm.Cond.initialized "CableTrayPlanner$ItemException") ∈ lw_all := lw_g (lw_at lw_m1 58 rfl) rfl
theorem q419 : (Jvm.Cond.selects "CableTrayPlanner$ItemException" ({ cls := "java/lang/Throwable", name := "fillInStackTrace", desc := "()Ljava/lang/Throwable;" } : Jvm.MethodName) ({ cls := "java/lang/Throwable", name := "fillInStackTrace", desc := "()Ljava/lang/Throwable;" } : Jvm.MethodName)) ∈ lw_all := lw_g (lw_at lw_m2 97 rfl) rfl
theorem q656 : (Jvm.Cond.selects "CableTrayPlanner$ItemException" ({ cls := "java/lang/Object", name := "hashCode", desc := "()I" } : Jvm.MethodName) ({ cls := "java/lang/Object", name := "hashCode", desc := "()I" } : Jvm.MethodName)) ∈ lw_all := lw_g (lw_at lw_m3 94 rfl) rfl
theorem q755 : (Jvm.Cond.selects "CableTrayPlanner$ItemException" ({ cls := "java/lang/Object", name := "equals", desc := "(Ljava/lang/Object;)Z" } : Jvm.MethodName) ({ cls := "java/lang/Object", name := "equals", desc := "(Ljava/lang/Object;)Z" } : Jvm.MethodName)) ∈ lw_all := lw_g (lw_at lw_m3 193 rfl) rfl
theorem q820 : (Jvm.Cond.selects "CableTrayPlanner$ItemException" ({ cls := "java/lang/Object", name := "getClass", desc := "()Ljava/lang/Class;" } : Jvm.MethodName) ({ cls := "java/lang/Object", name := "getClass", desc := "()Ljava/lang/Class;" } : Jvm.MethodName)) ∈ lw_all := lw_g (lw_at lw_m4 18 rfl) rfl
theorem q2114 : (Jvm.Cond.selects "CableTrayPlanner$ItemException" ({ cls := "java/lang/Throwable", name := "getCause", desc := "()Ljava/lang/Throwable;" } : Jvm.MethodName) ({ cls := "java/lang/Throwable", name := "getCause", desc := "()Ljava/lang/Throwable;" } : Jvm.MethodName)) ∈ lw_all := lw_g (lw_at lw_m9 112 rfl) rfl
theorem q2708 : (Jvm.Cond.instantiable "CableTrayPlanner$ItemException" (7 : Nat)) ∈ lw_all := lw_g (lw_at lw_m11 226 rfl) rfl
theorem q2709 : (Jvm.Cond.castable "CableTrayPlanner$ItemException" "CableTrayPlanner$ItemException") ∈ lw_tbl := lw_at lw_m11 227 rfl
theorem q2710 : (Jvm.Cond.selects "CableTrayPlanner$ItemException" ({ cls := "java/lang/Throwable", name := "fillInStackTrace", desc := "(I)Ljava/lang/Throwable;" } : Jvm.MethodName) ({ cls := "java/lang/Throwable", name := "fillInStackTrace", desc := "(I)Ljava/lang/Throwable;" } : Jvm.MethodName)) ∈ lw_all := lw_g (lw_at lw_m11 228 rfl) rfl
theorem q2711 : (Jvm.Cond.lays "CableTrayPlanner$ItemException" "java/lang/Throwable" "cause" "Ljava/lang/Throwable;") ∈ lw_all := lw_g (lw_at lw_m11 229 rfl) rfl
theorem q2712 : (Jvm.Cond.lays "CableTrayPlanner$ItemException" "java/lang/Throwable" "stackTrace" "[Ljava/lang/StackTraceElement;") ∈ lw_all := lw_g (lw_at lw_m11 230 rfl) rfl
theorem q2713 : (Jvm.Cond.lays "CableTrayPlanner$ItemException" "java/lang/Throwable" "suppressedExceptions" "Ljava/util/List;") ∈ lw_all := lw_g (lw_at lw_m11 231 rfl) rfl
theorem q2714 : (Jvm.Cond.lays "CableTrayPlanner$ItemException" "java/lang/Throwable" "detailMessage" "Ljava/lang/String;") ∈ lw_all := lw_g (lw_at lw_m11 232 rfl) rfl
theorem q2715 : (Jvm.Cond.lays "CableTrayPlanner$ItemException" "java/lang/Throwable" "backtrace" "Ljava/lang/Object;") ∈ lw_all := lw_g (lw_at lw_m11 233 rfl) rfl
theorem q2717 : (Jvm.Cond.instanceMethod ({ cls := "CableTrayPlanner$ItemException", name := "<init>", desc := "(ILjava/lang/RuntimeException;)V" } : Jvm.MethodName)) ∈ lw_all := lw_g (lw_at lw_m11 235 rfl) rfl
theorem q2718 : (Jvm.Cond.code ({ cls := "CableTrayPlanner$ItemException", name := "<init>", desc := "(ILjava/lang/RuntimeException;)V" } : Jvm.MethodName) prog_8_method_1_code (3 : Nat) (Option.none : Option Jvm.ClassFile.FieldType)) ∈ lw_all := lw_g (lw_at lw_m11 236 rfl) rfl
theorem q2719 : (Jvm.Cond.methodLink "CableTrayPlanner$ItemException" (1 : Nat) ({ cls := "java/lang/Exception", name := "<init>", desc := "(Ljava/lang/String;Ljava/lang/Throwable;ZZ)V" } : Jvm.MethodName)) ∈ lw_all := lw_g (lw_at lw_m11 237 rfl) rfl
theorem q2720 : (Jvm.Cond.fieldLink "CableTrayPlanner$ItemException" (7 : Nat) "CableTrayPlanner$ItemException" "number" "I") ∈ lw_all := lw_g (lw_at lw_m11 238 rfl) rfl
theorem q2722 : (Jvm.Cond.laysFinal "CableTrayPlanner$ItemException" "CableTrayPlanner$ItemException" "number" "I") ∈ lw_all := lw_g (lw_at lw_m12 0 rfl) rfl
theorem q2723 : (Jvm.Cond.soleField "CableTrayPlanner$ItemException" "number") ∈ lw_all := lw_g (lw_at lw_m12 1 rfl) rfl
theorem q2724 : (Jvm.Cond.lays "CableTrayPlanner$ItemException" "java/lang/Throwable" "depth" "I") ∈ lw_all := lw_g (lw_at lw_m12 2 rfl) rfl
theorem q2725 : (Jvm.Cond.superclass "CableTrayPlanner$ItemException" "java/lang/Exception") ∈ lw_all := lw_g (lw_at lw_m12 3 rfl) rfl
theorem q3267 : (Jvm.Cond.castable "CableTrayPlanner$ItemException" "java/lang/Object") ∈ lw_tbl := lw_at lw_m14 65 rfl
theorem in_X20 : ∀ w ∈ wsX200, w ∈ lw_all := lw_in wsX200 [2711, 2712, 2713, 2714, 2715, 2724, 2722] (by decide +kernel) (by decide +kernel)

/-! CableTrayPlannerModel -/
set_option maxRecDepth 100000
def RX3 : String := "CableTrayPlannerModel"
def TX3 : u_T := fun k => match k with
  | 0 => ("CableTrayPlannerModel", "g", "[I", true)
  | 1 => ("CableTrayPlannerModel", "kept", "[I", true)
  | 2 => ("CableTrayPlannerModel", "before", "[I", true)
  | 3 => ("CableTrayPlannerModel", "hasKept", "Z", false)
  | 4 => ("CableTrayPlannerModel", "isTextNow", "Z", false)
  | 5 => ("CableTrayPlannerModel", "past", "[I", true)
  | 6 => ("CableTrayPlannerModel", "pasts", "I", false)
  | 7 => ("CableTrayPlannerModel", "chain", "[I", true)
  | 8 => ("CableTrayPlannerModel", "chainLong", "I", false)
  | 9 => ("CableTrayPlannerModel", "thrown", "I", false)
  | 10 => ("CableTrayPlannerModel", "open", "[Z", true)
  | 11 => ("CableTrayPlannerModel", "row", "[I", true)
  | 12 => ("CableTrayPlannerModel", "best", "[I", true)
  | 13 => ("CableTrayPlannerModel", "bestLong", "I", false)
  | 14 => ("CableTrayPlannerModel", "bestSum", "I", false)
  | 15 => ("CableTrayPlannerModel", "places", "[I", true)
  | 16 => ("CableTrayPlannerModel", "lengths", "[I", true)
  | 17 => ("CableTrayPlannerModel", "rests", "[I", true)
  | 18 => ("CableTrayPlannerModel", "drumsOf", "[I", true)
  | 19 => ("CableTrayPlannerModel", "usedOf", "[I", true)
  | 20 => ("CableTrayPlannerModel", "buffer", "[I", true)
  | 21 => ("CableTrayPlannerModel", "length", "I", false)
  | 22 => ("CableTrayPlannerModel", "spot", "I", false)
  | 23 => ("CableTrayPlannerModel", "wrong", "I", false)
  | 24 => ("CableTrayPlannerModel", "refusedAt", "I", false)
  | 25 => ("CableTrayPlannerModel", "told", "[I", true)
  | _ => ("CableTrayPlannerModel", "tolds", "I", false)
def tyX3 : Nat → FieldType := fun k => match k with
  | 0 => .array .int
  | 1 => .array .int
  | 2 => .array .int
  | 3 => .boolean
  | 4 => .boolean
  | 5 => .array .int
  | 6 => .int
  | 7 => .array .int
  | 8 => .int
  | 9 => .int
  | 10 => .array .boolean
  | 11 => .array .int
  | 12 => .array .int
  | 13 => .int
  | 14 => .int
  | 15 => .array .int
  | 16 => .array .int
  | 17 => .array .int
  | 18 => .array .int
  | 19 => .array .int
  | 20 => .array .int
  | 21 => .int
  | 22 => .int
  | 23 => .int
  | 24 => .int
  | 25 => .array .int
  | _ => .int
abbrev wsX30 : List Cond := u_ws RX3 TX3 27
set_option maxRecDepth 100000 in
theorem nmX3 : ∀ a, a < 27 → ∀ b, b < 27 → a ≠ b → (TX3 a).2.1 ≠ (TX3 b).2.1 := by decide +kernel
set_option maxRecDepth 100000 in
theorem tyX3_ok : ∀ k, k < 27 → parseFieldDescriptor (TX3 k).2.2.1 = some (tyX3 k) := by decide +kernel
abbrev cX3_init : ByteArray := prog_21_method_1_code
def yX3_init : MethodName := ⟨RX3, "<init>", "()V"⟩
abbrev cX3_begins : ByteArray := prog_21_method_3_code
def yX3_begins : MethodName := ⟨RX3, "begins", "()V"⟩
abbrev cX3_thrown : ByteArray := prog_21_method_2_code
def yX3_thrown : MethodName := ⟨RX3, "thrown", "()I"⟩
abbrev cX3_clear : ByteArray := prog_21_method_9_code
def yX3_clear : MethodName := ⟨RX3, "clear", "()I"⟩
abbrev cX3_undo : ByteArray := prog_21_method_10_code
def yX3_undo : MethodName := ⟨RX3, "undo", "()I"⟩
abbrev cX3_copies : ByteArray := prog_21_method_6_code
def yX3_copies : MethodName := ⟨RX3, "copies", "([II[II)V"⟩
abbrev cX3_snapshot : ByteArray := prog_21_method_11_code
def yX3_snapshot : MethodName := ⟨RX3, "snapshot", "()I"⟩
abbrev cX3_restore : ByteArray := prog_21_method_12_code
def yX3_restore : MethodName := ⟨RX3, "restore", "()I"⟩
abbrev cX3_setSpare : ByteArray := prog_21_method_14_code
def yX3_setSpare : MethodName := ⟨RX3, "setSpare", "(I)I"⟩
abbrev cX3_in : ByteArray := prog_21_method_5_code
def yX3_in : MethodName := ⟨RX3, "in", "(III)Z"⟩
abbrev cX3_sets : ByteArray := prog_21_method_13_code
def yX3_sets : MethodName := ⟨RX3, "sets", "(II)I"⟩
abbrev cX3_changes : ByteArray := prog_21_method_8_code
def yX3_changes : MethodName := ⟨RX3, "changes", "()V"⟩
abbrev cX3_keeps : ByteArray := prog_21_method_7_code
def yX3_keeps : MethodName := ⟨RX3, "keeps", "([I)V"⟩
abbrev cX3_setTail : ByteArray := prog_21_method_15_code
def yX3_setTail : MethodName := ⟨RX3, "setTail", "(I)I"⟩
abbrev cX3_addTray : ByteArray := prog_21_method_26_code
def yX3_addTray : MethodName := ⟨RX3, "addTray", "(IIIII)I"⟩
abbrev cX3_isPlace : ByteArray := prog_21_method_16_code
def yX3_isPlace : MethodName := ⟨RX3, "isPlace", "(I)Z"⟩
abbrev cX3_dropTray : ByteArray := prog_21_method_29_code
def yX3_dropTray : MethodName := ⟨RX3, "dropTray", "(I)I"⟩
abbrev cX3_isTray : ByteArray := prog_21_method_18_code
def yX3_isTray : MethodName := ⟨RX3, "isTray", "(I)Z"⟩
abbrev cX3_setIn : ByteArray := prog_21_method_28_code
def yX3_setIn : MethodName := ⟨RX3, "setIn", "(I)I"⟩
abbrev cX3_stepIn : ByteArray := prog_21_method_27_code
def yX3_stepIn : MethodName := ⟨RX3, "stepIn", "(II)I"⟩
abbrev cX3_cableTold : ByteArray := prog_21_method_25_code
def yX3_cableTold : MethodName := ⟨RX3, "cableTold", "(II)I"⟩
abbrev cX3_at : ByteArray := prog_21_method_24_code
def yX3_at : MethodName := ⟨RX3, "at", "(II)I"⟩
abbrev cX3_addCable : ByteArray := prog_21_method_30_code
def yX3_addCable : MethodName := ⟨RX3, "addCable", "(III)I"⟩
abbrev cX3_isType : ByteArray := prog_21_method_17_code
def yX3_isType : MethodName := ⟨RX3, "isType", "(I)Z"⟩
abbrev cX3_addDrum : ByteArray := prog_21_method_31_code
def yX3_addDrum : MethodName := ⟨RX3, "addDrum", "(II)I"⟩
abbrev cX3_fits : ByteArray := prog_21_method_37_code
def yX3_fits : MethodName := ⟨RX3, "fits", "(II)Z"⟩
abbrev cX3_placeIn : ByteArray := prog_21_method_36_code
def yX3_placeIn : MethodName := ⟨RX3, "placeIn", "(II)I"⟩
abbrev cX3_trayTold : ByteArray := prog_21_method_23_code
def yX3_trayTold : MethodName := ⟨RX3, "trayTold", "(II)I"⟩
abbrev cX3_areaIn : ByteArray := prog_21_method_34_code
def yX3_areaIn : MethodName := ⟨RX3, "areaIn", "(II)I"⟩
abbrev cX3_areaOf : ByteArray := prog_21_method_22_code
def yX3_areaOf : MethodName := ⟨RX3, "areaOf", "(I)I"⟩
abbrev cX3_roomOf : ByteArray := prog_21_method_32_code
def yX3_roomOf : MethodName := ⟨RX3, "roomOf", "(I)I"⟩
abbrev cX3_keptOf : ByteArray := prog_21_method_33_code
def yX3_keptOf : MethodName := ⟨RX3, "keptOf", "(I)I"⟩
abbrev cX3_classIn : ByteArray := prog_21_method_35_code
def yX3_classIn : MethodName := ⟨RX3, "classIn", "(II)I"⟩
abbrev cX3_classOf : ByteArray := prog_21_method_21_code
def yX3_classOf : MethodName := ⟨RX3, "classOf", "(I)I"⟩
abbrev cX3_tray : ByteArray := prog_21_method_38_code
def yX3_tray : MethodName := ⟨RX3, "tray", "(II)I"⟩
abbrev cX3_bitsOf : ByteArray := prog_21_method_39_code
def yX3_bitsOf : MethodName := ⟨RX3, "bitsOf", "(I)I"⟩
abbrev cX3_compartment : ByteArray := prog_21_method_40_code
def yX3_compartment : MethodName := ⟨RX3, "compartment", "(IIZ)I"⟩
abbrev cX3_cablesIn : ByteArray := prog_21_method_41_code
def yX3_cablesIn : MethodName := ⟨RX3, "cablesIn", "(I)I"⟩
abbrev cX3_fullest : ByteArray := prog_21_method_43_code
def yX3_fullest : MethodName := ⟨RX3, "fullest", "()I"⟩
abbrev cX3_areasIn : ByteArray := prog_21_method_42_code
def yX3_areasIn : MethodName := ⟨RX3, "areasIn", "(I)I"⟩
abbrev cX3_fill : ByteArray := prog_21_method_44_code
def yX3_fill : MethodName := ⟨RX3, "fill", "(I)F"⟩
abbrev cX3_shortest : ByteArray := prog_21_method_49_code
def yX3_shortest : MethodName := ⟨RX3, "shortest", "(III)I"⟩
abbrev cX3_opens : ByteArray := prog_21_method_48_code
def yX3_opens : MethodName := ⟨RX3, "opens", "(I)V"⟩
abbrev cX3_findsWay : ByteArray := prog_21_method_47_code
def yX3_findsWay : MethodName := ⟨RX3, "findsWay", "(II)V"⟩
abbrev cX3_isAt : ByteArray := prog_21_method_46_code
def yX3_isAt : MethodName := ⟨RX3, "isAt", "(II)Z"⟩
abbrev cX3_other : ByteArray := prog_21_method_45_code
def yX3_other : MethodName := ⟨RX3, "other", "(II)I"⟩
abbrev cX3_route : ByteArray := prog_21_method_54_code
def yX3_route : MethodName := ⟨RX3, "route", "(I)I"⟩
abbrev cX3_isCable : ByteArray := prog_21_method_19_code
def yX3_isCable : MethodName := ⟨RX3, "isCable", "(I)Z"⟩
abbrev cX3_refuses : ByteArray := prog_21_method_50_code
def yX3_refuses : MethodName := ⟨RX3, "refuses", "(II)I"⟩
abbrev cX3_fails : ByteArray := prog_21_method_4_code
def yX3_fails : MethodName := ⟨RX3, "fails", "(I)I"⟩
abbrev cX3_refusesWay : ByteArray := prog_21_method_53_code
def yX3_refusesWay : MethodName := ⟨RX3, "refusesWay", "(I)I"⟩
abbrev cX3_needs : ByteArray := prog_21_method_52_code
def yX3_needs : MethodName := ⟨RX3, "needs", "(I)I"⟩
abbrev cX3_lengthOf : ByteArray := prog_21_method_51_code
def yX3_lengthOf : MethodName := ⟨RX3, "lengthOf", "(I)I"⟩
abbrev cX3_free : ByteArray := prog_21_method_55_code
def yX3_free : MethodName := ⟨RX3, "free", "(I)I"⟩
abbrev cX3_leaves : ByteArray := prog_21_method_56_code
def yX3_leaves : MethodName := ⟨RX3, "leaves", "(I)I"⟩
abbrev cX3_cut : ByteArray := prog_21_method_58_code
def yX3_cut : MethodName := ⟨RX3, "cut", "(I)I"⟩
abbrev cX3_drumTold : ByteArray := prog_21_method_57_code
def yX3_drumTold : MethodName := ⟨RX3, "drumTold", "(II)I"⟩
abbrev cX3_scrap : ByteArray := prog_21_method_59_code
def yX3_scrap : MethodName := ⟨RX3, "scrap", "(I)I"⟩
abbrev cX3_refusal : ByteArray := prog_21_method_60_code
def yX3_refusal : MethodName := ⟨RX3, "refusal", "(I)I"⟩
abbrev cX3_cable : ByteArray := prog_21_method_62_code
def yX3_cable : MethodName := ⟨RX3, "cable", "(II)I"⟩
abbrev cX3_lengthNow : ByteArray := prog_21_method_61_code
def yX3_lengthNow : MethodName := ⟨RX3, "lengthNow", "(I)I"⟩
abbrev cX3_step : ByteArray := prog_21_method_63_code
def yX3_step : MethodName := ⟨RX3, "step", "(IIZ)I"⟩
abbrev cX3_planner : ByteArray := prog_21_method_66_code
def yX3_planner : MethodName := ⟨RX3, "planner", "(I)I"⟩
abbrev cX3_sumOfDrums : ByteArray := prog_21_method_64_code
def yX3_sumOfDrums : MethodName := ⟨RX3, "sumOfDrums", "(II)I"⟩
abbrev cX3_cutLengths : ByteArray := prog_21_method_65_code
def yX3_cutLengths : MethodName := ⟨RX3, "cutLengths", "()I"⟩
abbrev cX3_type : ByteArray := prog_21_method_67_code
def yX3_type : MethodName := ⟨RX3, "type", "(II)I"⟩
abbrev cX3_letter : ByteArray := prog_21_method_68_code
def yX3_letter : MethodName := ⟨RX3, "letter", "(II)C"⟩
abbrev cX3_drum : ByteArray := prog_21_method_69_code
def yX3_drum : MethodName := ⟨RX3, "drum", "(II)I"⟩
abbrev cX3_isDrum : ByteArray := prog_21_method_20_code
def yX3_isDrum : MethodName := ⟨RX3, "isDrum", "(I)Z"⟩
abbrev cX3_fewestDrums : ByteArray := prog_21_method_71_code
def yX3_fewestDrums : MethodName := ⟨RX3, "fewestDrums", "(I)I"⟩
abbrev cX3_findsRests : ByteArray := prog_21_method_70_code
def yX3_findsRests : MethodName := ⟨RX3, "findsRests", "(I)I"⟩
abbrev cX3_meanLength : ByteArray := prog_21_method_72_code
def yX3_meanLength : MethodName := ⟨RX3, "meanLength", "()D"⟩
abbrev cX3_isConsistent : ByteArray := prog_21_method_74_code
def yX3_isConsistent : MethodName := ⟨RX3, "isConsistent", "()Z"⟩
abbrev cX3_leadsOn : ByteArray := prog_21_method_73_code
def yX3_leadsOn : MethodName := ⟨RX3, "leadsOn", "(I)Z"⟩
abbrev cX3_append : ByteArray := prog_21_method_75_code
def yX3_append : MethodName := ⟨RX3, "append", "(I)I"⟩
abbrev cX3_typeNamed : ByteArray := prog_21_method_84_code
def yX3_typeNamed : MethodName := ⟨RX3, "typeNamed", "()I"⟩
abbrev cX3_named : ByteArray := prog_21_method_83_code
def yX3_named : MethodName := ⟨RX3, "named", "([III)I"⟩
abbrev cX3_read : ByteArray := prog_21_method_87_code
def yX3_read : MethodName := ⟨RX3, "read", "()I"⟩
abbrev cX3_isText : ByteArray := prog_21_method_82_code
def yX3_isText : MethodName := ⟨RX3, "isText", "()Z"⟩
abbrev cX3_item : ByteArray := prog_21_method_81_code
def yX3_item : MethodName := ⟨RX3, "item", "()Z"⟩
abbrev cX3_here : ByteArray := prog_21_method_76_code
def yX3_here : MethodName := ⟨RX3, "here", "()I"⟩
abbrev cX3_skips : ByteArray := prog_21_method_77_code
def yX3_skips : MethodName := ⟨RX3, "skips", "(I)Z"⟩
abbrev cX3_name : ByteArray := prog_21_method_78_code
def yX3_name : MethodName := ⟨RX3, "name", "(I)Z"⟩
abbrev cX3_digit : ByteArray := prog_21_method_79_code
def yX3_digit : MethodName := ⟨RX3, "digit", "(I)Z"⟩
abbrev cX3_number : ByteArray := prog_21_method_80_code
def yX3_number : MethodName := ⟨RX3, "number", "(I)Z"⟩
abbrev cX3_carriesOut : ByteArray := prog_21_method_86_code
def yX3_carriesOut : MethodName := ⟨RX3, "carriesOut", "(I)Z"⟩
abbrev cX3_addsType : ByteArray := prog_21_method_85_code
def yX3_addsType : MethodName := ⟨RX3, "addsType", "(I)Z"⟩
abbrev cX3_errorPosition : ByteArray := prog_21_method_88_code
def yX3_errorPosition : MethodName := ⟨RX3, "errorPosition", "()I"⟩
abbrev cX3_refusedItem : ByteArray := prog_21_method_89_code
def yX3_refusedItem : MethodName := ⟨RX3, "refusedItem", "()I"⟩
theorem q95 : (Jvm.Cond.initialized "CableTrayPlannerModel") ∈ lw_all := lw_g (lw_at lw_m1 13 rfl) rfl
theorem q668 : (Jvm.Cond.selects "CableTrayPlannerModel" ({ cls := "java/lang/Object", name := "hashCode", desc := "()I" } : Jvm.MethodName) ({ cls := "java/lang/Object", name := "hashCode", desc := "()I" } : Jvm.MethodName)) ∈ lw_all := lw_g (lw_at lw_m3 106 rfl) rfl
theorem q767 : (Jvm.Cond.selects "CableTrayPlannerModel" ({ cls := "java/lang/Object", name := "equals", desc := "(Ljava/lang/Object;)Z" } : Jvm.MethodName) ({ cls := "java/lang/Object", name := "equals", desc := "(Ljava/lang/Object;)Z" } : Jvm.MethodName)) ∈ lw_all := lw_g (lw_at lw_m3 205 rfl) rfl
theorem q832 : (Jvm.Cond.selects "CableTrayPlannerModel" ({ cls := "java/lang/Object", name := "getClass", desc := "()Ljava/lang/Class;" } : Jvm.MethodName) ({ cls := "java/lang/Object", name := "getClass", desc := "()Ljava/lang/Class;" } : Jvm.MethodName)) ∈ lw_all := lw_g (lw_at lw_m4 30 rfl) rfl
theorem q2772 : (Jvm.Cond.instantiable "CableTrayPlannerModel" (27 : Nat)) ∈ lw_all := lw_g (lw_at lw_m12 50 rfl) rfl
theorem q2774 : (Jvm.Cond.instanceMethod ({ cls := "CableTrayPlannerModel", name := "<init>", desc := "()V" } : Jvm.MethodName)) ∈ lw_all := lw_g (lw_at lw_m12 52 rfl) rfl
theorem q2775 : (Jvm.Cond.code ({ cls := "CableTrayPlannerModel", name := "<init>", desc := "()V" } : Jvm.MethodName) prog_21_method_1_code (1 : Nat) (Option.none : Option Jvm.ClassFile.FieldType)) ∈ lw_all := lw_g (lw_at lw_m12 53 rfl) rfl
theorem q2776 : (Jvm.Cond.methodLink "CableTrayPlannerModel" (1 : Nat) ({ cls := "java/lang/Object", name := "<init>", desc := "()V" } : Jvm.MethodName)) ∈ lw_all := lw_g (lw_at lw_m12 54 rfl) rfl
theorem q2777 : (Jvm.Cond.methodLink "CableTrayPlannerModel" (63 : Nat) ({ cls := "CableTrayPlannerModel", name := "begins", desc := "()V" } : Jvm.MethodName)) ∈ lw_all := lw_g (lw_at lw_m12 55 rfl) rfl
theorem q2778 : (Jvm.Cond.privateMethod ({ cls := "CableTrayPlannerModel", name := "begins", desc := "()V" } : Jvm.MethodName)) ∈ lw_tbl := lw_at lw_m12 56 rfl
theorem q2779 : (Jvm.Cond.instanceMethod ({ cls := "CableTrayPlannerModel", name := "begins", desc := "()V" } : Jvm.MethodName)) ∈ lw_all := lw_g (lw_at lw_m12 57 rfl) rfl
theorem q2780 : (Jvm.Cond.code ({ cls := "CableTrayPlannerModel", name := "begins", desc := "()V" } : Jvm.MethodName) prog_21_method_3_code (2 : Nat) (Option.none : Option Jvm.ClassFile.FieldType)) ∈ lw_all := lw_g (lw_at lw_m12 58 rfl) rfl
theorem q2781 : (Jvm.Cond.fieldLink "CableTrayPlannerModel" (7 : Nat) "CableTrayPlannerModel" "g" "[I") ∈ lw_all := lw_g (lw_at lw_m12 59 rfl) rfl
theorem q2782 : (Jvm.Cond.fieldLink "CableTrayPlannerModel" (13 : Nat) "CableTrayPlannerModel" "kept" "[I") ∈ lw_all := lw_g (lw_at lw_m12 60 rfl) rfl
theorem q2783 : (Jvm.Cond.fieldLink "CableTrayPlannerModel" (16 : Nat) "CableTrayPlannerModel" "before" "[I") ∈ lw_all := lw_g (lw_at lw_m12 61 rfl) rfl
theorem q2784 : (Jvm.Cond.fieldLink "CableTrayPlannerModel" (84 : Nat) "CableTrayPlannerModel" "hasKept" "Z") ∈ lw_all := lw_g (lw_at lw_m12 62 rfl) rfl
theorem q2785 : (Jvm.Cond.fieldLink "CableTrayPlannerModel" (76 : Nat) "CableTrayPlannerModel" "isTextNow" "Z") ∈ lw_all := lw_g (lw_at lw_m12 63 rfl) rfl
theorem q2786 : (Jvm.Cond.fieldLink "CableTrayPlannerModel" (19 : Nat) "CableTrayPlannerModel" "past" "[I") ∈ lw_all := lw_g (lw_at lw_m12 64 rfl) rfl
theorem q2787 : (Jvm.Cond.fieldLink "CableTrayPlannerModel" (69 : Nat) "CableTrayPlannerModel" "pasts" "I") ∈ lw_all := lw_g (lw_at lw_m12 65 rfl) rfl
theorem q2788 : (Jvm.Cond.fieldLink "CableTrayPlannerModel" (22 : Nat) "CableTrayPlannerModel" "chain" "[I") ∈ lw_all := lw_g (lw_at lw_m12 66 rfl) rfl
theorem q2789 : (Jvm.Cond.fieldLink "CableTrayPlannerModel" (172 : Nat) "CableTrayPlannerModel" "chainLong" "I") ∈ lw_all := lw_g (lw_at lw_m12 67 rfl) rfl
theorem q2790 : (Jvm.Cond.fieldLink "CableTrayPlannerModel" (66 : Nat) "CableTrayPlannerModel" "thrown" "I") ∈ lw_all := lw_g (lw_at lw_m12 68 rfl) rfl
theorem q2791 : (Jvm.Cond.fieldLink "CableTrayPlannerModel" (25 : Nat) "CableTrayPlannerModel" "open" "[Z") ∈ lw_all := lw_g (lw_at lw_m12 69 rfl) rfl
theorem q2792 : (Jvm.Cond.fieldLink "CableTrayPlannerModel" (29 : Nat) "CableTrayPlannerModel" "row" "[I") ∈ lw_all := lw_g (lw_at lw_m12 70 rfl) rfl
theorem q2793 : (Jvm.Cond.fieldLink "CableTrayPlannerModel" (32 : Nat) "CableTrayPlannerModel" "best" "[I") ∈ lw_all := lw_g (lw_at lw_m12 71 rfl) rfl
theorem q2794 : (Jvm.Cond.fieldLink "CableTrayPlannerModel" (151 : Nat) "CableTrayPlannerModel" "bestLong" "I") ∈ lw_all := lw_g (lw_at lw_m12 72 rfl) rfl
theorem q2795 : (Jvm.Cond.fieldLink "CableTrayPlannerModel" (154 : Nat) "CableTrayPlannerModel" "bestSum" "I") ∈ lw_all := lw_g (lw_at lw_m12 73 rfl) rfl
theorem q2796 : (Jvm.Cond.fieldLink "CableTrayPlannerModel" (35 : Nat) "CableTrayPlannerModel" "places" "[I") ∈ lw_all := lw_g (lw_at lw_m12 74 rfl) rfl
theorem q2797 : (Jvm.Cond.fieldLink "CableTrayPlannerModel" (38 : Nat) "CableTrayPlannerModel" "lengths" "[I") ∈ lw_all := lw_g (lw_at lw_m12 75 rfl) rfl
theorem q2798 : (Jvm.Cond.fieldLink "CableTrayPlannerModel" (41 : Nat) "CableTrayPlannerModel" "rests" "[I") ∈ lw_all := lw_g (lw_at lw_m12 76 rfl) rfl
theorem q2799 : (Jvm.Cond.fieldLink "CableTrayPlannerModel" (44 : Nat) "CableTrayPlannerModel" "drumsOf" "[I") ∈ lw_all := lw_g (lw_at lw_m12 77 rfl) rfl
theorem q2800 : (Jvm.Cond.fieldLink "CableTrayPlannerModel" (47 : Nat) "CableTrayPlannerModel" "usedOf" "[I") ∈ lw_all := lw_g (lw_at lw_m12 78 rfl) rfl
theorem q2801 : (Jvm.Cond.fieldLink "CableTrayPlannerModel" (50 : Nat) "CableTrayPlannerModel" "buffer" "[I") ∈ lw_all := lw_g (lw_at lw_m12 79 rfl) rfl
theorem q2802 : (Jvm.Cond.fieldLink "CableTrayPlannerModel" (209 : Nat) "CableTrayPlannerModel" "length" "I") ∈ lw_all := lw_g (lw_at lw_m12 80 rfl) rfl
theorem q2803 : (Jvm.Cond.fieldLink "CableTrayPlannerModel" (221 : Nat) "CableTrayPlannerModel" "spot" "I") ∈ lw_all := lw_g (lw_at lw_m12 81 rfl) rfl
theorem q2804 : (Jvm.Cond.fieldLink "CableTrayPlannerModel" (53 : Nat) "CableTrayPlannerModel" "wrong" "I") ∈ lw_all := lw_g (lw_at lw_m12 82 rfl) rfl
theorem q2805 : (Jvm.Cond.fieldLink "CableTrayPlannerModel" (57 : Nat) "CableTrayPlannerModel" "refusedAt" "I") ∈ lw_all := lw_g (lw_at lw_m12 83 rfl) rfl
theorem q2806 : (Jvm.Cond.fieldLink "CableTrayPlannerModel" (60 : Nat) "CableTrayPlannerModel" "told" "[I") ∈ lw_all := lw_g (lw_at lw_m12 84 rfl) rfl
theorem q2807 : (Jvm.Cond.fieldLink "CableTrayPlannerModel" (230 : Nat) "CableTrayPlannerModel" "tolds" "I") ∈ lw_all := lw_g (lw_at lw_m12 85 rfl) rfl
theorem q2808 : (Jvm.Cond.laysFinal "CableTrayPlannerModel" "CableTrayPlannerModel" "g" "[I") ∈ lw_all := lw_g (lw_at lw_m12 86 rfl) rfl
theorem q2809 : (Jvm.Cond.soleField "CableTrayPlannerModel" "g") ∈ lw_all := lw_g (lw_at lw_m12 87 rfl) rfl
theorem q2810 : (Jvm.Cond.laysFinal "CableTrayPlannerModel" "CableTrayPlannerModel" "kept" "[I") ∈ lw_all := lw_g (lw_at lw_m12 88 rfl) rfl
theorem q2811 : (Jvm.Cond.soleField "CableTrayPlannerModel" "kept") ∈ lw_all := lw_g (lw_at lw_m12 89 rfl) rfl
theorem q2812 : (Jvm.Cond.laysFinal "CableTrayPlannerModel" "CableTrayPlannerModel" "before" "[I") ∈ lw_all := lw_g (lw_at lw_m12 90 rfl) rfl
theorem q2813 : (Jvm.Cond.soleField "CableTrayPlannerModel" "before") ∈ lw_all := lw_g (lw_at lw_m12 91 rfl) rfl
theorem q2814 : (Jvm.Cond.lays "CableTrayPlannerModel" "CableTrayPlannerModel" "hasKept" "Z") ∈ lw_all := lw_g (lw_at lw_m12 92 rfl) rfl
theorem q2815 : (Jvm.Cond.soleField "CableTrayPlannerModel" "hasKept") ∈ lw_all := lw_g (lw_at lw_m12 93 rfl) rfl
theorem q2816 : (Jvm.Cond.lays "CableTrayPlannerModel" "CableTrayPlannerModel" "isTextNow" "Z") ∈ lw_all := lw_g (lw_at lw_m12 94 rfl) rfl
theorem q2817 : (Jvm.Cond.soleField "CableTrayPlannerModel" "isTextNow") ∈ lw_all := lw_g (lw_at lw_m12 95 rfl) rfl
theorem q2818 : (Jvm.Cond.laysFinal "CableTrayPlannerModel" "CableTrayPlannerModel" "past" "[I") ∈ lw_all := lw_g (lw_at lw_m12 96 rfl) rfl
theorem q2819 : (Jvm.Cond.soleField "CableTrayPlannerModel" "past") ∈ lw_all := lw_g (lw_at lw_m12 97 rfl) rfl
theorem q2820 : (Jvm.Cond.lays "CableTrayPlannerModel" "CableTrayPlannerModel" "pasts" "I") ∈ lw_all := lw_g (lw_at lw_m12 98 rfl) rfl
theorem q2821 : (Jvm.Cond.soleField "CableTrayPlannerModel" "pasts") ∈ lw_all := lw_g (lw_at lw_m12 99 rfl) rfl
theorem q2822 : (Jvm.Cond.laysFinal "CableTrayPlannerModel" "CableTrayPlannerModel" "chain" "[I") ∈ lw_all := lw_g (lw_at lw_m12 100 rfl) rfl
theorem q2823 : (Jvm.Cond.soleField "CableTrayPlannerModel" "chain") ∈ lw_all := lw_g (lw_at lw_m12 101 rfl) rfl
theorem q2824 : (Jvm.Cond.lays "CableTrayPlannerModel" "CableTrayPlannerModel" "chainLong" "I") ∈ lw_all := lw_g (lw_at lw_m12 102 rfl) rfl
theorem q2825 : (Jvm.Cond.soleField "CableTrayPlannerModel" "chainLong") ∈ lw_all := lw_g (lw_at lw_m12 103 rfl) rfl
theorem q2826 : (Jvm.Cond.lays "CableTrayPlannerModel" "CableTrayPlannerModel" "thrown" "I") ∈ lw_all := lw_g (lw_at lw_m12 104 rfl) rfl
theorem q2827 : (Jvm.Cond.soleField "CableTrayPlannerModel" "thrown") ∈ lw_all := lw_g (lw_at lw_m12 105 rfl) rfl
theorem q2828 : (Jvm.Cond.laysFinal "CableTrayPlannerModel" "CableTrayPlannerModel" "open" "[Z") ∈ lw_all := lw_g (lw_at lw_m12 106 rfl) rfl
theorem q2829 : (Jvm.Cond.soleField "CableTrayPlannerModel" "open") ∈ lw_all := lw_g (lw_at lw_m12 107 rfl) rfl
theorem q2830 : (Jvm.Cond.laysFinal "CableTrayPlannerModel" "CableTrayPlannerModel" "row" "[I") ∈ lw_all := lw_g (lw_at lw_m12 108 rfl) rfl
theorem q2831 : (Jvm.Cond.soleField "CableTrayPlannerModel" "row") ∈ lw_all := lw_g (lw_at lw_m12 109 rfl) rfl
theorem q2832 : (Jvm.Cond.laysFinal "CableTrayPlannerModel" "CableTrayPlannerModel" "best" "[I") ∈ lw_all := lw_g (lw_at lw_m12 110 rfl) rfl
theorem q2833 : (Jvm.Cond.soleField "CableTrayPlannerModel" "best") ∈ lw_all := lw_g (lw_at lw_m12 111 rfl) rfl
theorem q2834 : (Jvm.Cond.lays "CableTrayPlannerModel" "CableTrayPlannerModel" "bestLong" "I") ∈ lw_all := lw_g (lw_at lw_m12 112 rfl) rfl
theorem q2835 : (Jvm.Cond.soleField "CableTrayPlannerModel" "bestLong") ∈ lw_all := lw_g (lw_at lw_m12 113 rfl) rfl
theorem q2836 : (Jvm.Cond.lays "CableTrayPlannerModel" "CableTrayPlannerModel" "bestSum" "I") ∈ lw_all := lw_g (lw_at lw_m12 114 rfl) rfl
theorem q2837 : (Jvm.Cond.soleField "CableTrayPlannerModel" "bestSum") ∈ lw_all := lw_g (lw_at lw_m12 115 rfl) rfl
theorem q2838 : (Jvm.Cond.laysFinal "CableTrayPlannerModel" "CableTrayPlannerModel" "places" "[I") ∈ lw_all := lw_g (lw_at lw_m12 116 rfl) rfl
theorem q2839 : (Jvm.Cond.soleField "CableTrayPlannerModel" "places") ∈ lw_all := lw_g (lw_at lw_m12 117 rfl) rfl
theorem q2840 : (Jvm.Cond.laysFinal "CableTrayPlannerModel" "CableTrayPlannerModel" "lengths" "[I") ∈ lw_all := lw_g (lw_at lw_m12 118 rfl) rfl
theorem q2841 : (Jvm.Cond.soleField "CableTrayPlannerModel" "lengths") ∈ lw_all := lw_g (lw_at lw_m12 119 rfl) rfl
theorem q2842 : (Jvm.Cond.laysFinal "CableTrayPlannerModel" "CableTrayPlannerModel" "rests" "[I") ∈ lw_all := lw_g (lw_at lw_m12 120 rfl) rfl
theorem q2843 : (Jvm.Cond.soleField "CableTrayPlannerModel" "rests") ∈ lw_all := lw_g (lw_at lw_m12 121 rfl) rfl
theorem q2844 : (Jvm.Cond.laysFinal "CableTrayPlannerModel" "CableTrayPlannerModel" "drumsOf" "[I") ∈ lw_all := lw_g (lw_at lw_m12 122 rfl) rfl
theorem q2845 : (Jvm.Cond.soleField "CableTrayPlannerModel" "drumsOf") ∈ lw_all := lw_g (lw_at lw_m12 123 rfl) rfl
theorem q2846 : (Jvm.Cond.laysFinal "CableTrayPlannerModel" "CableTrayPlannerModel" "usedOf" "[I") ∈ lw_all := lw_g (lw_at lw_m12 124 rfl) rfl
theorem q2847 : (Jvm.Cond.soleField "CableTrayPlannerModel" "usedOf") ∈ lw_all := lw_g (lw_at lw_m12 125 rfl) rfl
theorem q2848 : (Jvm.Cond.laysFinal "CableTrayPlannerModel" "CableTrayPlannerModel" "buffer" "[I") ∈ lw_all := lw_g (lw_at lw_m12 126 rfl) rfl
theorem q2849 : (Jvm.Cond.soleField "CableTrayPlannerModel" "buffer") ∈ lw_all := lw_g (lw_at lw_m12 127 rfl) rfl
theorem q2850 : (Jvm.Cond.lays "CableTrayPlannerModel" "CableTrayPlannerModel" "length" "I") ∈ lw_all := lw_g (lw_at lw_m12 128 rfl) rfl
theorem q2851 : (Jvm.Cond.soleField "CableTrayPlannerModel" "length") ∈ lw_all := lw_g (lw_at lw_m12 129 rfl) rfl
theorem q2852 : (Jvm.Cond.lays "CableTrayPlannerModel" "CableTrayPlannerModel" "spot" "I") ∈ lw_all := lw_g (lw_at lw_m12 130 rfl) rfl
theorem q2853 : (Jvm.Cond.soleField "CableTrayPlannerModel" "spot") ∈ lw_all := lw_g (lw_at lw_m12 131 rfl) rfl
theorem q2854 : (Jvm.Cond.lays "CableTrayPlannerModel" "CableTrayPlannerModel" "wrong" "I") ∈ lw_all := lw_g (lw_at lw_m12 132 rfl) rfl
theorem q2855 : (Jvm.Cond.soleField "CableTrayPlannerModel" "wrong") ∈ lw_all := lw_g (lw_at lw_m12 133 rfl) rfl
theorem q2856 : (Jvm.Cond.lays "CableTrayPlannerModel" "CableTrayPlannerModel" "refusedAt" "I") ∈ lw_all := lw_g (lw_at lw_m12 134 rfl) rfl
theorem q2857 : (Jvm.Cond.soleField "CableTrayPlannerModel" "refusedAt") ∈ lw_all := lw_g (lw_at lw_m12 135 rfl) rfl
theorem q2858 : (Jvm.Cond.laysFinal "CableTrayPlannerModel" "CableTrayPlannerModel" "told" "[I") ∈ lw_all := lw_g (lw_at lw_m12 136 rfl) rfl
theorem q2859 : (Jvm.Cond.soleField "CableTrayPlannerModel" "told") ∈ lw_all := lw_g (lw_at lw_m12 137 rfl) rfl
theorem q2860 : (Jvm.Cond.lays "CableTrayPlannerModel" "CableTrayPlannerModel" "tolds" "I") ∈ lw_all := lw_g (lw_at lw_m12 138 rfl) rfl
theorem q2861 : (Jvm.Cond.soleField "CableTrayPlannerModel" "tolds") ∈ lw_all := lw_g (lw_at lw_m12 139 rfl) rfl
theorem q2862 : (Jvm.Cond.superclass "CableTrayPlannerModel" "java/lang/Object") ∈ lw_all := lw_g (lw_at lw_m12 140 rfl) rfl
theorem q2865 : (Jvm.Cond.instanceMethod ({ cls := "CableTrayPlannerModel", name := "thrown", desc := "()I" } : Jvm.MethodName)) ∈ lw_all := lw_g (lw_at lw_m12 143 rfl) rfl
theorem q2866 : (Jvm.Cond.selects "CableTrayPlannerModel" ({ cls := "CableTrayPlannerModel", name := "thrown", desc := "()I" } : Jvm.MethodName) ({ cls := "CableTrayPlannerModel", name := "thrown", desc := "()I" } : Jvm.MethodName)) ∈ lw_all := lw_g (lw_at lw_m12 144 rfl) rfl
theorem q2867 : (Jvm.Cond.code ({ cls := "CableTrayPlannerModel", name := "thrown", desc := "()I" } : Jvm.MethodName) prog_21_method_2_code (1 : Nat) (Option.some Jvm.ClassFile.FieldType.int)) ∈ lw_all := lw_g (lw_at lw_m12 145 rfl) rfl
theorem q2869 : (Jvm.Cond.instanceMethod ({ cls := "CableTrayPlannerModel", name := "clear", desc := "()I" } : Jvm.MethodName)) ∈ lw_all := lw_g (lw_at lw_m12 147 rfl) rfl
theorem q2870 : (Jvm.Cond.selects "CableTrayPlannerModel" ({ cls := "CableTrayPlannerModel", name := "clear", desc := "()I" } : Jvm.MethodName) ({ cls := "CableTrayPlannerModel", name := "clear", desc := "()I" } : Jvm.MethodName)) ∈ lw_all := lw_g (lw_at lw_m12 148 rfl) rfl
theorem q2871 : (Jvm.Cond.code ({ cls := "CableTrayPlannerModel", name := "clear", desc := "()I" } : Jvm.MethodName) prog_21_method_9_code (2 : Nat) (Option.some Jvm.ClassFile.FieldType.int)) ∈ lw_all := lw_g (lw_at lw_m12 149 rfl) rfl
theorem q2873 : (Jvm.Cond.instanceMethod ({ cls := "CableTrayPlannerModel", name := "undo", desc := "()I" } : Jvm.MethodName)) ∈ lw_all := lw_g (lw_at lw_m12 151 rfl) rfl
theorem q2874 : (Jvm.Cond.selects "CableTrayPlannerModel" ({ cls := "CableTrayPlannerModel", name := "undo", desc := "()I" } : Jvm.MethodName) ({ cls := "CableTrayPlannerModel", name := "undo", desc := "()I" } : Jvm.MethodName)) ∈ lw_all := lw_g (lw_at lw_m12 152 rfl) rfl
theorem q2875 : (Jvm.Cond.code ({ cls := "CableTrayPlannerModel", name := "undo", desc := "()I" } : Jvm.MethodName) prog_21_method_10_code (1 : Nat) (Option.some Jvm.ClassFile.FieldType.int)) ∈ lw_all := lw_g (lw_at lw_m12 153 rfl) rfl
theorem q2876 : (Jvm.Cond.methodLink "CableTrayPlannerModel" (72 : Nat) ({ cls := "CableTrayPlannerModel", name := "copies", desc := "([II[II)V" } : Jvm.MethodName)) ∈ lw_all := lw_g (lw_at lw_m12 154 rfl) rfl
theorem q2877 : (Jvm.Cond.static ({ cls := "CableTrayPlannerModel", name := "copies", desc := "([II[II)V" } : Jvm.MethodName)) ∈ lw_all := lw_g (lw_at lw_m12 155 rfl) rfl
theorem q2878 : (Jvm.Cond.code ({ cls := "CableTrayPlannerModel", name := "copies", desc := "([II[II)V" } : Jvm.MethodName) prog_21_method_6_code (5 : Nat) (Option.none : Option Jvm.ClassFile.FieldType)) ∈ lw_all := lw_g (lw_at lw_m12 156 rfl) rfl
theorem q2880 : (Jvm.Cond.instanceMethod ({ cls := "CableTrayPlannerModel", name := "snapshot", desc := "()I" } : Jvm.MethodName)) ∈ lw_all := lw_g (lw_at lw_m12 158 rfl) rfl
theorem q2881 : (Jvm.Cond.selects "CableTrayPlannerModel" ({ cls := "CableTrayPlannerModel", name := "snapshot", desc := "()I" } : Jvm.MethodName) ({ cls := "CableTrayPlannerModel", name := "snapshot", desc := "()I" } : Jvm.MethodName)) ∈ lw_all := lw_g (lw_at lw_m12 159 rfl) rfl
theorem q2882 : (Jvm.Cond.code ({ cls := "CableTrayPlannerModel", name := "snapshot", desc := "()I" } : Jvm.MethodName) prog_21_method_11_code (1 : Nat) (Option.some Jvm.ClassFile.FieldType.int)) ∈ lw_all := lw_g (lw_at lw_m12 160 rfl) rfl
theorem q2884 : (Jvm.Cond.instanceMethod ({ cls := "CableTrayPlannerModel", name := "restore", desc := "()I" } : Jvm.MethodName)) ∈ lw_all := lw_g (lw_at lw_m12 162 rfl) rfl
theorem q2885 : (Jvm.Cond.selects "CableTrayPlannerModel" ({ cls := "CableTrayPlannerModel", name := "restore", desc := "()I" } : Jvm.MethodName) ({ cls := "CableTrayPlannerModel", name := "restore", desc := "()I" } : Jvm.MethodName)) ∈ lw_all := lw_g (lw_at lw_m12 163 rfl) rfl
theorem q2886 : (Jvm.Cond.code ({ cls := "CableTrayPlannerModel", name := "restore", desc := "()I" } : Jvm.MethodName) prog_21_method_12_code (1 : Nat) (Option.some Jvm.ClassFile.FieldType.int)) ∈ lw_all := lw_g (lw_at lw_m12 164 rfl) rfl
theorem q2888 : (Jvm.Cond.instanceMethod ({ cls := "CableTrayPlannerModel", name := "setSpare", desc := "(I)I" } : Jvm.MethodName)) ∈ lw_all := lw_g (lw_at lw_m12 166 rfl) rfl
theorem q2889 : (Jvm.Cond.selects "CableTrayPlannerModel" ({ cls := "CableTrayPlannerModel", name := "setSpare", desc := "(I)I" } : Jvm.MethodName) ({ cls := "CableTrayPlannerModel", name := "setSpare", desc := "(I)I" } : Jvm.MethodName)) ∈ lw_all := lw_g (lw_at lw_m12 167 rfl) rfl
theorem q2890 : (Jvm.Cond.code ({ cls := "CableTrayPlannerModel", name := "setSpare", desc := "(I)I" } : Jvm.MethodName) prog_21_method_14_code (2 : Nat) (Option.some Jvm.ClassFile.FieldType.int)) ∈ lw_all := lw_g (lw_at lw_m12 168 rfl) rfl
theorem q2891 : (Jvm.Cond.methodLink "CableTrayPlannerModel" (90 : Nat) ({ cls := "CableTrayPlannerModel", name := "in", desc := "(III)Z" } : Jvm.MethodName)) ∈ lw_all := lw_g (lw_at lw_m12 169 rfl) rfl
theorem q2892 : (Jvm.Cond.static ({ cls := "CableTrayPlannerModel", name := "in", desc := "(III)Z" } : Jvm.MethodName)) ∈ lw_all := lw_g (lw_at lw_m12 170 rfl) rfl
theorem q2893 : (Jvm.Cond.code ({ cls := "CableTrayPlannerModel", name := "in", desc := "(III)Z" } : Jvm.MethodName) prog_21_method_5_code (3 : Nat) (Option.some Jvm.ClassFile.FieldType.boolean)) ∈ lw_all := lw_g (lw_at lw_m12 171 rfl) rfl
theorem q2894 : (Jvm.Cond.methodLink "CableTrayPlannerModel" (94 : Nat) ({ cls := "CableTrayPlannerModel", name := "sets", desc := "(II)I" } : Jvm.MethodName)) ∈ lw_all := lw_g (lw_at lw_m12 172 rfl) rfl
theorem q2895 : (Jvm.Cond.privateMethod ({ cls := "CableTrayPlannerModel", name := "sets", desc := "(II)I" } : Jvm.MethodName)) ∈ lw_tbl := lw_at lw_m12 173 rfl
theorem q2896 : (Jvm.Cond.instanceMethod ({ cls := "CableTrayPlannerModel", name := "sets", desc := "(II)I" } : Jvm.MethodName)) ∈ lw_all := lw_g (lw_at lw_m12 174 rfl) rfl
theorem q2897 : (Jvm.Cond.code ({ cls := "CableTrayPlannerModel", name := "sets", desc := "(II)I" } : Jvm.MethodName) prog_21_method_13_code (4 : Nat) (Option.some Jvm.ClassFile.FieldType.int)) ∈ lw_all := lw_g (lw_at lw_m12 175 rfl) rfl
theorem q2898 : (Jvm.Cond.methodLink "CableTrayPlannerModel" (87 : Nat) ({ cls := "CableTrayPlannerModel", name := "changes", desc := "()V" } : Jvm.MethodName)) ∈ lw_all := lw_g (lw_at lw_m12 176 rfl) rfl
theorem q2899 : (Jvm.Cond.privateMethod ({ cls := "CableTrayPlannerModel", name := "changes", desc := "()V" } : Jvm.MethodName)) ∈ lw_tbl := lw_at lw_m12 177 rfl
theorem q2900 : (Jvm.Cond.instanceMethod ({ cls := "CableTrayPlannerModel", name := "changes", desc := "()V" } : Jvm.MethodName)) ∈ lw_all := lw_g (lw_at lw_m12 178 rfl) rfl
theorem q2901 : (Jvm.Cond.code ({ cls := "CableTrayPlannerModel", name := "changes", desc := "()V" } : Jvm.MethodName) prog_21_method_8_code (1 : Nat) (Option.none : Option Jvm.ClassFile.FieldType)) ∈ lw_all := lw_g (lw_at lw_m12 179 rfl) rfl
theorem q2902 : (Jvm.Cond.methodLink "CableTrayPlannerModel" (80 : Nat) ({ cls := "CableTrayPlannerModel", name := "keeps", desc := "([I)V" } : Jvm.MethodName)) ∈ lw_all := lw_g (lw_at lw_m12 180 rfl) rfl
theorem q2903 : (Jvm.Cond.privateMethod ({ cls := "CableTrayPlannerModel", name := "keeps", desc := "([I)V" } : Jvm.MethodName)) ∈ lw_tbl := lw_at lw_m12 181 rfl
theorem q2904 : (Jvm.Cond.instanceMethod ({ cls := "CableTrayPlannerModel", name := "keeps", desc := "([I)V" } : Jvm.MethodName)) ∈ lw_all := lw_g (lw_at lw_m12 182 rfl) rfl
theorem q2905 : (Jvm.Cond.code ({ cls := "CableTrayPlannerModel", name := "keeps", desc := "([I)V" } : Jvm.MethodName) prog_21_method_7_code (3 : Nat) (Option.none : Option Jvm.ClassFile.FieldType)) ∈ lw_all := lw_g (lw_at lw_m12 183 rfl) rfl
theorem q2907 : (Jvm.Cond.instanceMethod ({ cls := "CableTrayPlannerModel", name := "setTail", desc := "(I)I" } : Jvm.MethodName)) ∈ lw_all := lw_g (lw_at lw_m12 185 rfl) rfl
theorem q2908 : (Jvm.Cond.selects "CableTrayPlannerModel" ({ cls := "CableTrayPlannerModel", name := "setTail", desc := "(I)I" } : Jvm.MethodName) ({ cls := "CableTrayPlannerModel", name := "setTail", desc := "(I)I" } : Jvm.MethodName)) ∈ lw_all := lw_g (lw_at lw_m12 186 rfl) rfl
theorem q2909 : (Jvm.Cond.code ({ cls := "CableTrayPlannerModel", name := "setTail", desc := "(I)I" } : Jvm.MethodName) prog_21_method_15_code (2 : Nat) (Option.some Jvm.ClassFile.FieldType.int)) ∈ lw_all := lw_g (lw_at lw_m12 187 rfl) rfl
theorem q2911 : (Jvm.Cond.instanceMethod ({ cls := "CableTrayPlannerModel", name := "addTray", desc := "(IIIII)I" } : Jvm.MethodName)) ∈ lw_all := lw_g (lw_at lw_m12 189 rfl) rfl
theorem q2912 : (Jvm.Cond.selects "CableTrayPlannerModel" ({ cls := "CableTrayPlannerModel", name := "addTray", desc := "(IIIII)I" } : Jvm.MethodName) ({ cls := "CableTrayPlannerModel", name := "addTray", desc := "(IIIII)I" } : Jvm.MethodName)) ∈ lw_all := lw_g (lw_at lw_m12 190 rfl) rfl
theorem q2913 : (Jvm.Cond.code ({ cls := "CableTrayPlannerModel", name := "addTray", desc := "(IIIII)I" } : Jvm.MethodName) prog_21_method_26_code (7 : Nat) (Option.some Jvm.ClassFile.FieldType.int)) ∈ lw_all := lw_g (lw_at lw_m12 191 rfl) rfl
theorem q2914 : (Jvm.Cond.methodLink "CableTrayPlannerModel" (101 : Nat) ({ cls := "CableTrayPlannerModel", name := "isPlace", desc := "(I)Z" } : Jvm.MethodName)) ∈ lw_all := lw_g (lw_at lw_m12 192 rfl) rfl
theorem q2915 : (Jvm.Cond.static ({ cls := "CableTrayPlannerModel", name := "isPlace", desc := "(I)Z" } : Jvm.MethodName)) ∈ lw_all := lw_g (lw_at lw_m12 193 rfl) rfl
theorem q2916 : (Jvm.Cond.code ({ cls := "CableTrayPlannerModel", name := "isPlace", desc := "(I)Z" } : Jvm.MethodName) prog_21_method_16_code (1 : Nat) (Option.some Jvm.ClassFile.FieldType.boolean)) ∈ lw_all := lw_g (lw_at lw_m12 194 rfl) rfl
theorem q2918 : (Jvm.Cond.instanceMethod ({ cls := "CableTrayPlannerModel", name := "dropTray", desc := "(I)I" } : Jvm.MethodName)) ∈ lw_all := lw_g (lw_at lw_m12 196 rfl) rfl
theorem q2919 : (Jvm.Cond.selects "CableTrayPlannerModel" ({ cls := "CableTrayPlannerModel", name := "dropTray", desc := "(I)I" } : Jvm.MethodName) ({ cls := "CableTrayPlannerModel", name := "dropTray", desc := "(I)I" } : Jvm.MethodName)) ∈ lw_all := lw_g (lw_at lw_m12 197 rfl) rfl
theorem q2920 : (Jvm.Cond.code ({ cls := "CableTrayPlannerModel", name := "dropTray", desc := "(I)I" } : Jvm.MethodName) prog_21_method_29_code (4 : Nat) (Option.some Jvm.ClassFile.FieldType.int)) ∈ lw_all := lw_g (lw_at lw_m12 198 rfl) rfl
theorem q2921 : (Jvm.Cond.methodLink "CableTrayPlannerModel" (111 : Nat) ({ cls := "CableTrayPlannerModel", name := "isTray", desc := "(I)Z" } : Jvm.MethodName)) ∈ lw_all := lw_g (lw_at lw_m12 199 rfl) rfl
theorem q2922 : (Jvm.Cond.privateMethod ({ cls := "CableTrayPlannerModel", name := "isTray", desc := "(I)Z" } : Jvm.MethodName)) ∈ lw_tbl := lw_at lw_m12 200 rfl
theorem q2923 : (Jvm.Cond.instanceMethod ({ cls := "CableTrayPlannerModel", name := "isTray", desc := "(I)Z" } : Jvm.MethodName)) ∈ lw_all := lw_g (lw_at lw_m12 201 rfl) rfl
theorem q2924 : (Jvm.Cond.code ({ cls := "CableTrayPlannerModel", name := "isTray", desc := "(I)Z" } : Jvm.MethodName) prog_21_method_18_code (2 : Nat) (Option.some Jvm.ClassFile.FieldType.boolean)) ∈ lw_all := lw_g (lw_at lw_m12 202 rfl) rfl
theorem q2925 : (Jvm.Cond.methodLink "CableTrayPlannerModel" (114 : Nat) ({ cls := "CableTrayPlannerModel", name := "setIn", desc := "(I)I" } : Jvm.MethodName)) ∈ lw_all := lw_g (lw_at lw_m12 203 rfl) rfl
theorem q2926 : (Jvm.Cond.privateMethod ({ cls := "CableTrayPlannerModel", name := "setIn", desc := "(I)I" } : Jvm.MethodName)) ∈ lw_tbl := lw_at lw_m12 204 rfl
theorem q2927 : (Jvm.Cond.instanceMethod ({ cls := "CableTrayPlannerModel", name := "setIn", desc := "(I)I" } : Jvm.MethodName)) ∈ lw_all := lw_g (lw_at lw_m12 205 rfl) rfl
theorem q2928 : (Jvm.Cond.code ({ cls := "CableTrayPlannerModel", name := "setIn", desc := "(I)I" } : Jvm.MethodName) prog_21_method_28_code (4 : Nat) (Option.some Jvm.ClassFile.FieldType.int)) ∈ lw_all := lw_g (lw_at lw_m12 206 rfl) rfl
theorem q2929 : (Jvm.Cond.methodLink "CableTrayPlannerModel" (108 : Nat) ({ cls := "CableTrayPlannerModel", name := "stepIn", desc := "(II)I" } : Jvm.MethodName)) ∈ lw_all := lw_g (lw_at lw_m12 207 rfl) rfl
theorem q2930 : (Jvm.Cond.privateMethod ({ cls := "CableTrayPlannerModel", name := "stepIn", desc := "(II)I" } : Jvm.MethodName)) ∈ lw_tbl := lw_at lw_m12 208 rfl
theorem q2931 : (Jvm.Cond.instanceMethod ({ cls := "CableTrayPlannerModel", name := "stepIn", desc := "(II)I" } : Jvm.MethodName)) ∈ lw_all := lw_g (lw_at lw_m12 209 rfl) rfl
theorem q2932 : (Jvm.Cond.code ({ cls := "CableTrayPlannerModel", name := "stepIn", desc := "(II)I" } : Jvm.MethodName) prog_21_method_27_code (4 : Nat) (Option.some Jvm.ClassFile.FieldType.int)) ∈ lw_all := lw_g (lw_at lw_m12 210 rfl) rfl
theorem q2933 : (Jvm.Cond.methodLink "CableTrayPlannerModel" (105 : Nat) ({ cls := "CableTrayPlannerModel", name := "cableTold", desc := "(II)I" } : Jvm.MethodName)) ∈ lw_all := lw_g (lw_at lw_m12 211 rfl) rfl
theorem q2934 : (Jvm.Cond.privateMethod ({ cls := "CableTrayPlannerModel", name := "cableTold", desc := "(II)I" } : Jvm.MethodName)) ∈ lw_tbl := lw_at lw_m12 212 rfl
theorem q2935 : (Jvm.Cond.instanceMethod ({ cls := "CableTrayPlannerModel", name := "cableTold", desc := "(II)I" } : Jvm.MethodName)) ∈ lw_all := lw_g (lw_at lw_m12 213 rfl) rfl
theorem q2936 : (Jvm.Cond.code ({ cls := "CableTrayPlannerModel", name := "cableTold", desc := "(II)I" } : Jvm.MethodName) prog_21_method_25_code (3 : Nat) (Option.some Jvm.ClassFile.FieldType.int)) ∈ lw_all := lw_g (lw_at lw_m12 214 rfl) rfl
theorem q2937 : (Jvm.Cond.methodLink "CableTrayPlannerModel" (98 : Nat) ({ cls := "CableTrayPlannerModel", name := "at", desc := "(II)I" } : Jvm.MethodName)) ∈ lw_all := lw_g (lw_at lw_m12 215 rfl) rfl
theorem q2938 : (Jvm.Cond.static ({ cls := "CableTrayPlannerModel", name := "at", desc := "(II)I" } : Jvm.MethodName)) ∈ lw_all := lw_g (lw_at lw_m12 216 rfl) rfl
theorem q2939 : (Jvm.Cond.code ({ cls := "CableTrayPlannerModel", name := "at", desc := "(II)I" } : Jvm.MethodName) prog_21_method_24_code (2 : Nat) (Option.some Jvm.ClassFile.FieldType.int)) ∈ lw_all := lw_g (lw_at lw_m12 217 rfl) rfl
theorem q2941 : (Jvm.Cond.instanceMethod ({ cls := "CableTrayPlannerModel", name := "addCable", desc := "(III)I" } : Jvm.MethodName)) ∈ lw_all := lw_g (lw_at lw_m12 219 rfl) rfl
theorem q2942 : (Jvm.Cond.selects "CableTrayPlannerModel" ({ cls := "CableTrayPlannerModel", name := "addCable", desc := "(III)I" } : Jvm.MethodName) ({ cls := "CableTrayPlannerModel", name := "addCable", desc := "(III)I" } : Jvm.MethodName)) ∈ lw_all := lw_g (lw_at lw_m12 220 rfl) rfl
theorem q2943 : (Jvm.Cond.code ({ cls := "CableTrayPlannerModel", name := "addCable", desc := "(III)I" } : Jvm.MethodName) prog_21_method_30_code (6 : Nat) (Option.some Jvm.ClassFile.FieldType.int)) ∈ lw_all := lw_g (lw_at lw_m12 221 rfl) rfl
theorem q2944 : (Jvm.Cond.methodLink "CableTrayPlannerModel" (118 : Nat) ({ cls := "CableTrayPlannerModel", name := "isType", desc := "(I)Z" } : Jvm.MethodName)) ∈ lw_all := lw_g (lw_at lw_m12 222 rfl) rfl
theorem q2945 : (Jvm.Cond.privateMethod ({ cls := "CableTrayPlannerModel", name := "isType", desc := "(I)Z" } : Jvm.MethodName)) ∈ lw_tbl := lw_at lw_m12 223 rfl
theorem q2946 : (Jvm.Cond.instanceMethod ({ cls := "CableTrayPlannerModel", name := "isType", desc := "(I)Z" } : Jvm.MethodName)) ∈ lw_all := lw_g (lw_at lw_m12 224 rfl) rfl
theorem q2947 : (Jvm.Cond.code ({ cls := "CableTrayPlannerModel", name := "isType", desc := "(I)Z" } : Jvm.MethodName) prog_21_method_17_code (2 : Nat) (Option.some Jvm.ClassFile.FieldType.boolean)) ∈ lw_all := lw_g (lw_at lw_m12 225 rfl) rfl
theorem q2949 : (Jvm.Cond.instanceMethod ({ cls := "CableTrayPlannerModel", name := "addDrum", desc := "(II)I" } : Jvm.MethodName)) ∈ lw_all := lw_g (lw_at lw_m12 227 rfl) rfl
theorem q2950 : (Jvm.Cond.selects "CableTrayPlannerModel" ({ cls := "CableTrayPlannerModel", name := "addDrum", desc := "(II)I" } : Jvm.MethodName) ({ cls := "CableTrayPlannerModel", name := "addDrum", desc := "(II)I" } : Jvm.MethodName)) ∈ lw_all := lw_g (lw_at lw_m12 228 rfl) rfl
theorem q2951 : (Jvm.Cond.code ({ cls := "CableTrayPlannerModel", name := "addDrum", desc := "(II)I" } : Jvm.MethodName) prog_21_method_31_code (4 : Nat) (Option.some Jvm.ClassFile.FieldType.int)) ∈ lw_all := lw_g (lw_at lw_m12 229 rfl) rfl
theorem q2953 : (Jvm.Cond.instanceMethod ({ cls := "CableTrayPlannerModel", name := "fits", desc := "(II)Z" } : Jvm.MethodName)) ∈ lw_all := lw_g (lw_at lw_m12 231 rfl) rfl
theorem q2954 : (Jvm.Cond.selects "CableTrayPlannerModel" ({ cls := "CableTrayPlannerModel", name := "fits", desc := "(II)Z" } : Jvm.MethodName) ({ cls := "CableTrayPlannerModel", name := "fits", desc := "(II)Z" } : Jvm.MethodName)) ∈ lw_all := lw_g (lw_at lw_m12 232 rfl) rfl
theorem q2955 : (Jvm.Cond.code ({ cls := "CableTrayPlannerModel", name := "fits", desc := "(II)Z" } : Jvm.MethodName) prog_21_method_37_code (3 : Nat) (Option.some Jvm.ClassFile.FieldType.boolean)) ∈ lw_all := lw_g (lw_at lw_m12 233 rfl) rfl
theorem q2956 : (Jvm.Cond.methodLink "CableTrayPlannerModel" (142 : Nat) ({ cls := "CableTrayPlannerModel", name := "placeIn", desc := "(II)I" } : Jvm.MethodName)) ∈ lw_all := lw_g (lw_at lw_m12 234 rfl) rfl
theorem q2957 : (Jvm.Cond.privateMethod ({ cls := "CableTrayPlannerModel", name := "placeIn", desc := "(II)I" } : Jvm.MethodName)) ∈ lw_tbl := lw_at lw_m12 235 rfl
theorem q2958 : (Jvm.Cond.instanceMethod ({ cls := "CableTrayPlannerModel", name := "placeIn", desc := "(II)I" } : Jvm.MethodName)) ∈ lw_all := lw_g (lw_at lw_m12 236 rfl) rfl
theorem q2959 : (Jvm.Cond.code ({ cls := "CableTrayPlannerModel", name := "placeIn", desc := "(II)I" } : Jvm.MethodName) prog_21_method_36_code (5 : Nat) (Option.some Jvm.ClassFile.FieldType.int)) ∈ lw_all := lw_g (lw_at lw_m12 237 rfl) rfl
theorem q2960 : (Jvm.Cond.methodLink "CableTrayPlannerModel" (121 : Nat) ({ cls := "CableTrayPlannerModel", name := "trayTold", desc := "(II)I" } : Jvm.MethodName)) ∈ lw_all := lw_g (lw_at lw_m12 238 rfl) rfl
theorem q2961 : (Jvm.Cond.privateMethod ({ cls := "CableTrayPlannerModel", name := "trayTold", desc := "(II)I" } : Jvm.MethodName)) ∈ lw_tbl := lw_at lw_m12 239 rfl
theorem q2962 : (Jvm.Cond.instanceMethod ({ cls := "CableTrayPlannerModel", name := "trayTold", desc := "(II)I" } : Jvm.MethodName)) ∈ lw_all := lw_g (lw_at lw_m13 0 rfl) rfl
theorem q2963 : (Jvm.Cond.code ({ cls := "CableTrayPlannerModel", name := "trayTold", desc := "(II)I" } : Jvm.MethodName) prog_21_method_23_code (3 : Nat) (Option.some Jvm.ClassFile.FieldType.int)) ∈ lw_all := lw_g (lw_at lw_m13 1 rfl) rfl
theorem q2964 : (Jvm.Cond.methodLink "CableTrayPlannerModel" (133 : Nat) ({ cls := "CableTrayPlannerModel", name := "areaIn", desc := "(II)I" } : Jvm.MethodName)) ∈ lw_all := lw_g (lw_at lw_m13 2 rfl) rfl
theorem q2965 : (Jvm.Cond.privateMethod ({ cls := "CableTrayPlannerModel", name := "areaIn", desc := "(II)I" } : Jvm.MethodName)) ∈ lw_tbl := lw_at lw_m13 3 rfl
theorem q2966 : (Jvm.Cond.instanceMethod ({ cls := "CableTrayPlannerModel", name := "areaIn", desc := "(II)I" } : Jvm.MethodName)) ∈ lw_all := lw_g (lw_at lw_m13 4 rfl) rfl
theorem q2967 : (Jvm.Cond.code ({ cls := "CableTrayPlannerModel", name := "areaIn", desc := "(II)I" } : Jvm.MethodName) prog_21_method_34_code (6 : Nat) (Option.some Jvm.ClassFile.FieldType.int)) ∈ lw_all := lw_g (lw_at lw_m13 5 rfl) rfl
theorem q2968 : (Jvm.Cond.methodLink "CableTrayPlannerModel" (127 : Nat) ({ cls := "CableTrayPlannerModel", name := "areaOf", desc := "(I)I" } : Jvm.MethodName)) ∈ lw_all := lw_g (lw_at lw_m13 6 rfl) rfl
theorem q2969 : (Jvm.Cond.privateMethod ({ cls := "CableTrayPlannerModel", name := "areaOf", desc := "(I)I" } : Jvm.MethodName)) ∈ lw_tbl := lw_at lw_m13 7 rfl
theorem q2970 : (Jvm.Cond.instanceMethod ({ cls := "CableTrayPlannerModel", name := "areaOf", desc := "(I)I" } : Jvm.MethodName)) ∈ lw_all := lw_g (lw_at lw_m13 8 rfl) rfl
theorem q2971 : (Jvm.Cond.code ({ cls := "CableTrayPlannerModel", name := "areaOf", desc := "(I)I" } : Jvm.MethodName) prog_21_method_22_code (2 : Nat) (Option.some Jvm.ClassFile.FieldType.int)) ∈ lw_all := lw_g (lw_at lw_m13 9 rfl) rfl
theorem q2972 : (Jvm.Cond.methodLink "CableTrayPlannerModel" (124 : Nat) ({ cls := "CableTrayPlannerModel", name := "roomOf", desc := "(I)I" } : Jvm.MethodName)) ∈ lw_all := lw_g (lw_at lw_m13 10 rfl) rfl
theorem q2973 : (Jvm.Cond.privateMethod ({ cls := "CableTrayPlannerModel", name := "roomOf", desc := "(I)I" } : Jvm.MethodName)) ∈ lw_tbl := lw_at lw_m13 11 rfl
theorem q2974 : (Jvm.Cond.instanceMethod ({ cls := "CableTrayPlannerModel", name := "roomOf", desc := "(I)I" } : Jvm.MethodName)) ∈ lw_all := lw_g (lw_at lw_m13 12 rfl) rfl
theorem q2975 : (Jvm.Cond.code ({ cls := "CableTrayPlannerModel", name := "roomOf", desc := "(I)I" } : Jvm.MethodName) prog_21_method_32_code (2 : Nat) (Option.some Jvm.ClassFile.FieldType.int)) ∈ lw_all := lw_g (lw_at lw_m13 13 rfl) rfl
theorem q2976 : (Jvm.Cond.methodLink "CableTrayPlannerModel" (136 : Nat) ({ cls := "CableTrayPlannerModel", name := "keptOf", desc := "(I)I" } : Jvm.MethodName)) ∈ lw_all := lw_g (lw_at lw_m13 14 rfl) rfl
theorem q2977 : (Jvm.Cond.privateMethod ({ cls := "CableTrayPlannerModel", name := "keptOf", desc := "(I)I" } : Jvm.MethodName)) ∈ lw_tbl := lw_at lw_m13 15 rfl
theorem q2978 : (Jvm.Cond.instanceMethod ({ cls := "CableTrayPlannerModel", name := "keptOf", desc := "(I)I" } : Jvm.MethodName)) ∈ lw_all := lw_g (lw_at lw_m13 16 rfl) rfl
theorem q2979 : (Jvm.Cond.code ({ cls := "CableTrayPlannerModel", name := "keptOf", desc := "(I)I" } : Jvm.MethodName) prog_21_method_33_code (2 : Nat) (Option.some Jvm.ClassFile.FieldType.int)) ∈ lw_all := lw_g (lw_at lw_m13 17 rfl) rfl
theorem q2980 : (Jvm.Cond.methodLink "CableTrayPlannerModel" (139 : Nat) ({ cls := "CableTrayPlannerModel", name := "classIn", desc := "(II)I" } : Jvm.MethodName)) ∈ lw_all := lw_g (lw_at lw_m13 18 rfl) rfl
theorem q2981 : (Jvm.Cond.privateMethod ({ cls := "CableTrayPlannerModel", name := "classIn", desc := "(II)I" } : Jvm.MethodName)) ∈ lw_tbl := lw_at lw_m13 19 rfl
theorem q2982 : (Jvm.Cond.instanceMethod ({ cls := "CableTrayPlannerModel", name := "classIn", desc := "(II)I" } : Jvm.MethodName)) ∈ lw_all := lw_g (lw_at lw_m13 20 rfl) rfl
theorem q2983 : (Jvm.Cond.code ({ cls := "CableTrayPlannerModel", name := "classIn", desc := "(II)I" } : Jvm.MethodName) prog_21_method_35_code (5 : Nat) (Option.some Jvm.ClassFile.FieldType.int)) ∈ lw_all := lw_g (lw_at lw_m13 21 rfl) rfl
theorem q2984 : (Jvm.Cond.methodLink "CableTrayPlannerModel" (130 : Nat) ({ cls := "CableTrayPlannerModel", name := "classOf", desc := "(I)I" } : Jvm.MethodName)) ∈ lw_all := lw_g (lw_at lw_m13 22 rfl) rfl
theorem q2985 : (Jvm.Cond.privateMethod ({ cls := "CableTrayPlannerModel", name := "classOf", desc := "(I)I" } : Jvm.MethodName)) ∈ lw_tbl := lw_at lw_m13 23 rfl
theorem q2986 : (Jvm.Cond.instanceMethod ({ cls := "CableTrayPlannerModel", name := "classOf", desc := "(I)I" } : Jvm.MethodName)) ∈ lw_all := lw_g (lw_at lw_m13 24 rfl) rfl
theorem q2987 : (Jvm.Cond.code ({ cls := "CableTrayPlannerModel", name := "classOf", desc := "(I)I" } : Jvm.MethodName) prog_21_method_21_code (2 : Nat) (Option.some Jvm.ClassFile.FieldType.int)) ∈ lw_all := lw_g (lw_at lw_m13 25 rfl) rfl
theorem q2989 : (Jvm.Cond.instanceMethod ({ cls := "CableTrayPlannerModel", name := "tray", desc := "(II)I" } : Jvm.MethodName)) ∈ lw_all := lw_g (lw_at lw_m13 27 rfl) rfl
theorem q2990 : (Jvm.Cond.selects "CableTrayPlannerModel" ({ cls := "CableTrayPlannerModel", name := "tray", desc := "(II)I" } : Jvm.MethodName) ({ cls := "CableTrayPlannerModel", name := "tray", desc := "(II)I" } : Jvm.MethodName)) ∈ lw_all := lw_g (lw_at lw_m13 28 rfl) rfl
theorem q2991 : (Jvm.Cond.code ({ cls := "CableTrayPlannerModel", name := "tray", desc := "(II)I" } : Jvm.MethodName) prog_21_method_38_code (6 : Nat) (Option.some Jvm.ClassFile.FieldType.int)) ∈ lw_all := lw_g (lw_at lw_m13 29 rfl) rfl
theorem q2992 : (Jvm.Cond.methodLink "CableTrayPlannerModel" (145 : Nat) ({ cls := "CableTrayPlannerModel", name := "bitsOf", desc := "(I)I" } : Jvm.MethodName)) ∈ lw_all := lw_g (lw_at lw_m13 30 rfl) rfl
theorem q2993 : (Jvm.Cond.static ({ cls := "CableTrayPlannerModel", name := "bitsOf", desc := "(I)I" } : Jvm.MethodName)) ∈ lw_all := lw_g (lw_at lw_m13 31 rfl) rfl
theorem q2994 : (Jvm.Cond.code ({ cls := "CableTrayPlannerModel", name := "bitsOf", desc := "(I)I" } : Jvm.MethodName) prog_21_method_39_code (3 : Nat) (Option.some Jvm.ClassFile.FieldType.int)) ∈ lw_all := lw_g (lw_at lw_m13 32 rfl) rfl
theorem q2996 : (Jvm.Cond.instanceMethod ({ cls := "CableTrayPlannerModel", name := "compartment", desc := "(IIZ)I" } : Jvm.MethodName)) ∈ lw_all := lw_g (lw_at lw_m13 34 rfl) rfl
theorem q2997 : (Jvm.Cond.selects "CableTrayPlannerModel" ({ cls := "CableTrayPlannerModel", name := "compartment", desc := "(IIZ)I" } : Jvm.MethodName) ({ cls := "CableTrayPlannerModel", name := "compartment", desc := "(IIZ)I" } : Jvm.MethodName)) ∈ lw_all := lw_g (lw_at lw_m13 35 rfl) rfl
theorem q2998 : (Jvm.Cond.code ({ cls := "CableTrayPlannerModel", name := "compartment", desc := "(IIZ)I" } : Jvm.MethodName) prog_21_method_40_code (4 : Nat) (Option.some Jvm.ClassFile.FieldType.int)) ∈ lw_all := lw_g (lw_at lw_m13 36 rfl) rfl
theorem q3000 : (Jvm.Cond.instanceMethod ({ cls := "CableTrayPlannerModel", name := "cablesIn", desc := "(I)I" } : Jvm.MethodName)) ∈ lw_all := lw_g (lw_at lw_m13 38 rfl) rfl
theorem q3001 : (Jvm.Cond.selects "CableTrayPlannerModel" ({ cls := "CableTrayPlannerModel", name := "cablesIn", desc := "(I)I" } : Jvm.MethodName) ({ cls := "CableTrayPlannerModel", name := "cablesIn", desc := "(I)I" } : Jvm.MethodName)) ∈ lw_all := lw_g (lw_at lw_m13 39 rfl) rfl
theorem q3002 : (Jvm.Cond.code ({ cls := "CableTrayPlannerModel", name := "cablesIn", desc := "(I)I" } : Jvm.MethodName) prog_21_method_41_code (2 : Nat) (Option.some Jvm.ClassFile.FieldType.int)) ∈ lw_all := lw_g (lw_at lw_m13 40 rfl) rfl
theorem q3004 : (Jvm.Cond.instanceMethod ({ cls := "CableTrayPlannerModel", name := "fullest", desc := "()I" } : Jvm.MethodName)) ∈ lw_all := lw_g (lw_at lw_m13 42 rfl) rfl
theorem q3005 : (Jvm.Cond.selects "CableTrayPlannerModel" ({ cls := "CableTrayPlannerModel", name := "fullest", desc := "()I" } : Jvm.MethodName) ({ cls := "CableTrayPlannerModel", name := "fullest", desc := "()I" } : Jvm.MethodName)) ∈ lw_all := lw_g (lw_at lw_m13 43 rfl) rfl
theorem q3006 : (Jvm.Cond.code ({ cls := "CableTrayPlannerModel", name := "fullest", desc := "()I" } : Jvm.MethodName) prog_21_method_43_code (3 : Nat) (Option.some Jvm.ClassFile.FieldType.int)) ∈ lw_all := lw_g (lw_at lw_m13 44 rfl) rfl
theorem q3007 : (Jvm.Cond.methodLink "CableTrayPlannerModel" (148 : Nat) ({ cls := "CableTrayPlannerModel", name := "areasIn", desc := "(I)I" } : Jvm.MethodName)) ∈ lw_all := lw_g (lw_at lw_m13 45 rfl) rfl
theorem q3008 : (Jvm.Cond.privateMethod ({ cls := "CableTrayPlannerModel", name := "areasIn", desc := "(I)I" } : Jvm.MethodName)) ∈ lw_tbl := lw_at lw_m13 46 rfl
theorem q3009 : (Jvm.Cond.instanceMethod ({ cls := "CableTrayPlannerModel", name := "areasIn", desc := "(I)I" } : Jvm.MethodName)) ∈ lw_all := lw_g (lw_at lw_m13 47 rfl) rfl
theorem q3010 : (Jvm.Cond.code ({ cls := "CableTrayPlannerModel", name := "areasIn", desc := "(I)I" } : Jvm.MethodName) prog_21_method_42_code (4 : Nat) (Option.some Jvm.ClassFile.FieldType.int)) ∈ lw_all := lw_g (lw_at lw_m13 48 rfl) rfl
theorem q3012 : (Jvm.Cond.instanceMethod ({ cls := "CableTrayPlannerModel", name := "fill", desc := "(I)F" } : Jvm.MethodName)) ∈ lw_all := lw_g (lw_at lw_m13 50 rfl) rfl
theorem q3013 : (Jvm.Cond.selects "CableTrayPlannerModel" ({ cls := "CableTrayPlannerModel", name := "fill", desc := "(I)F" } : Jvm.MethodName) ({ cls := "CableTrayPlannerModel", name := "fill", desc := "(I)F" } : Jvm.MethodName)) ∈ lw_all := lw_g (lw_at lw_m13 51 rfl) rfl
theorem q3014 : (Jvm.Cond.code ({ cls := "CableTrayPlannerModel", name := "fill", desc := "(I)F" } : Jvm.MethodName) prog_21_method_44_code (2 : Nat) (Option.some Jvm.ClassFile.FieldType.float)) ∈ lw_all := lw_g (lw_at lw_m13 52 rfl) rfl
theorem q3016 : (Jvm.Cond.instanceMethod ({ cls := "CableTrayPlannerModel", name := "shortest", desc := "(III)I" } : Jvm.MethodName)) ∈ lw_all := lw_g (lw_at lw_m13 54 rfl) rfl
theorem q3017 : (Jvm.Cond.selects "CableTrayPlannerModel" ({ cls := "CableTrayPlannerModel", name := "shortest", desc := "(III)I" } : Jvm.MethodName) ({ cls := "CableTrayPlannerModel", name := "shortest", desc := "(III)I" } : Jvm.MethodName)) ∈ lw_all := lw_g (lw_at lw_m13 55 rfl) rfl
theorem q3018 : (Jvm.Cond.code ({ cls := "CableTrayPlannerModel", name := "shortest", desc := "(III)I" } : Jvm.MethodName) prog_21_method_49_code (4 : Nat) (Option.some Jvm.ClassFile.FieldType.int)) ∈ lw_all := lw_g (lw_at lw_m13 56 rfl) rfl
theorem q3019 : (Jvm.Cond.methodLink "CableTrayPlannerModel" (164 : Nat) ({ cls := "CableTrayPlannerModel", name := "opens", desc := "(I)V" } : Jvm.MethodName)) ∈ lw_all := lw_g (lw_at lw_m13 57 rfl) rfl
theorem q3020 : (Jvm.Cond.privateMethod ({ cls := "CableTrayPlannerModel", name := "opens", desc := "(I)V" } : Jvm.MethodName)) ∈ lw_tbl := lw_at lw_m13 58 rfl
theorem q3021 : (Jvm.Cond.instanceMethod ({ cls := "CableTrayPlannerModel", name := "opens", desc := "(I)V" } : Jvm.MethodName)) ∈ lw_all := lw_g (lw_at lw_m13 59 rfl) rfl
theorem q3022 : (Jvm.Cond.code ({ cls := "CableTrayPlannerModel", name := "opens", desc := "(I)V" } : Jvm.MethodName) prog_21_method_48_code (3 : Nat) (Option.none : Option Jvm.ClassFile.FieldType)) ∈ lw_all := lw_g (lw_at lw_m13 60 rfl) rfl
theorem q3023 : (Jvm.Cond.methodLink "CableTrayPlannerModel" (168 : Nat) ({ cls := "CableTrayPlannerModel", name := "findsWay", desc := "(II)V" } : Jvm.MethodName)) ∈ lw_all := lw_g (lw_at lw_m13 61 rfl) rfl
theorem q3024 : (Jvm.Cond.privateMethod ({ cls := "CableTrayPlannerModel", name := "findsWay", desc := "(II)V" } : Jvm.MethodName)) ∈ lw_tbl := lw_at lw_m13 62 rfl
theorem q3025 : (Jvm.Cond.instanceMethod ({ cls := "CableTrayPlannerModel", name := "findsWay", desc := "(II)V" } : Jvm.MethodName)) ∈ lw_all := lw_g (lw_at lw_m13 63 rfl) rfl
theorem q3026 : (Jvm.Cond.code ({ cls := "CableTrayPlannerModel", name := "findsWay", desc := "(II)V" } : Jvm.MethodName) prog_21_method_47_code (10 : Nat) (Option.none : Option Jvm.ClassFile.FieldType)) ∈ lw_all := lw_g (lw_at lw_m13 64 rfl) rfl
theorem q3027 : (Jvm.Cond.methodLink "CableTrayPlannerModel" (157 : Nat) ({ cls := "CableTrayPlannerModel", name := "isAt", desc := "(II)Z" } : Jvm.MethodName)) ∈ lw_all := lw_g (lw_at lw_m13 65 rfl) rfl
theorem q3028 : (Jvm.Cond.privateMethod ({ cls := "CableTrayPlannerModel", name := "isAt", desc := "(II)Z" } : Jvm.MethodName)) ∈ lw_tbl := lw_at lw_m13 66 rfl
theorem q3029 : (Jvm.Cond.instanceMethod ({ cls := "CableTrayPlannerModel", name := "isAt", desc := "(II)Z" } : Jvm.MethodName)) ∈ lw_all := lw_g (lw_at lw_m13 67 rfl) rfl
theorem q3030 : (Jvm.Cond.code ({ cls := "CableTrayPlannerModel", name := "isAt", desc := "(II)Z" } : Jvm.MethodName) prog_21_method_46_code (3 : Nat) (Option.some Jvm.ClassFile.FieldType.boolean)) ∈ lw_all := lw_g (lw_at lw_m13 68 rfl) rfl
theorem q3031 : (Jvm.Cond.methodLink "CableTrayPlannerModel" (161 : Nat) ({ cls := "CableTrayPlannerModel", name := "other", desc := "(II)I" } : Jvm.MethodName)) ∈ lw_all := lw_g (lw_at lw_m13 69 rfl) rfl
theorem q3032 : (Jvm.Cond.privateMethod ({ cls := "CableTrayPlannerModel", name := "other", desc := "(II)I" } : Jvm.MethodName)) ∈ lw_tbl := lw_at lw_m13 70 rfl
theorem q3033 : (Jvm.Cond.instanceMethod ({ cls := "CableTrayPlannerModel", name := "other", desc := "(II)I" } : Jvm.MethodName)) ∈ lw_all := lw_g (lw_at lw_m13 71 rfl) rfl
theorem q3034 : (Jvm.Cond.code ({ cls := "CableTrayPlannerModel", name := "other", desc := "(II)I" } : Jvm.MethodName) prog_21_method_45_code (3 : Nat) (Option.some Jvm.ClassFile.FieldType.int)) ∈ lw_all := lw_g (lw_at lw_m13 72 rfl) rfl
theorem q3036 : (Jvm.Cond.instanceMethod ({ cls := "CableTrayPlannerModel", name := "route", desc := "(I)I" } : Jvm.MethodName)) ∈ lw_all := lw_g (lw_at lw_m13 74 rfl) rfl
theorem q3037 : (Jvm.Cond.selects "CableTrayPlannerModel" ({ cls := "CableTrayPlannerModel", name := "route", desc := "(I)I" } : Jvm.MethodName) ({ cls := "CableTrayPlannerModel", name := "route", desc := "(I)I" } : Jvm.MethodName)) ∈ lw_all := lw_g (lw_at lw_m13 75 rfl) rfl
theorem q3038 : (Jvm.Cond.code ({ cls := "CableTrayPlannerModel", name := "route", desc := "(I)I" } : Jvm.MethodName) prog_21_method_54_code (5 : Nat) (Option.some Jvm.ClassFile.FieldType.int)) ∈ lw_all := lw_g (lw_at lw_m13 76 rfl) rfl
theorem q3039 : (Jvm.Cond.methodLink "CableTrayPlannerModel" (184 : Nat) ({ cls := "CableTrayPlannerModel", name := "isCable", desc := "(I)Z" } : Jvm.MethodName)) ∈ lw_all := lw_g (lw_at lw_m13 77 rfl) rfl
theorem q3040 : (Jvm.Cond.privateMethod ({ cls := "CableTrayPlannerModel", name := "isCable", desc := "(I)Z" } : Jvm.MethodName)) ∈ lw_tbl := lw_at lw_m13 78 rfl
theorem q3041 : (Jvm.Cond.instanceMethod ({ cls := "CableTrayPlannerModel", name := "isCable", desc := "(I)Z" } : Jvm.MethodName)) ∈ lw_all := lw_g (lw_at lw_m13 79 rfl) rfl
theorem q3042 : (Jvm.Cond.code ({ cls := "CableTrayPlannerModel", name := "isCable", desc := "(I)Z" } : Jvm.MethodName) prog_21_method_19_code (2 : Nat) (Option.some Jvm.ClassFile.FieldType.boolean)) ∈ lw_all := lw_g (lw_at lw_m13 80 rfl) rfl
theorem q3043 : (Jvm.Cond.methodLink "CableTrayPlannerModel" (181 : Nat) ({ cls := "CableTrayPlannerModel", name := "refuses", desc := "(II)I" } : Jvm.MethodName)) ∈ lw_all := lw_g (lw_at lw_m13 81 rfl) rfl
theorem q3044 : (Jvm.Cond.privateMethod ({ cls := "CableTrayPlannerModel", name := "refuses", desc := "(II)I" } : Jvm.MethodName)) ∈ lw_tbl := lw_at lw_m13 82 rfl
theorem q3045 : (Jvm.Cond.instanceMethod ({ cls := "CableTrayPlannerModel", name := "refuses", desc := "(II)I" } : Jvm.MethodName)) ∈ lw_all := lw_g (lw_at lw_m13 83 rfl) rfl
theorem q3046 : (Jvm.Cond.code ({ cls := "CableTrayPlannerModel", name := "refuses", desc := "(II)I" } : Jvm.MethodName) prog_21_method_50_code (3 : Nat) (Option.some Jvm.ClassFile.FieldType.int)) ∈ lw_all := lw_g (lw_at lw_m13 84 rfl) rfl
theorem q3047 : (Jvm.Cond.methodLink "CableTrayPlannerModel" (175 : Nat) ({ cls := "CableTrayPlannerModel", name := "fails", desc := "(I)I" } : Jvm.MethodName)) ∈ lw_all := lw_g (lw_at lw_m13 85 rfl) rfl
theorem q3048 : (Jvm.Cond.privateMethod ({ cls := "CableTrayPlannerModel", name := "fails", desc := "(I)I" } : Jvm.MethodName)) ∈ lw_tbl := lw_at lw_m13 86 rfl
theorem q3049 : (Jvm.Cond.instanceMethod ({ cls := "CableTrayPlannerModel", name := "fails", desc := "(I)I" } : Jvm.MethodName)) ∈ lw_all := lw_g (lw_at lw_m13 87 rfl) rfl
theorem q3050 : (Jvm.Cond.code ({ cls := "CableTrayPlannerModel", name := "fails", desc := "(I)I" } : Jvm.MethodName) prog_21_method_4_code (2 : Nat) (Option.some Jvm.ClassFile.FieldType.int)) ∈ lw_all := lw_g (lw_at lw_m13 88 rfl) rfl
theorem q3051 : (Jvm.Cond.methodLink "CableTrayPlannerModel" (187 : Nat) ({ cls := "CableTrayPlannerModel", name := "refusesWay", desc := "(I)I" } : Jvm.MethodName)) ∈ lw_all := lw_g (lw_at lw_m13 89 rfl) rfl
theorem q3052 : (Jvm.Cond.privateMethod ({ cls := "CableTrayPlannerModel", name := "refusesWay", desc := "(I)I" } : Jvm.MethodName)) ∈ lw_tbl := lw_at lw_m13 90 rfl
theorem q3053 : (Jvm.Cond.instanceMethod ({ cls := "CableTrayPlannerModel", name := "refusesWay", desc := "(I)I" } : Jvm.MethodName)) ∈ lw_all := lw_g (lw_at lw_m13 91 rfl) rfl
theorem q3054 : (Jvm.Cond.code ({ cls := "CableTrayPlannerModel", name := "refusesWay", desc := "(I)I" } : Jvm.MethodName) prog_21_method_53_code (3 : Nat) (Option.some Jvm.ClassFile.FieldType.int)) ∈ lw_all := lw_g (lw_at lw_m13 92 rfl) rfl
theorem q3055 : (Jvm.Cond.methodLink "CableTrayPlannerModel" (190 : Nat) ({ cls := "CableTrayPlannerModel", name := "needs", desc := "(I)I" } : Jvm.MethodName)) ∈ lw_all := lw_g (lw_at lw_m13 93 rfl) rfl
theorem q3056 : (Jvm.Cond.privateMethod ({ cls := "CableTrayPlannerModel", name := "needs", desc := "(I)I" } : Jvm.MethodName)) ∈ lw_tbl := lw_at lw_m13 94 rfl
theorem q3057 : (Jvm.Cond.instanceMethod ({ cls := "CableTrayPlannerModel", name := "needs", desc := "(I)I" } : Jvm.MethodName)) ∈ lw_all := lw_g (lw_at lw_m13 95 rfl) rfl
theorem q3058 : (Jvm.Cond.code ({ cls := "CableTrayPlannerModel", name := "needs", desc := "(I)I" } : Jvm.MethodName) prog_21_method_52_code (2 : Nat) (Option.some Jvm.ClassFile.FieldType.int)) ∈ lw_all := lw_g (lw_at lw_m13 96 rfl) rfl
theorem q3059 : (Jvm.Cond.methodLink "CableTrayPlannerModel" (178 : Nat) ({ cls := "CableTrayPlannerModel", name := "lengthOf", desc := "(I)I" } : Jvm.MethodName)) ∈ lw_all := lw_g (lw_at lw_m13 97 rfl) rfl
theorem q3060 : (Jvm.Cond.privateMethod ({ cls := "CableTrayPlannerModel", name := "lengthOf", desc := "(I)I" } : Jvm.MethodName)) ∈ lw_tbl := lw_at lw_m13 98 rfl
theorem q3061 : (Jvm.Cond.instanceMethod ({ cls := "CableTrayPlannerModel", name := "lengthOf", desc := "(I)I" } : Jvm.MethodName)) ∈ lw_all := lw_g (lw_at lw_m13 99 rfl) rfl
theorem q3062 : (Jvm.Cond.code ({ cls := "CableTrayPlannerModel", name := "lengthOf", desc := "(I)I" } : Jvm.MethodName) prog_21_method_51_code (4 : Nat) (Option.some Jvm.ClassFile.FieldType.int)) ∈ lw_all := lw_g (lw_at lw_m13 100 rfl) rfl
theorem q3064 : (Jvm.Cond.instanceMethod ({ cls := "CableTrayPlannerModel", name := "free", desc := "(I)I" } : Jvm.MethodName)) ∈ lw_all := lw_g (lw_at lw_m13 102 rfl) rfl
theorem q3065 : (Jvm.Cond.selects "CableTrayPlannerModel" ({ cls := "CableTrayPlannerModel", name := "free", desc := "(I)I" } : Jvm.MethodName) ({ cls := "CableTrayPlannerModel", name := "free", desc := "(I)I" } : Jvm.MethodName)) ∈ lw_all := lw_g (lw_at lw_m13 103 rfl) rfl
theorem q3066 : (Jvm.Cond.code ({ cls := "CableTrayPlannerModel", name := "free", desc := "(I)I" } : Jvm.MethodName) prog_21_method_55_code (2 : Nat) (Option.some Jvm.ClassFile.FieldType.int)) ∈ lw_all := lw_g (lw_at lw_m13 104 rfl) rfl
theorem q3067 : (Jvm.Cond.methodLink "CableTrayPlannerModel" (193 : Nat) ({ cls := "CableTrayPlannerModel", name := "leaves", desc := "(I)I" } : Jvm.MethodName)) ∈ lw_all := lw_g (lw_at lw_m13 105 rfl) rfl
theorem q3068 : (Jvm.Cond.privateMethod ({ cls := "CableTrayPlannerModel", name := "leaves", desc := "(I)I" } : Jvm.MethodName)) ∈ lw_tbl := lw_at lw_m13 106 rfl
theorem q3069 : (Jvm.Cond.instanceMethod ({ cls := "CableTrayPlannerModel", name := "leaves", desc := "(I)I" } : Jvm.MethodName)) ∈ lw_all := lw_g (lw_at lw_m13 107 rfl) rfl
theorem q3070 : (Jvm.Cond.code ({ cls := "CableTrayPlannerModel", name := "leaves", desc := "(I)I" } : Jvm.MethodName) prog_21_method_56_code (3 : Nat) (Option.some Jvm.ClassFile.FieldType.int)) ∈ lw_all := lw_g (lw_at lw_m13 108 rfl) rfl
theorem q3072 : (Jvm.Cond.instanceMethod ({ cls := "CableTrayPlannerModel", name := "cut", desc := "(I)I" } : Jvm.MethodName)) ∈ lw_all := lw_g (lw_at lw_m13 110 rfl) rfl
theorem q3073 : (Jvm.Cond.selects "CableTrayPlannerModel" ({ cls := "CableTrayPlannerModel", name := "cut", desc := "(I)I" } : Jvm.MethodName) ({ cls := "CableTrayPlannerModel", name := "cut", desc := "(I)I" } : Jvm.MethodName)) ∈ lw_all := lw_g (lw_at lw_m13 111 rfl) rfl
theorem q3074 : (Jvm.Cond.code ({ cls := "CableTrayPlannerModel", name := "cut", desc := "(I)I" } : Jvm.MethodName) prog_21_method_58_code (6 : Nat) (Option.some Jvm.ClassFile.FieldType.int)) ∈ lw_all := lw_g (lw_at lw_m13 112 rfl) rfl
theorem q3075 : (Jvm.Cond.methodLink "CableTrayPlannerModel" (196 : Nat) ({ cls := "CableTrayPlannerModel", name := "drumTold", desc := "(II)I" } : Jvm.MethodName)) ∈ lw_all := lw_g (lw_at lw_m13 113 rfl) rfl
theorem q3076 : (Jvm.Cond.privateMethod ({ cls := "CableTrayPlannerModel", name := "drumTold", desc := "(II)I" } : Jvm.MethodName)) ∈ lw_tbl := lw_at lw_m13 114 rfl
theorem q3077 : (Jvm.Cond.instanceMethod ({ cls := "CableTrayPlannerModel", name := "drumTold", desc := "(II)I" } : Jvm.MethodName)) ∈ lw_all := lw_g (lw_at lw_m13 115 rfl) rfl
theorem q3078 : (Jvm.Cond.code ({ cls := "CableTrayPlannerModel", name := "drumTold", desc := "(II)I" } : Jvm.MethodName) prog_21_method_57_code (3 : Nat) (Option.some Jvm.ClassFile.FieldType.int)) ∈ lw_all := lw_g (lw_at lw_m13 116 rfl) rfl
theorem q3080 : (Jvm.Cond.instanceMethod ({ cls := "CableTrayPlannerModel", name := "scrap", desc := "(I)I" } : Jvm.MethodName)) ∈ lw_all := lw_g (lw_at lw_m13 118 rfl) rfl
theorem q3081 : (Jvm.Cond.selects "CableTrayPlannerModel" ({ cls := "CableTrayPlannerModel", name := "scrap", desc := "(I)I" } : Jvm.MethodName) ({ cls := "CableTrayPlannerModel", name := "scrap", desc := "(I)I" } : Jvm.MethodName)) ∈ lw_all := lw_g (lw_at lw_m13 119 rfl) rfl
theorem q3082 : (Jvm.Cond.code ({ cls := "CableTrayPlannerModel", name := "scrap", desc := "(I)I" } : Jvm.MethodName) prog_21_method_59_code (3 : Nat) (Option.some Jvm.ClassFile.FieldType.int)) ∈ lw_all := lw_g (lw_at lw_m13 120 rfl) rfl
theorem q3084 : (Jvm.Cond.instanceMethod ({ cls := "CableTrayPlannerModel", name := "refusal", desc := "(I)I" } : Jvm.MethodName)) ∈ lw_all := lw_g (lw_at lw_m13 122 rfl) rfl
theorem q3085 : (Jvm.Cond.selects "CableTrayPlannerModel" ({ cls := "CableTrayPlannerModel", name := "refusal", desc := "(I)I" } : Jvm.MethodName) ({ cls := "CableTrayPlannerModel", name := "refusal", desc := "(I)I" } : Jvm.MethodName)) ∈ lw_all := lw_g (lw_at lw_m13 123 rfl) rfl
theorem q3086 : (Jvm.Cond.code ({ cls := "CableTrayPlannerModel", name := "refusal", desc := "(I)I" } : Jvm.MethodName) prog_21_method_60_code (2 : Nat) (Option.some Jvm.ClassFile.FieldType.int)) ∈ lw_all := lw_g (lw_at lw_m13 124 rfl) rfl
theorem q3088 : (Jvm.Cond.instanceMethod ({ cls := "CableTrayPlannerModel", name := "cable", desc := "(II)I" } : Jvm.MethodName)) ∈ lw_all := lw_g (lw_at lw_m13 126 rfl) rfl
theorem q3089 : (Jvm.Cond.selects "CableTrayPlannerModel" ({ cls := "CableTrayPlannerModel", name := "cable", desc := "(II)I" } : Jvm.MethodName) ({ cls := "CableTrayPlannerModel", name := "cable", desc := "(II)I" } : Jvm.MethodName)) ∈ lw_all := lw_g (lw_at lw_m13 127 rfl) rfl
theorem q3090 : (Jvm.Cond.code ({ cls := "CableTrayPlannerModel", name := "cable", desc := "(II)I" } : Jvm.MethodName) prog_21_method_62_code (3 : Nat) (Option.some Jvm.ClassFile.FieldType.int)) ∈ lw_all := lw_g (lw_at lw_m13 128 rfl) rfl
theorem q3091 : (Jvm.Cond.methodLink "CableTrayPlannerModel" (199 : Nat) ({ cls := "CableTrayPlannerModel", name := "lengthNow", desc := "(I)I" } : Jvm.MethodName)) ∈ lw_all := lw_g (lw_at lw_m13 129 rfl) rfl
theorem q3092 : (Jvm.Cond.privateMethod ({ cls := "CableTrayPlannerModel", name := "lengthNow", desc := "(I)I" } : Jvm.MethodName)) ∈ lw_tbl := lw_at lw_m13 130 rfl
theorem q3093 : (Jvm.Cond.instanceMethod ({ cls := "CableTrayPlannerModel", name := "lengthNow", desc := "(I)I" } : Jvm.MethodName)) ∈ lw_all := lw_g (lw_at lw_m13 131 rfl) rfl
theorem q3094 : (Jvm.Cond.code ({ cls := "CableTrayPlannerModel", name := "lengthNow", desc := "(I)I" } : Jvm.MethodName) prog_21_method_61_code (2 : Nat) (Option.some Jvm.ClassFile.FieldType.int)) ∈ lw_all := lw_g (lw_at lw_m13 132 rfl) rfl
theorem q3096 : (Jvm.Cond.instanceMethod ({ cls := "CableTrayPlannerModel", name := "step", desc := "(IIZ)I" } : Jvm.MethodName)) ∈ lw_all := lw_g (lw_at lw_m13 134 rfl) rfl
theorem q3097 : (Jvm.Cond.selects "CableTrayPlannerModel" ({ cls := "CableTrayPlannerModel", name := "step", desc := "(IIZ)I" } : Jvm.MethodName) ({ cls := "CableTrayPlannerModel", name := "step", desc := "(IIZ)I" } : Jvm.MethodName)) ∈ lw_all := lw_g (lw_at lw_m13 135 rfl) rfl
theorem q3098 : (Jvm.Cond.code ({ cls := "CableTrayPlannerModel", name := "step", desc := "(IIZ)I" } : Jvm.MethodName) prog_21_method_63_code (4 : Nat) (Option.some Jvm.ClassFile.FieldType.int)) ∈ lw_all := lw_g (lw_at lw_m13 136 rfl) rfl
theorem q3100 : (Jvm.Cond.instanceMethod ({ cls := "CableTrayPlannerModel", name := "planner", desc := "(I)I" } : Jvm.MethodName)) ∈ lw_all := lw_g (lw_at lw_m13 138 rfl) rfl
theorem q3101 : (Jvm.Cond.selects "CableTrayPlannerModel" ({ cls := "CableTrayPlannerModel", name := "planner", desc := "(I)I" } : Jvm.MethodName) ({ cls := "CableTrayPlannerModel", name := "planner", desc := "(I)I" } : Jvm.MethodName)) ∈ lw_all := lw_g (lw_at lw_m13 139 rfl) rfl
theorem q3102 : (Jvm.Cond.code ({ cls := "CableTrayPlannerModel", name := "planner", desc := "(I)I" } : Jvm.MethodName) prog_21_method_66_code (2 : Nat) (Option.some Jvm.ClassFile.FieldType.int)) ∈ lw_all := lw_g (lw_at lw_m13 140 rfl) rfl
theorem q3103 : (Jvm.Cond.methodLink "CableTrayPlannerModel" (202 : Nat) ({ cls := "CableTrayPlannerModel", name := "sumOfDrums", desc := "(II)I" } : Jvm.MethodName)) ∈ lw_all := lw_g (lw_at lw_m13 141 rfl) rfl
theorem q3104 : (Jvm.Cond.privateMethod ({ cls := "CableTrayPlannerModel", name := "sumOfDrums", desc := "(II)I" } : Jvm.MethodName)) ∈ lw_tbl := lw_at lw_m13 142 rfl
theorem q3105 : (Jvm.Cond.instanceMethod ({ cls := "CableTrayPlannerModel", name := "sumOfDrums", desc := "(II)I" } : Jvm.MethodName)) ∈ lw_all := lw_g (lw_at lw_m13 143 rfl) rfl
theorem q3106 : (Jvm.Cond.code ({ cls := "CableTrayPlannerModel", name := "sumOfDrums", desc := "(II)I" } : Jvm.MethodName) prog_21_method_64_code (5 : Nat) (Option.some Jvm.ClassFile.FieldType.int)) ∈ lw_all := lw_g (lw_at lw_m13 144 rfl) rfl
theorem q3107 : (Jvm.Cond.methodLink "CableTrayPlannerModel" (205 : Nat) ({ cls := "CableTrayPlannerModel", name := "cutLengths", desc := "()I" } : Jvm.MethodName)) ∈ lw_all := lw_g (lw_at lw_m13 145 rfl) rfl
theorem q3108 : (Jvm.Cond.privateMethod ({ cls := "CableTrayPlannerModel", name := "cutLengths", desc := "()I" } : Jvm.MethodName)) ∈ lw_tbl := lw_at lw_m13 146 rfl
theorem q3109 : (Jvm.Cond.instanceMethod ({ cls := "CableTrayPlannerModel", name := "cutLengths", desc := "()I" } : Jvm.MethodName)) ∈ lw_all := lw_g (lw_at lw_m13 147 rfl) rfl
theorem q3110 : (Jvm.Cond.code ({ cls := "CableTrayPlannerModel", name := "cutLengths", desc := "()I" } : Jvm.MethodName) prog_21_method_65_code (3 : Nat) (Option.some Jvm.ClassFile.FieldType.int)) ∈ lw_all := lw_g (lw_at lw_m13 148 rfl) rfl
theorem q3112 : (Jvm.Cond.instanceMethod ({ cls := "CableTrayPlannerModel", name := "type", desc := "(II)I" } : Jvm.MethodName)) ∈ lw_all := lw_g (lw_at lw_m13 150 rfl) rfl
theorem q3113 : (Jvm.Cond.selects "CableTrayPlannerModel" ({ cls := "CableTrayPlannerModel", name := "type", desc := "(II)I" } : Jvm.MethodName) ({ cls := "CableTrayPlannerModel", name := "type", desc := "(II)I" } : Jvm.MethodName)) ∈ lw_all := lw_g (lw_at lw_m13 151 rfl) rfl
theorem q3114 : (Jvm.Cond.code ({ cls := "CableTrayPlannerModel", name := "type", desc := "(II)I" } : Jvm.MethodName) prog_21_method_67_code (5 : Nat) (Option.some Jvm.ClassFile.FieldType.int)) ∈ lw_all := lw_g (lw_at lw_m13 152 rfl) rfl
theorem q3116 : (Jvm.Cond.instanceMethod ({ cls := "CableTrayPlannerModel", name := "letter", desc := "(II)C" } : Jvm.MethodName)) ∈ lw_all := lw_g (lw_at lw_m13 154 rfl) rfl
theorem q3117 : (Jvm.Cond.selects "CableTrayPlannerModel" ({ cls := "CableTrayPlannerModel", name := "letter", desc := "(II)C" } : Jvm.MethodName) ({ cls := "CableTrayPlannerModel", name := "letter", desc := "(II)C" } : Jvm.MethodName)) ∈ lw_all := lw_g (lw_at lw_m13 155 rfl) rfl
theorem q3118 : (Jvm.Cond.code ({ cls := "CableTrayPlannerModel", name := "letter", desc := "(II)C" } : Jvm.MethodName) prog_21_method_68_code (3 : Nat) (Option.some Jvm.ClassFile.FieldType.char)) ∈ lw_all := lw_g (lw_at lw_m13 156 rfl) rfl
theorem q3120 : (Jvm.Cond.instanceMethod ({ cls := "CableTrayPlannerModel", name := "drum", desc := "(II)I" } : Jvm.MethodName)) ∈ lw_all := lw_g (lw_at lw_m13 158 rfl) rfl
theorem q3121 : (Jvm.Cond.selects "CableTrayPlannerModel" ({ cls := "CableTrayPlannerModel", name := "drum", desc := "(II)I" } : Jvm.MethodName) ({ cls := "CableTrayPlannerModel", name := "drum", desc := "(II)I" } : Jvm.MethodName)) ∈ lw_all := lw_g (lw_at lw_m13 159 rfl) rfl
theorem q3122 : (Jvm.Cond.code ({ cls := "CableTrayPlannerModel", name := "drum", desc := "(II)I" } : Jvm.MethodName) prog_21_method_69_code (5 : Nat) (Option.some Jvm.ClassFile.FieldType.int)) ∈ lw_all := lw_g (lw_at lw_m13 160 rfl) rfl
theorem q3123 : (Jvm.Cond.methodLink "CableTrayPlannerModel" (212 : Nat) ({ cls := "CableTrayPlannerModel", name := "isDrum", desc := "(I)Z" } : Jvm.MethodName)) ∈ lw_all := lw_g (lw_at lw_m13 161 rfl) rfl
theorem q3124 : (Jvm.Cond.privateMethod ({ cls := "CableTrayPlannerModel", name := "isDrum", desc := "(I)Z" } : Jvm.MethodName)) ∈ lw_tbl := lw_at lw_m13 162 rfl
theorem q3125 : (Jvm.Cond.instanceMethod ({ cls := "CableTrayPlannerModel", name := "isDrum", desc := "(I)Z" } : Jvm.MethodName)) ∈ lw_all := lw_g (lw_at lw_m13 163 rfl) rfl
theorem q3126 : (Jvm.Cond.code ({ cls := "CableTrayPlannerModel", name := "isDrum", desc := "(I)Z" } : Jvm.MethodName) prog_21_method_20_code (2 : Nat) (Option.some Jvm.ClassFile.FieldType.boolean)) ∈ lw_all := lw_g (lw_at lw_m13 164 rfl) rfl
theorem q3128 : (Jvm.Cond.instanceMethod ({ cls := "CableTrayPlannerModel", name := "fewestDrums", desc := "(I)I" } : Jvm.MethodName)) ∈ lw_all := lw_g (lw_at lw_m13 166 rfl) rfl
theorem q3129 : (Jvm.Cond.selects "CableTrayPlannerModel" ({ cls := "CableTrayPlannerModel", name := "fewestDrums", desc := "(I)I" } : Jvm.MethodName) ({ cls := "CableTrayPlannerModel", name := "fewestDrums", desc := "(I)I" } : Jvm.MethodName)) ∈ lw_all := lw_g (lw_at lw_m13 167 rfl) rfl
theorem q3130 : (Jvm.Cond.code ({ cls := "CableTrayPlannerModel", name := "fewestDrums", desc := "(I)I" } : Jvm.MethodName) prog_21_method_71_code (10 : Nat) (Option.some Jvm.ClassFile.FieldType.int)) ∈ lw_all := lw_g (lw_at lw_m13 168 rfl) rfl
theorem q3131 : (Jvm.Cond.methodLink "CableTrayPlannerModel" (215 : Nat) ({ cls := "CableTrayPlannerModel", name := "findsRests", desc := "(I)I" } : Jvm.MethodName)) ∈ lw_all := lw_g (lw_at lw_m13 169 rfl) rfl
theorem q3132 : (Jvm.Cond.privateMethod ({ cls := "CableTrayPlannerModel", name := "findsRests", desc := "(I)I" } : Jvm.MethodName)) ∈ lw_tbl := lw_at lw_m13 170 rfl
theorem q3133 : (Jvm.Cond.instanceMethod ({ cls := "CableTrayPlannerModel", name := "findsRests", desc := "(I)I" } : Jvm.MethodName)) ∈ lw_all := lw_g (lw_at lw_m13 171 rfl) rfl
theorem q3134 : (Jvm.Cond.code ({ cls := "CableTrayPlannerModel", name := "findsRests", desc := "(I)I" } : Jvm.MethodName) prog_21_method_70_code (5 : Nat) (Option.some Jvm.ClassFile.FieldType.int)) ∈ lw_all := lw_g (lw_at lw_m13 172 rfl) rfl
theorem q3136 : (Jvm.Cond.instanceMethod ({ cls := "CableTrayPlannerModel", name := "meanLength", desc := "()D" } : Jvm.MethodName)) ∈ lw_all := lw_g (lw_at lw_m13 174 rfl) rfl
theorem q3137 : (Jvm.Cond.selects "CableTrayPlannerModel" ({ cls := "CableTrayPlannerModel", name := "meanLength", desc := "()D" } : Jvm.MethodName) ({ cls := "CableTrayPlannerModel", name := "meanLength", desc := "()D" } : Jvm.MethodName)) ∈ lw_all := lw_g (lw_at lw_m13 175 rfl) rfl
theorem q3138 : (Jvm.Cond.code ({ cls := "CableTrayPlannerModel", name := "meanLength", desc := "()D" } : Jvm.MethodName) prog_21_method_72_code (4 : Nat) (Option.some Jvm.ClassFile.FieldType.double)) ∈ lw_all := lw_g (lw_at lw_m13 176 rfl) rfl
theorem q3140 : (Jvm.Cond.instanceMethod ({ cls := "CableTrayPlannerModel", name := "isConsistent", desc := "()Z" } : Jvm.MethodName)) ∈ lw_all := lw_g (lw_at lw_m13 178 rfl) rfl
theorem q3141 : (Jvm.Cond.selects "CableTrayPlannerModel" ({ cls := "CableTrayPlannerModel", name := "isConsistent", desc := "()Z" } : Jvm.MethodName) ({ cls := "CableTrayPlannerModel", name := "isConsistent", desc := "()Z" } : Jvm.MethodName)) ∈ lw_all := lw_g (lw_at lw_m13 179 rfl) rfl
theorem q3142 : (Jvm.Cond.code ({ cls := "CableTrayPlannerModel", name := "isConsistent", desc := "()Z" } : Jvm.MethodName) prog_21_method_74_code (3 : Nat) (Option.some Jvm.ClassFile.FieldType.boolean)) ∈ lw_all := lw_g (lw_at lw_m13 180 rfl) rfl
theorem q3143 : (Jvm.Cond.methodLink "CableTrayPlannerModel" (218 : Nat) ({ cls := "CableTrayPlannerModel", name := "leadsOn", desc := "(I)Z" } : Jvm.MethodName)) ∈ lw_all := lw_g (lw_at lw_m13 181 rfl) rfl
theorem q3144 : (Jvm.Cond.privateMethod ({ cls := "CableTrayPlannerModel", name := "leadsOn", desc := "(I)Z" } : Jvm.MethodName)) ∈ lw_tbl := lw_at lw_m13 182 rfl
theorem q3145 : (Jvm.Cond.instanceMethod ({ cls := "CableTrayPlannerModel", name := "leadsOn", desc := "(I)Z" } : Jvm.MethodName)) ∈ lw_all := lw_g (lw_at lw_m13 183 rfl) rfl
theorem q3146 : (Jvm.Cond.code ({ cls := "CableTrayPlannerModel", name := "leadsOn", desc := "(I)Z" } : Jvm.MethodName) prog_21_method_73_code (4 : Nat) (Option.some Jvm.ClassFile.FieldType.boolean)) ∈ lw_all := lw_g (lw_at lw_m13 184 rfl) rfl
theorem q3148 : (Jvm.Cond.instanceMethod ({ cls := "CableTrayPlannerModel", name := "append", desc := "(I)I" } : Jvm.MethodName)) ∈ lw_all := lw_g (lw_at lw_m13 186 rfl) rfl
theorem q3149 : (Jvm.Cond.selects "CableTrayPlannerModel" ({ cls := "CableTrayPlannerModel", name := "append", desc := "(I)I" } : Jvm.MethodName) ({ cls := "CableTrayPlannerModel", name := "append", desc := "(I)I" } : Jvm.MethodName)) ∈ lw_all := lw_g (lw_at lw_m13 187 rfl) rfl
theorem q3150 : (Jvm.Cond.code ({ cls := "CableTrayPlannerModel", name := "append", desc := "(I)I" } : Jvm.MethodName) prog_21_method_75_code (5 : Nat) (Option.some Jvm.ClassFile.FieldType.int)) ∈ lw_all := lw_g (lw_at lw_m13 188 rfl) rfl
theorem q3152 : (Jvm.Cond.instanceMethod ({ cls := "CableTrayPlannerModel", name := "typeNamed", desc := "()I" } : Jvm.MethodName)) ∈ lw_all := lw_g (lw_at lw_m13 190 rfl) rfl
theorem q3153 : (Jvm.Cond.selects "CableTrayPlannerModel" ({ cls := "CableTrayPlannerModel", name := "typeNamed", desc := "()I" } : Jvm.MethodName) ({ cls := "CableTrayPlannerModel", name := "typeNamed", desc := "()I" } : Jvm.MethodName)) ∈ lw_all := lw_g (lw_at lw_m13 191 rfl) rfl
theorem q3154 : (Jvm.Cond.code ({ cls := "CableTrayPlannerModel", name := "typeNamed", desc := "()I" } : Jvm.MethodName) prog_21_method_84_code (1 : Nat) (Option.some Jvm.ClassFile.FieldType.int)) ∈ lw_all := lw_g (lw_at lw_m13 192 rfl) rfl
theorem q3155 : (Jvm.Cond.methodLink "CableTrayPlannerModel" (246 : Nat) ({ cls := "CableTrayPlannerModel", name := "named", desc := "([III)I" } : Jvm.MethodName)) ∈ lw_all := lw_g (lw_at lw_m13 193 rfl) rfl
theorem q3156 : (Jvm.Cond.privateMethod ({ cls := "CableTrayPlannerModel", name := "named", desc := "([III)I" } : Jvm.MethodName)) ∈ lw_tbl := lw_at lw_m13 194 rfl
theorem q3157 : (Jvm.Cond.instanceMethod ({ cls := "CableTrayPlannerModel", name := "named", desc := "([III)I" } : Jvm.MethodName)) ∈ lw_all := lw_g (lw_at lw_m13 195 rfl) rfl
theorem q3158 : (Jvm.Cond.code ({ cls := "CableTrayPlannerModel", name := "named", desc := "([III)I" } : Jvm.MethodName) prog_21_method_83_code (7 : Nat) (Option.some Jvm.ClassFile.FieldType.int)) ∈ lw_all := lw_g (lw_at lw_m13 196 rfl) rfl
theorem q3160 : (Jvm.Cond.instanceMethod ({ cls := "CableTrayPlannerModel", name := "read", desc := "()I" } : Jvm.MethodName)) ∈ lw_all := lw_g (lw_at lw_m13 198 rfl) rfl
theorem q3161 : (Jvm.Cond.selects "CableTrayPlannerModel" ({ cls := "CableTrayPlannerModel", name := "read", desc := "()I" } : Jvm.MethodName) ({ cls := "CableTrayPlannerModel", name := "read", desc := "()I" } : Jvm.MethodName)) ∈ lw_all := lw_g (lw_at lw_m13 199 rfl) rfl
theorem q3162 : (Jvm.Cond.code ({ cls := "CableTrayPlannerModel", name := "read", desc := "()I" } : Jvm.MethodName) prog_21_method_87_code (3 : Nat) (Option.some Jvm.ClassFile.FieldType.int)) ∈ lw_all := lw_g (lw_at lw_m13 200 rfl) rfl
theorem q3163 : (Jvm.Cond.methodLink "CableTrayPlannerModel" (264 : Nat) ({ cls := "CableTrayPlannerModel", name := "isText", desc := "()Z" } : Jvm.MethodName)) ∈ lw_all := lw_g (lw_at lw_m13 201 rfl) rfl
theorem q3164 : (Jvm.Cond.privateMethod ({ cls := "CableTrayPlannerModel", name := "isText", desc := "()Z" } : Jvm.MethodName)) ∈ lw_tbl := lw_at lw_m13 202 rfl
theorem q3165 : (Jvm.Cond.instanceMethod ({ cls := "CableTrayPlannerModel", name := "isText", desc := "()Z" } : Jvm.MethodName)) ∈ lw_all := lw_g (lw_at lw_m13 203 rfl) rfl
theorem q3166 : (Jvm.Cond.code ({ cls := "CableTrayPlannerModel", name := "isText", desc := "()Z" } : Jvm.MethodName) prog_21_method_82_code (1 : Nat) (Option.some Jvm.ClassFile.FieldType.boolean)) ∈ lw_all := lw_g (lw_at lw_m13 204 rfl) rfl
theorem q3167 : (Jvm.Cond.methodLink "CableTrayPlannerModel" (242 : Nat) ({ cls := "CableTrayPlannerModel", name := "item", desc := "()Z" } : Jvm.MethodName)) ∈ lw_all := lw_g (lw_at lw_m13 205 rfl) rfl
theorem q3168 : (Jvm.Cond.privateMethod ({ cls := "CableTrayPlannerModel", name := "item", desc := "()Z" } : Jvm.MethodName)) ∈ lw_tbl := lw_at lw_m13 206 rfl
theorem q3169 : (Jvm.Cond.instanceMethod ({ cls := "CableTrayPlannerModel", name := "item", desc := "()Z" } : Jvm.MethodName)) ∈ lw_all := lw_g (lw_at lw_m13 207 rfl) rfl
theorem q3170 : (Jvm.Cond.code ({ cls := "CableTrayPlannerModel", name := "item", desc := "()Z" } : Jvm.MethodName) prog_21_method_81_code (3 : Nat) (Option.some Jvm.ClassFile.FieldType.boolean)) ∈ lw_all := lw_g (lw_at lw_m13 208 rfl) rfl
theorem q3171 : (Jvm.Cond.methodLink "CableTrayPlannerModel" (224 : Nat) ({ cls := "CableTrayPlannerModel", name := "here", desc := "()I" } : Jvm.MethodName)) ∈ lw_all := lw_g (lw_at lw_m13 209 rfl) rfl
theorem q3172 : (Jvm.Cond.privateMethod ({ cls := "CableTrayPlannerModel", name := "here", desc := "()I" } : Jvm.MethodName)) ∈ lw_tbl := lw_at lw_m13 210 rfl
theorem q3173 : (Jvm.Cond.instanceMethod ({ cls := "CableTrayPlannerModel", name := "here", desc := "()I" } : Jvm.MethodName)) ∈ lw_all := lw_g (lw_at lw_m13 211 rfl) rfl
theorem q3174 : (Jvm.Cond.code ({ cls := "CableTrayPlannerModel", name := "here", desc := "()I" } : Jvm.MethodName) prog_21_method_76_code (1 : Nat) (Option.some Jvm.ClassFile.FieldType.int)) ∈ lw_all := lw_g (lw_at lw_m13 212 rfl) rfl
theorem q3175 : (Jvm.Cond.methodLink "CableTrayPlannerModel" (233 : Nat) ({ cls := "CableTrayPlannerModel", name := "skips", desc := "(I)Z" } : Jvm.MethodName)) ∈ lw_all := lw_g (lw_at lw_m13 213 rfl) rfl
theorem q3176 : (Jvm.Cond.privateMethod ({ cls := "CableTrayPlannerModel", name := "skips", desc := "(I)Z" } : Jvm.MethodName)) ∈ lw_tbl := lw_at lw_m13 214 rfl
theorem q3177 : (Jvm.Cond.instanceMethod ({ cls := "CableTrayPlannerModel", name := "skips", desc := "(I)Z" } : Jvm.MethodName)) ∈ lw_all := lw_g (lw_at lw_m13 215 rfl) rfl
theorem q3178 : (Jvm.Cond.code ({ cls := "CableTrayPlannerModel", name := "skips", desc := "(I)Z" } : Jvm.MethodName) prog_21_method_77_code (3 : Nat) (Option.some Jvm.ClassFile.FieldType.boolean)) ∈ lw_all := lw_g (lw_at lw_m13 216 rfl) rfl
theorem q3179 : (Jvm.Cond.methodLink "CableTrayPlannerModel" (236 : Nat) ({ cls := "CableTrayPlannerModel", name := "name", desc := "(I)Z" } : Jvm.MethodName)) ∈ lw_all := lw_g (lw_at lw_m13 217 rfl) rfl
theorem q3180 : (Jvm.Cond.privateMethod ({ cls := "CableTrayPlannerModel", name := "name", desc := "(I)Z" } : Jvm.MethodName)) ∈ lw_tbl := lw_at lw_m13 218 rfl
theorem q3181 : (Jvm.Cond.instanceMethod ({ cls := "CableTrayPlannerModel", name := "name", desc := "(I)Z" } : Jvm.MethodName)) ∈ lw_all := lw_g (lw_at lw_m13 219 rfl) rfl
theorem q3182 : (Jvm.Cond.code ({ cls := "CableTrayPlannerModel", name := "name", desc := "(I)Z" } : Jvm.MethodName) prog_21_method_78_code (3 : Nat) (Option.some Jvm.ClassFile.FieldType.boolean)) ∈ lw_all := lw_g (lw_at lw_m13 220 rfl) rfl
theorem q3183 : (Jvm.Cond.methodLink "CableTrayPlannerModel" (227 : Nat) ({ cls := "CableTrayPlannerModel", name := "digit", desc := "(I)Z" } : Jvm.MethodName)) ∈ lw_all := lw_g (lw_at lw_m13 221 rfl) rfl
theorem q3184 : (Jvm.Cond.privateMethod ({ cls := "CableTrayPlannerModel", name := "digit", desc := "(I)Z" } : Jvm.MethodName)) ∈ lw_tbl := lw_at lw_m13 222 rfl
theorem q3185 : (Jvm.Cond.instanceMethod ({ cls := "CableTrayPlannerModel", name := "digit", desc := "(I)Z" } : Jvm.MethodName)) ∈ lw_all := lw_g (lw_at lw_m13 223 rfl) rfl
theorem q3186 : (Jvm.Cond.code ({ cls := "CableTrayPlannerModel", name := "digit", desc := "(I)Z" } : Jvm.MethodName) prog_21_method_79_code (2 : Nat) (Option.some Jvm.ClassFile.FieldType.boolean)) ∈ lw_all := lw_g (lw_at lw_m13 224 rfl) rfl
theorem q3187 : (Jvm.Cond.methodLink "CableTrayPlannerModel" (239 : Nat) ({ cls := "CableTrayPlannerModel", name := "number", desc := "(I)Z" } : Jvm.MethodName)) ∈ lw_all := lw_g (lw_at lw_m13 225 rfl) rfl
theorem q3188 : (Jvm.Cond.privateMethod ({ cls := "CableTrayPlannerModel", name := "number", desc := "(I)Z" } : Jvm.MethodName)) ∈ lw_tbl := lw_at lw_m13 226 rfl
theorem q3189 : (Jvm.Cond.instanceMethod ({ cls := "CableTrayPlannerModel", name := "number", desc := "(I)Z" } : Jvm.MethodName)) ∈ lw_all := lw_g (lw_at lw_m13 227 rfl) rfl
theorem q3190 : (Jvm.Cond.code ({ cls := "CableTrayPlannerModel", name := "number", desc := "(I)Z" } : Jvm.MethodName) prog_21_method_80_code (3 : Nat) (Option.some Jvm.ClassFile.FieldType.boolean)) ∈ lw_all := lw_g (lw_at lw_m13 228 rfl) rfl
theorem q3191 : (Jvm.Cond.methodLink "CableTrayPlannerModel" (267 : Nat) ({ cls := "CableTrayPlannerModel", name := "carriesOut", desc := "(I)Z" } : Jvm.MethodName)) ∈ lw_all := lw_g (lw_at lw_m13 229 rfl) rfl
theorem q3192 : (Jvm.Cond.privateMethod ({ cls := "CableTrayPlannerModel", name := "carriesOut", desc := "(I)Z" } : Jvm.MethodName)) ∈ lw_tbl := lw_at lw_m13 230 rfl
theorem q3193 : (Jvm.Cond.instanceMethod ({ cls := "CableTrayPlannerModel", name := "carriesOut", desc := "(I)Z" } : Jvm.MethodName)) ∈ lw_all := lw_g (lw_at lw_m13 231 rfl) rfl
theorem q3194 : (Jvm.Cond.code ({ cls := "CableTrayPlannerModel", name := "carriesOut", desc := "(I)Z" } : Jvm.MethodName) prog_21_method_86_code (3 : Nat) (Option.some Jvm.ClassFile.FieldType.boolean)) ∈ lw_all := lw_g (lw_at lw_m13 232 rfl) rfl
theorem q3195 : (Jvm.Cond.methodLink "CableTrayPlannerModel" (250 : Nat) ({ cls := "CableTrayPlannerModel", name := "addsType", desc := "(I)Z" } : Jvm.MethodName)) ∈ lw_all := lw_g (lw_at lw_m13 233 rfl) rfl
theorem q3196 : (Jvm.Cond.privateMethod ({ cls := "CableTrayPlannerModel", name := "addsType", desc := "(I)Z" } : Jvm.MethodName)) ∈ lw_tbl := lw_at lw_m13 234 rfl
theorem q3197 : (Jvm.Cond.instanceMethod ({ cls := "CableTrayPlannerModel", name := "addsType", desc := "(I)Z" } : Jvm.MethodName)) ∈ lw_all := lw_g (lw_at lw_m13 235 rfl) rfl
theorem q3198 : (Jvm.Cond.code ({ cls := "CableTrayPlannerModel", name := "addsType", desc := "(I)Z" } : Jvm.MethodName) prog_21_method_85_code (4 : Nat) (Option.some Jvm.ClassFile.FieldType.boolean)) ∈ lw_all := lw_g (lw_at lw_m13 236 rfl) rfl
theorem q3199 : (Jvm.Cond.methodLink "CableTrayPlannerModel" (253 : Nat) ({ cls := "CableTrayPlannerModel", name := "addTray", desc := "(IIIII)I" } : Jvm.MethodName)) ∈ lw_all := lw_g (lw_at lw_m13 237 rfl) rfl
theorem q3200 : (Jvm.Cond.methodLink "CableTrayPlannerModel" (257 : Nat) ({ cls := "CableTrayPlannerModel", name := "addCable", desc := "(III)I" } : Jvm.MethodName)) ∈ lw_all := lw_g (lw_at lw_m13 238 rfl) rfl
theorem q3201 : (Jvm.Cond.methodLink "CableTrayPlannerModel" (261 : Nat) ({ cls := "CableTrayPlannerModel", name := "addDrum", desc := "(II)I" } : Jvm.MethodName)) ∈ lw_all := lw_g (lw_at lw_m13 239 rfl) rfl
theorem q3203 : (Jvm.Cond.instanceMethod ({ cls := "CableTrayPlannerModel", name := "errorPosition", desc := "()I" } : Jvm.MethodName)) ∈ lw_all := lw_g (lw_at lw_m14 1 rfl) rfl
theorem q3204 : (Jvm.Cond.selects "CableTrayPlannerModel" ({ cls := "CableTrayPlannerModel", name := "errorPosition", desc := "()I" } : Jvm.MethodName) ({ cls := "CableTrayPlannerModel", name := "errorPosition", desc := "()I" } : Jvm.MethodName)) ∈ lw_all := lw_g (lw_at lw_m14 2 rfl) rfl
theorem q3205 : (Jvm.Cond.code ({ cls := "CableTrayPlannerModel", name := "errorPosition", desc := "()I" } : Jvm.MethodName) prog_21_method_88_code (1 : Nat) (Option.some Jvm.ClassFile.FieldType.int)) ∈ lw_all := lw_g (lw_at lw_m14 3 rfl) rfl
theorem q3207 : (Jvm.Cond.instanceMethod ({ cls := "CableTrayPlannerModel", name := "refusedItem", desc := "()I" } : Jvm.MethodName)) ∈ lw_all := lw_g (lw_at lw_m14 5 rfl) rfl
theorem q3208 : (Jvm.Cond.selects "CableTrayPlannerModel" ({ cls := "CableTrayPlannerModel", name := "refusedItem", desc := "()I" } : Jvm.MethodName) ({ cls := "CableTrayPlannerModel", name := "refusedItem", desc := "()I" } : Jvm.MethodName)) ∈ lw_all := lw_g (lw_at lw_m14 6 rfl) rfl
theorem q3209 : (Jvm.Cond.code ({ cls := "CableTrayPlannerModel", name := "refusedItem", desc := "()I" } : Jvm.MethodName) prog_21_method_89_code (1 : Nat) (Option.some Jvm.ClassFile.FieldType.int)) ∈ lw_all := lw_g (lw_at lw_m14 7 rfl) rfl
theorem q3237 : (Jvm.Cond.castable "CableTrayPlannerModel" "java/lang/Object") ∈ lw_tbl := lw_at lw_m14 35 rfl
theorem in_X3 : ∀ w ∈ wsX30, w ∈ lw_all := lw_in wsX30 [2808, 2810, 2812, 2814, 2816, 2818, 2820, 2822, 2824, 2826, 2828, 2830, 2832, 2834, 2836, 2838, 2840, 2842, 2844, 2846, 2848, 2850, 2852, 2854, 2856, 2858, 2860] (by decide +kernel) (by decide +kernel)

/-! java/util/ArrayList -/
set_option maxRecDepth 100000
def RJ2 : String := "java/util/ArrayList"
def TJ2 : u_T := fun k => match k with
  | 0 => ("java/util/AbstractList", "modCount", "I", false)
  | 1 => ("java/util/ArrayList", "elementData", "[Ljava/lang/Object;", false)
  | _ => ("java/util/ArrayList", "size", "I", false)
def tyJ2 : Nat → FieldType := fun k => match k with
  | 0 => .int
  | 1 => .array (.object "java/lang/Object")
  | _ => .int
abbrev wsJ20 : List Cond := u_ws RJ2 TJ2 3
theorem nmJ2 : ∀ a, a < 3 → ∀ b, b < 3 → a ≠ b → (TJ2 a).2.1 ≠ (TJ2 b).2.1 := by decide +kernel
theorem tyJ2_ok : ∀ k, k < 3 → parseFieldDescriptor (TJ2 k).2.2.1 = some (tyJ2 k) := by decide +kernel
abbrev cJ2_init : ByteArray := prog_56_method_2_code
def yJ2_init : MethodName := ⟨RJ2, "<init>", "()V"⟩
abbrev cJ2_size : ByteArray := prog_56_method_8_code
def yJ2_size : MethodName := ⟨RJ2, "size", "()I"⟩
abbrev cJ2_iterator : ByteArray := prog_56_method_55_code
def yJ2_iterator : MethodName := ⟨RJ2, "iterator", "()Ljava/util/Iterator;"⟩
abbrev cJ2_get : ByteArray := prog_56_method_20_code
def yJ2_get : MethodName := ⟨RJ2, "get", "(I)Ljava/lang/Object;"⟩
abbrev cJ2_elementData : ByteArray := prog_56_method_18_code
def yJ2_elementData : MethodName := ⟨RJ2, "elementData", "(I)Ljava/lang/Object;"⟩
abbrev cJ2_isEmpty : ByteArray := prog_56_method_9_code
def yJ2_isEmpty : MethodName := ⟨RJ2, "isEmpty", "()Z"⟩
abbrev cJ2_add : ByteArray := prog_56_method_25_code
def yJ2_add : MethodName := ⟨RJ2, "add", "(Ljava/lang/Object;)Z"⟩
abbrev cJ2_add_2 : ByteArray := prog_56_method_24_code
def yJ2_add_2 : MethodName := ⟨RJ2, "add", "(Ljava/lang/Object;[Ljava/lang/Object;I)V"⟩
abbrev cJ2_grow : ByteArray := prog_56_method_7_code
def yJ2_grow : MethodName := ⟨RJ2, "grow", "()[Ljava/lang/Object;"⟩
abbrev cJ2_grow_2 : ByteArray := prog_56_method_6_code
def yJ2_grow_2 : MethodName := ⟨RJ2, "grow", "(I)[Ljava/lang/Object;"⟩
abbrev cJ2_addAll : ByteArray := prog_56_method_41_code
def yJ2_addAll : MethodName := ⟨RJ2, "addAll", "(Ljava/util/Collection;)Z"⟩
abbrev cJ2_toArray : ByteArray := prog_56_method_16_code
def yJ2_toArray : MethodName := ⟨RJ2, "toArray", "()[Ljava/lang/Object;"⟩
abbrev cJ2_remove : ByteArray := prog_56_method_29_code
def yJ2_remove : MethodName := ⟨RJ2, "remove", "(I)Ljava/lang/Object;"⟩
abbrev cJ2_fastRemove : ByteArray := prog_56_method_39_code
def yJ2_fastRemove : MethodName := ⟨RJ2, "fastRemove", "([Ljava/lang/Object;I)V"⟩
abbrev cJ2_set : ByteArray := prog_56_method_23_code
def yJ2_set : MethodName := ⟨RJ2, "set", "(ILjava/lang/Object;)Ljava/lang/Object;"⟩
abbrev cJ2_clear : ByteArray := prog_56_method_40_code
def yJ2_clear : MethodName := ⟨RJ2, "clear", "()V"⟩
abbrev cJ2_add_3 : ByteArray := prog_56_method_26_code
def yJ2_add_3 : MethodName := ⟨RJ2, "add", "(ILjava/lang/Object;)V"⟩
abbrev cJ2_rangeCheckForAdd : ByteArray := prog_56_method_45_code
def yJ2_rangeCheckForAdd : MethodName := ⟨RJ2, "rangeCheckForAdd", "(I)V"⟩
abbrev cJ2_outOfBoundsMsg : ByteArray := prog_56_method_46_code
def yJ2_outOfBoundsMsg : MethodName := ⟨RJ2, "outOfBoundsMsg", "(I)Ljava/lang/String;"⟩
theorem q87 : (Jvm.Cond.initialized "java/util/ArrayList") ∈ lw_all := lw_g (lw_at lw_m1 5 rfl) rfl
theorem q156 : (Jvm.Cond.instantiable "java/util/ArrayList" (3 : Nat)) ∈ lw_all := lw_g (lw_at lw_m1 74 rfl) rfl
theorem q158 : (Jvm.Cond.instanceMethod ({ cls := "java/util/ArrayList", name := "<init>", desc := "()V" } : Jvm.MethodName)) ∈ lw_all := lw_g (lw_at lw_m1 76 rfl) rfl
theorem q159 : (Jvm.Cond.code ({ cls := "java/util/ArrayList", name := "<init>", desc := "()V" } : Jvm.MethodName) prog_56_method_2_code (1 : Nat) (Option.none : Option Jvm.ClassFile.FieldType)) ∈ lw_all := lw_g (lw_at lw_m1 77 rfl) rfl
theorem q160 : (Jvm.Cond.methodLink "java/util/ArrayList" (1 : Nat) ({ cls := "java/util/AbstractList", name := "<init>", desc := "()V" } : Jvm.MethodName)) ∈ lw_all := lw_g (lw_at lw_m1 78 rfl) rfl
theorem q167 : (Jvm.Cond.fieldLink "java/util/ArrayList" (39 : Nat) "java/util/ArrayList" "DEFAULTCAPACITY_EMPTY_ELEMENTDATA" "[Ljava/lang/Object;") ∈ lw_all := lw_g (lw_at lw_m1 85 rfl) rfl
theorem q168 : (Jvm.Cond.laysStatic "java/util/ArrayList" "DEFAULTCAPACITY_EMPTY_ELEMENTDATA" "[Ljava/lang/Object;") ∈ lw_tbl := lw_at lw_m1 86 rfl
theorem q169 : (Jvm.Cond.fieldLink "java/util/ArrayList" (9 : Nat) "java/util/ArrayList" "elementData" "[Ljava/lang/Object;") ∈ lw_all := lw_g (lw_at lw_m1 87 rfl) rfl
theorem q172 : (Jvm.Cond.fieldLink "java/util/ArrayList" (48 : Nat) "java/util/ArrayList" "size" "I") ∈ lw_all := lw_g (lw_at lw_m1 90 rfl) rfl
theorem q175 : (Jvm.Cond.sameField "java/util/ArrayList" "java/util/AbstractList" "modCount" "I") ∈ lw_all := lw_g (lw_at lw_m1 93 rfl) rfl
theorem q176 : (Jvm.Cond.fieldLink "java/util/ArrayList" (63 : Nat) "java/util/ArrayList" "modCount" "I") ∈ lw_all := lw_g (lw_at lw_m1 94 rfl) rfl
theorem q177 : (Jvm.Cond.lays "java/util/ArrayList" "java/util/ArrayList" "elementData" "[Ljava/lang/Object;") ∈ lw_all := lw_g (lw_at lw_m1 95 rfl) rfl
theorem q178 : (Jvm.Cond.soleField "java/util/ArrayList" "elementData") ∈ lw_all := lw_g (lw_at lw_m1 96 rfl) rfl
theorem q179 : (Jvm.Cond.lays "java/util/ArrayList" "java/util/ArrayList" "size" "I") ∈ lw_all := lw_g (lw_at lw_m1 97 rfl) rfl
theorem q180 : (Jvm.Cond.soleField "java/util/ArrayList" "size") ∈ lw_all := lw_g (lw_at lw_m1 98 rfl) rfl
theorem q181 : (Jvm.Cond.lays "java/util/ArrayList" "java/util/AbstractList" "modCount" "I") ∈ lw_all := lw_g (lw_at lw_m1 99 rfl) rfl
theorem q183 : (Jvm.Cond.superclass "java/util/ArrayList" "java/util/AbstractList") ∈ lw_all := lw_g (lw_at lw_m1 101 rfl) rfl
theorem q332 : (Jvm.Cond.instanceMethod ({ cls := "java/util/ArrayList", name := "size", desc := "()I" } : Jvm.MethodName)) ∈ lw_all := lw_g (lw_at lw_m2 10 rfl) rfl
theorem q333 : (Jvm.Cond.selects "java/util/ArrayList" ({ cls := "java/util/ArrayList", name := "size", desc := "()I" } : Jvm.MethodName) ({ cls := "java/util/ArrayList", name := "size", desc := "()I" } : Jvm.MethodName)) ∈ lw_all := lw_g (lw_at lw_m2 11 rfl) rfl
theorem q334 : (Jvm.Cond.code ({ cls := "java/util/ArrayList", name := "size", desc := "()I" } : Jvm.MethodName) prog_56_method_8_code (1 : Nat) (Option.some Jvm.ClassFile.FieldType.int)) ∈ lw_all := lw_g (lw_at lw_m2 12 rfl) rfl
theorem q845 : (Jvm.Cond.selects "java/util/ArrayList" ({ cls := "java/lang/Object", name := "getClass", desc := "()Ljava/lang/Class;" } : Jvm.MethodName) ({ cls := "java/lang/Object", name := "getClass", desc := "()Ljava/lang/Class;" } : Jvm.MethodName)) ∈ lw_all := lw_g (lw_at lw_m4 43 rfl) rfl
theorem q1067 : (Jvm.Cond.instanceMethod ({ cls := "java/util/ArrayList", name := "iterator", desc := "()Ljava/util/Iterator;" } : Jvm.MethodName)) ∈ lw_all := lw_g (lw_at lw_m5 25 rfl) rfl
theorem q1068 : (Jvm.Cond.selects "java/util/ArrayList" ({ cls := "java/util/ArrayList", name := "iterator", desc := "()Ljava/util/Iterator;" } : Jvm.MethodName) ({ cls := "java/util/ArrayList", name := "iterator", desc := "()Ljava/util/Iterator;" } : Jvm.MethodName)) ∈ lw_all := lw_g (lw_at lw_m5 26 rfl) rfl
theorem q1069 : (Jvm.Cond.code ({ cls := "java/util/ArrayList", name := "iterator", desc := "()Ljava/util/Iterator;" } : Jvm.MethodName) prog_56_method_55_code (1 : Nat) (Option.some (Jvm.ClassFile.FieldType.object "java/util/Iterator"))) ∈ lw_all := lw_g (lw_at lw_m5 27 rfl) rfl
theorem q1070 : (Jvm.Cond.classLink "java/util/ArrayList" (267 : Nat) "java/util/ArrayList$Itr") ∈ lw_all := lw_g (lw_at lw_m5 28 rfl) rfl
theorem q1072 : (Jvm.Cond.methodLink "java/util/ArrayList" (269 : Nat) ({ cls := "java/util/ArrayList$Itr", name := "<init>", desc := "(Ljava/util/ArrayList;)V" } : Jvm.MethodName)) ∈ lw_all := lw_g (lw_at lw_m5 30 rfl) rfl
theorem q1156 : (Jvm.Cond.instanceMethod ({ cls := "java/util/ArrayList", name := "get", desc := "(I)Ljava/lang/Object;" } : Jvm.MethodName)) ∈ lw_all := lw_g (lw_at lw_m5 114 rfl) rfl
theorem q1157 : (Jvm.Cond.selects "java/util/ArrayList" ({ cls := "java/util/ArrayList", name := "get", desc := "(I)Ljava/lang/Object;" } : Jvm.MethodName) ({ cls := "java/util/ArrayList", name := "get", desc := "(I)Ljava/lang/Object;" } : Jvm.MethodName)) ∈ lw_all := lw_g (lw_at lw_m5 115 rfl) rfl
theorem q1158 : (Jvm.Cond.code ({ cls := "java/util/ArrayList", name := "get", desc := "(I)Ljava/lang/Object;" } : Jvm.MethodName) prog_56_method_20_code (2 : Nat) (Option.some (Jvm.ClassFile.FieldType.object "java/lang/Object"))) ∈ lw_all := lw_g (lw_at lw_m5 116 rfl) rfl
theorem q1159 : (Jvm.Cond.methodLink "java/util/ArrayList" (118 : Nat) ({ cls := "java/util/Objects", name := "checkIndex", desc := "(II)I" } : Jvm.MethodName)) ∈ lw_all := lw_g (lw_at lw_m5 117 rfl) rfl
theorem q1165 : (Jvm.Cond.methodLink "java/util/ArrayList" (123 : Nat) ({ cls := "java/util/ArrayList", name := "elementData", desc := "(I)Ljava/lang/Object;" } : Jvm.MethodName)) ∈ lw_all := lw_g (lw_at lw_m5 123 rfl) rfl
theorem q1166 : (Jvm.Cond.instanceMethod ({ cls := "java/util/ArrayList", name := "elementData", desc := "(I)Ljava/lang/Object;" } : Jvm.MethodName)) ∈ lw_all := lw_g (lw_at lw_m5 124 rfl) rfl
theorem q1167 : (Jvm.Cond.selects "java/util/ArrayList" ({ cls := "java/util/ArrayList", name := "elementData", desc := "(I)Ljava/lang/Object;" } : Jvm.MethodName) ({ cls := "java/util/ArrayList", name := "elementData", desc := "(I)Ljava/lang/Object;" } : Jvm.MethodName)) ∈ lw_all := lw_g (lw_at lw_m5 125 rfl) rfl
theorem q1168 : (Jvm.Cond.code ({ cls := "java/util/ArrayList", name := "elementData", desc := "(I)Ljava/lang/Object;" } : Jvm.MethodName) prog_56_method_18_code (2 : Nat) (Option.some (Jvm.ClassFile.FieldType.object "java/lang/Object"))) ∈ lw_all := lw_g (lw_at lw_m5 126 rfl) rfl
theorem q1236 : (Jvm.Cond.instanceMethod ({ cls := "java/util/ArrayList", name := "isEmpty", desc := "()Z" } : Jvm.MethodName)) ∈ lw_all := lw_g (lw_at lw_m5 194 rfl) rfl
theorem q1237 : (Jvm.Cond.selects "java/util/ArrayList" ({ cls := "java/util/ArrayList", name := "isEmpty", desc := "()Z" } : Jvm.MethodName) ({ cls := "java/util/ArrayList", name := "isEmpty", desc := "()Z" } : Jvm.MethodName)) ∈ lw_all := lw_g (lw_at lw_m5 195 rfl) rfl
theorem q1238 : (Jvm.Cond.code ({ cls := "java/util/ArrayList", name := "isEmpty", desc := "()Z" } : Jvm.MethodName) prog_56_method_9_code (1 : Nat) (Option.some Jvm.ClassFile.FieldType.boolean)) ∈ lw_all := lw_g (lw_at lw_m5 196 rfl) rfl
theorem q1411 : (Jvm.Cond.instanceMethod ({ cls := "java/util/ArrayList", name := "add", desc := "(Ljava/lang/Object;)Z" } : Jvm.MethodName)) ∈ lw_all := lw_g (lw_at lw_m6 129 rfl) rfl
theorem q1412 : (Jvm.Cond.selects "java/util/ArrayList" ({ cls := "java/util/ArrayList", name := "add", desc := "(Ljava/lang/Object;)Z" } : Jvm.MethodName) ({ cls := "java/util/ArrayList", name := "add", desc := "(Ljava/lang/Object;)Z" } : Jvm.MethodName)) ∈ lw_all := lw_g (lw_at lw_m6 130 rfl) rfl
theorem q1413 : (Jvm.Cond.code ({ cls := "java/util/ArrayList", name := "add", desc := "(Ljava/lang/Object;)Z" } : Jvm.MethodName) prog_56_method_25_code (2 : Nat) (Option.some Jvm.ClassFile.FieldType.boolean)) ∈ lw_all := lw_g (lw_at lw_m6 131 rfl) rfl
theorem q1414 : (Jvm.Cond.methodLink "java/util/ArrayList" (131 : Nat) ({ cls := "java/util/ArrayList", name := "add", desc := "(Ljava/lang/Object;[Ljava/lang/Object;I)V" } : Jvm.MethodName)) ∈ lw_all := lw_g (lw_at lw_m6 132 rfl) rfl
theorem q1415 : (Jvm.Cond.privateMethod ({ cls := "java/util/ArrayList", name := "add", desc := "(Ljava/lang/Object;[Ljava/lang/Object;I)V" } : Jvm.MethodName)) ∈ lw_tbl := lw_at lw_m6 133 rfl
theorem q1416 : (Jvm.Cond.instanceMethod ({ cls := "java/util/ArrayList", name := "add", desc := "(Ljava/lang/Object;[Ljava/lang/Object;I)V" } : Jvm.MethodName)) ∈ lw_all := lw_g (lw_at lw_m6 134 rfl) rfl
theorem q1417 : (Jvm.Cond.code ({ cls := "java/util/ArrayList", name := "add", desc := "(Ljava/lang/Object;[Ljava/lang/Object;I)V" } : Jvm.MethodName) prog_56_method_24_code (4 : Nat) (Option.none : Option Jvm.ClassFile.FieldType)) ∈ lw_all := lw_g (lw_at lw_m6 135 rfl) rfl
theorem q1418 : (Jvm.Cond.methodLink "java/util/ArrayList" (129 : Nat) ({ cls := "java/util/ArrayList", name := "grow", desc := "()[Ljava/lang/Object;" } : Jvm.MethodName)) ∈ lw_all := lw_g (lw_at lw_m6 136 rfl) rfl
theorem q1419 : (Jvm.Cond.privateMethod ({ cls := "java/util/ArrayList", name := "grow", desc := "()[Ljava/lang/Object;" } : Jvm.MethodName)) ∈ lw_tbl := lw_at lw_m6 137 rfl
theorem q1420 : (Jvm.Cond.instanceMethod ({ cls := "java/util/ArrayList", name := "grow", desc := "()[Ljava/lang/Object;" } : Jvm.MethodName)) ∈ lw_all := lw_g (lw_at lw_m6 138 rfl) rfl
theorem q1421 : (Jvm.Cond.code ({ cls := "java/util/ArrayList", name := "grow", desc := "()[Ljava/lang/Object;" } : Jvm.MethodName) prog_56_method_7_code (1 : Nat) (Option.some (Jvm.ClassFile.FieldType.array (Jvm.ClassFile.FieldType.object "java/lang/Object")))) ∈ lw_all := lw_g (lw_at lw_m6 139 rfl) rfl
theorem q1422 : (Jvm.Cond.methodLink "java/util/ArrayList" (69 : Nat) ({ cls := "java/util/ArrayList", name := "grow", desc := "(I)[Ljava/lang/Object;" } : Jvm.MethodName)) ∈ lw_all := lw_g (lw_at lw_m6 140 rfl) rfl
theorem q1423 : (Jvm.Cond.privateMethod ({ cls := "java/util/ArrayList", name := "grow", desc := "(I)[Ljava/lang/Object;" } : Jvm.MethodName)) ∈ lw_tbl := lw_at lw_m6 141 rfl
theorem q1424 : (Jvm.Cond.instanceMethod ({ cls := "java/util/ArrayList", name := "grow", desc := "(I)[Ljava/lang/Object;" } : Jvm.MethodName)) ∈ lw_all := lw_g (lw_at lw_m6 142 rfl) rfl
theorem q1425 : (Jvm.Cond.code ({ cls := "java/util/ArrayList", name := "grow", desc := "(I)[Ljava/lang/Object;" } : Jvm.MethodName) prog_56_method_6_code (4 : Nat) (Option.some (Jvm.ClassFile.FieldType.array (Jvm.ClassFile.FieldType.object "java/lang/Object")))) ∈ lw_all := lw_g (lw_at lw_m6 143 rfl) rfl
theorem q1426 : (Jvm.Cond.methodLink "java/util/ArrayList" (73 : Nat) ({ cls := "jdk/internal/util/ArraysSupport", name := "newLength", desc := "(III)I" } : Jvm.MethodName)) ∈ lw_all := lw_g (lw_at lw_m6 144 rfl) rfl
theorem q1427 : (Jvm.Cond.methodLink "java/util/ArrayList" (66 : Nat) ({ cls := "java/util/Arrays", name := "copyOf", desc := "([Ljava/lang/Object;I)[Ljava/lang/Object;" } : Jvm.MethodName)) ∈ lw_all := lw_g (lw_at lw_m6 145 rfl) rfl
theorem q1436 : (Jvm.Cond.methodLink "java/util/ArrayList" (79 : Nat) ({ cls := "java/lang/Math", name := "max", desc := "(II)I" } : Jvm.MethodName)) ∈ lw_all := lw_g (lw_at lw_m6 154 rfl) rfl
theorem q1437 : (Jvm.Cond.classLink "java/util/ArrayList" (7 : Nat) "java/lang/Object") ∈ lw_all := lw_g (lw_at lw_m6 155 rfl) rfl
theorem q1530 : (Jvm.Cond.instanceMethod ({ cls := "java/util/ArrayList", name := "addAll", desc := "(Ljava/util/Collection;)Z" } : Jvm.MethodName)) ∈ lw_all := lw_g (lw_at lw_m7 8 rfl) rfl
theorem q1531 : (Jvm.Cond.selects "java/util/ArrayList" ({ cls := "java/util/ArrayList", name := "addAll", desc := "(Ljava/util/Collection;)Z" } : Jvm.MethodName) ({ cls := "java/util/ArrayList", name := "addAll", desc := "(Ljava/util/Collection;)Z" } : Jvm.MethodName)) ∈ lw_all := lw_g (lw_at lw_m7 9 rfl) rfl
theorem q1532 : (Jvm.Cond.code ({ cls := "java/util/ArrayList", name := "addAll", desc := "(Ljava/util/Collection;)Z" } : Jvm.MethodName) prog_56_method_41_code (6 : Nat) (Option.some Jvm.ClassFile.FieldType.boolean)) ∈ lw_all := lw_g (lw_at lw_m7 10 rfl) rfl
theorem q1533 : (Jvm.Cond.interfaceEntry "java/util/ArrayList" (42 : Nat)) ∈ lw_tbl := lw_at lw_m7 11 rfl
theorem q1534 : (Jvm.Cond.methodLink "java/util/ArrayList" (42 : Nat) ({ cls := "java/util/Collection", name := "toArray", desc := "()[Ljava/lang/Object;" } : Jvm.MethodName)) ∈ lw_all := lw_g (lw_at lw_m7 12 rfl) rfl
theorem q1552 : (Jvm.Cond.castable "java/util/ArrayList" "java/util/Collection") ∈ lw_tbl := lw_at lw_m7 30 rfl
theorem q1553 : (Jvm.Cond.selects "java/util/ArrayList" ({ cls := "java/util/Collection", name := "toArray", desc := "()[Ljava/lang/Object;" } : Jvm.MethodName) ({ cls := "java/util/ArrayList", name := "toArray", desc := "()[Ljava/lang/Object;" } : Jvm.MethodName)) ∈ lw_all := lw_g (lw_at lw_m7 31 rfl) rfl
theorem q1554 : (Jvm.Cond.unhidden "java/util/ArrayList" "toArray" "()[Ljava/lang/Object;") ∈ lw_tbl := lw_at lw_m7 32 rfl
theorem q1555 : (Jvm.Cond.instanceMethod ({ cls := "java/util/ArrayList", name := "toArray", desc := "()[Ljava/lang/Object;" } : Jvm.MethodName)) ∈ lw_all := lw_g (lw_at lw_m7 33 rfl) rfl
theorem q1556 : (Jvm.Cond.publicMethod ({ cls := "java/util/ArrayList", name := "toArray", desc := "()[Ljava/lang/Object;" } : Jvm.MethodName)) ∈ lw_tbl := lw_at lw_m7 34 rfl
theorem q1557 : (Jvm.Cond.code ({ cls := "java/util/ArrayList", name := "toArray", desc := "()[Ljava/lang/Object;" } : Jvm.MethodName) prog_56_method_16_code (1 : Nat) (Option.some (Jvm.ClassFile.FieldType.array (Jvm.ClassFile.FieldType.object "java/lang/Object")))) ∈ lw_all := lw_g (lw_at lw_m7 35 rfl) rfl
theorem q1558 : (Jvm.Cond.methodLink "java/util/ArrayList" (112 : Nat) ({ cls := "java/lang/System", name := "arraycopy", desc := "(Ljava/lang/Object;ILjava/lang/Object;II)V" } : Jvm.MethodName)) ∈ lw_all := lw_g (lw_at lw_m7 36 rfl) rfl
theorem q1758 : (Jvm.Cond.instanceMethod ({ cls := "java/util/ArrayList", name := "remove", desc := "(I)Ljava/lang/Object;" } : Jvm.MethodName)) ∈ lw_all := lw_g (lw_at lw_m7 236 rfl) rfl
theorem q1759 : (Jvm.Cond.selects "java/util/ArrayList" ({ cls := "java/util/ArrayList", name := "remove", desc := "(I)Ljava/lang/Object;" } : Jvm.MethodName) ({ cls := "java/util/ArrayList", name := "remove", desc := "(I)Ljava/lang/Object;" } : Jvm.MethodName)) ∈ lw_all := lw_g (lw_at lw_m7 237 rfl) rfl
theorem q1760 : (Jvm.Cond.code ({ cls := "java/util/ArrayList", name := "remove", desc := "(I)Ljava/lang/Object;" } : Jvm.MethodName) prog_56_method_29_code (4 : Nat) (Option.some (Jvm.ClassFile.FieldType.object "java/lang/Object"))) ∈ lw_all := lw_g (lw_at lw_m7 238 rfl) rfl
theorem q1761 : (Jvm.Cond.methodLink "java/util/ArrayList" (144 : Nat) ({ cls := "java/util/ArrayList", name := "fastRemove", desc := "([Ljava/lang/Object;I)V" } : Jvm.MethodName)) ∈ lw_all := lw_g (lw_at lw_m7 239 rfl) rfl
theorem q1762 : (Jvm.Cond.privateMethod ({ cls := "java/util/ArrayList", name := "fastRemove", desc := "([Ljava/lang/Object;I)V" } : Jvm.MethodName)) ∈ lw_tbl := lw_at lw_m8 0 rfl
theorem q1763 : (Jvm.Cond.instanceMethod ({ cls := "java/util/ArrayList", name := "fastRemove", desc := "([Ljava/lang/Object;I)V" } : Jvm.MethodName)) ∈ lw_all := lw_g (lw_at lw_m8 1 rfl) rfl
theorem q1764 : (Jvm.Cond.code ({ cls := "java/util/ArrayList", name := "fastRemove", desc := "([Ljava/lang/Object;I)V" } : Jvm.MethodName) prog_56_method_39_code (4 : Nat) (Option.none : Option Jvm.ClassFile.FieldType)) ∈ lw_all := lw_g (lw_at lw_m8 2 rfl) rfl
theorem q1790 : (Jvm.Cond.instanceMethod ({ cls := "java/util/ArrayList", name := "set", desc := "(ILjava/lang/Object;)Ljava/lang/Object;" } : Jvm.MethodName)) ∈ lw_all := lw_g (lw_at lw_m8 28 rfl) rfl
theorem q1791 : (Jvm.Cond.selects "java/util/ArrayList" ({ cls := "java/util/ArrayList", name := "set", desc := "(ILjava/lang/Object;)Ljava/lang/Object;" } : Jvm.MethodName) ({ cls := "java/util/ArrayList", name := "set", desc := "(ILjava/lang/Object;)Ljava/lang/Object;" } : Jvm.MethodName)) ∈ lw_all := lw_g (lw_at lw_m8 29 rfl) rfl
theorem q1792 : (Jvm.Cond.code ({ cls := "java/util/ArrayList", name := "set", desc := "(ILjava/lang/Object;)Ljava/lang/Object;" } : Jvm.MethodName) prog_56_method_23_code (4 : Nat) (Option.some (Jvm.ClassFile.FieldType.object "java/lang/Object"))) ∈ lw_all := lw_g (lw_at lw_m8 30 rfl) rfl
theorem q1984 : (Jvm.Cond.castable "java/util/ArrayList" "java/lang/Iterable") ∈ lw_tbl := lw_at lw_m8 222 rfl
theorem q1985 : (Jvm.Cond.selects "java/util/ArrayList" ({ cls := "java/lang/Iterable", name := "iterator", desc := "()Ljava/util/Iterator;" } : Jvm.MethodName) ({ cls := "java/util/ArrayList", name := "iterator", desc := "()Ljava/util/Iterator;" } : Jvm.MethodName)) ∈ lw_all := lw_g (lw_at lw_m8 223 rfl) rfl
theorem q1986 : (Jvm.Cond.unhidden "java/util/ArrayList" "iterator" "()Ljava/util/Iterator;") ∈ lw_tbl := lw_at lw_m8 224 rfl
theorem q1987 : (Jvm.Cond.publicMethod ({ cls := "java/util/ArrayList", name := "iterator", desc := "()Ljava/util/Iterator;" } : Jvm.MethodName)) ∈ lw_tbl := lw_at lw_m8 225 rfl
theorem q2165 : (Jvm.Cond.instanceMethod ({ cls := "java/util/ArrayList", name := "clear", desc := "()V" } : Jvm.MethodName)) ∈ lw_all := lw_g (lw_at lw_m9 163 rfl) rfl
theorem q2166 : (Jvm.Cond.selects "java/util/ArrayList" ({ cls := "java/util/ArrayList", name := "clear", desc := "()V" } : Jvm.MethodName) ({ cls := "java/util/ArrayList", name := "clear", desc := "()V" } : Jvm.MethodName)) ∈ lw_all := lw_g (lw_at lw_m9 164 rfl) rfl
theorem q2167 : (Jvm.Cond.code ({ cls := "java/util/ArrayList", name := "clear", desc := "()V" } : Jvm.MethodName) prog_56_method_40_code (4 : Nat) (Option.none : Option Jvm.ClassFile.FieldType)) ∈ lw_all := lw_g (lw_at lw_m9 165 rfl) rfl
theorem q2373 : (Jvm.Cond.instanceMethod ({ cls := "java/util/ArrayList", name := "add", desc := "(ILjava/lang/Object;)V" } : Jvm.MethodName)) ∈ lw_all := lw_g (lw_at lw_m10 131 rfl) rfl
theorem q2374 : (Jvm.Cond.selects "java/util/ArrayList" ({ cls := "java/util/ArrayList", name := "add", desc := "(ILjava/lang/Object;)V" } : Jvm.MethodName) ({ cls := "java/util/ArrayList", name := "add", desc := "(ILjava/lang/Object;)V" } : Jvm.MethodName)) ∈ lw_all := lw_g (lw_at lw_m10 132 rfl) rfl
theorem q2375 : (Jvm.Cond.code ({ cls := "java/util/ArrayList", name := "add", desc := "(ILjava/lang/Object;)V" } : Jvm.MethodName) prog_56_method_26_code (5 : Nat) (Option.none : Option Jvm.ClassFile.FieldType)) ∈ lw_all := lw_g (lw_at lw_m10 133 rfl) rfl
theorem q2376 : (Jvm.Cond.methodLink "java/util/ArrayList" (135 : Nat) ({ cls := "java/util/ArrayList", name := "rangeCheckForAdd", desc := "(I)V" } : Jvm.MethodName)) ∈ lw_all := lw_g (lw_at lw_m10 134 rfl) rfl
theorem q2377 : (Jvm.Cond.privateMethod ({ cls := "java/util/ArrayList", name := "rangeCheckForAdd", desc := "(I)V" } : Jvm.MethodName)) ∈ lw_tbl := lw_at lw_m10 135 rfl
theorem q2378 : (Jvm.Cond.instanceMethod ({ cls := "java/util/ArrayList", name := "rangeCheckForAdd", desc := "(I)V" } : Jvm.MethodName)) ∈ lw_all := lw_g (lw_at lw_m10 136 rfl) rfl
theorem q2379 : (Jvm.Cond.code ({ cls := "java/util/ArrayList", name := "rangeCheckForAdd", desc := "(I)V" } : Jvm.MethodName) prog_56_method_45_code (2 : Nat) (Option.none : Option Jvm.ClassFile.FieldType)) ∈ lw_all := lw_g (lw_at lw_m10 137 rfl) rfl
theorem q2380 : (Jvm.Cond.classLink "java/util/ArrayList" (187 : Nat) "java/lang/IndexOutOfBoundsException") ∈ lw_all := lw_g (lw_at lw_m10 138 rfl) rfl
theorem q2381 : (Jvm.Cond.methodLink "java/util/ArrayList" (198 : Nat) ({ cls := "java/util/ArrayList", name := "outOfBoundsMsg", desc := "(I)Ljava/lang/String;" } : Jvm.MethodName)) ∈ lw_all := lw_g (lw_at lw_m10 139 rfl) rfl
theorem q2382 : (Jvm.Cond.privateMethod ({ cls := "java/util/ArrayList", name := "outOfBoundsMsg", desc := "(I)Ljava/lang/String;" } : Jvm.MethodName)) ∈ lw_tbl := lw_at lw_m10 140 rfl
theorem q2383 : (Jvm.Cond.instanceMethod ({ cls := "java/util/ArrayList", name := "outOfBoundsMsg", desc := "(I)Ljava/lang/String;" } : Jvm.MethodName)) ∈ lw_all := lw_g (lw_at lw_m10 141 rfl) rfl
theorem q2384 : (Jvm.Cond.code ({ cls := "java/util/ArrayList", name := "outOfBoundsMsg", desc := "(I)Ljava/lang/String;" } : Jvm.MethodName) prog_56_method_46_code (2 : Nat) (Option.some (Jvm.ClassFile.FieldType.object "java/lang/String"))) ∈ lw_all := lw_g (lw_at lw_m10 142 rfl) rfl
theorem q2385 : (Jvm.Cond.classLink "java/util/ArrayList" (20 : Nat) "java/lang/StringBuilder") ∈ lw_all := lw_g (lw_at lw_m10 143 rfl) rfl
theorem q2386 : (Jvm.Cond.methodLink "java/util/ArrayList" (22 : Nat) ({ cls := "java/lang/StringBuilder", name := "<init>", desc := "()V" } : Jvm.MethodName)) ∈ lw_all := lw_g (lw_at lw_m10 144 rfl) rfl
theorem q2387 : (Jvm.Cond.stringRef "java/util/ArrayList" (201 : Nat) "Index: ") ∈ lw_tbl := lw_at lw_m10 145 rfl
theorem q2388 : (Jvm.Cond.methodLink "java/util/ArrayList" (25 : Nat) ({ cls := "java/lang/StringBuilder", name := "append", desc := "(Ljava/lang/String;)Ljava/lang/StringBuilder;" } : Jvm.MethodName)) ∈ lw_all := lw_g (lw_at lw_m10 146 rfl) rfl
theorem q2389 : (Jvm.Cond.methodLink "java/util/ArrayList" (29 : Nat) ({ cls := "java/lang/StringBuilder", name := "append", desc := "(I)Ljava/lang/StringBuilder;" } : Jvm.MethodName)) ∈ lw_all := lw_g (lw_at lw_m10 147 rfl) rfl
theorem q2390 : (Jvm.Cond.stringRef "java/util/ArrayList" (203 : Nat) ", Size: ") ∈ lw_tbl := lw_at lw_m10 148 rfl
theorem q2391 : (Jvm.Cond.methodLink "java/util/ArrayList" (32 : Nat) ({ cls := "java/lang/StringBuilder", name := "toString", desc := "()Ljava/lang/String;" } : Jvm.MethodName)) ∈ lw_all := lw_g (lw_at lw_m10 149 rfl) rfl
theorem q2392 : (Jvm.Cond.methodLink "java/util/ArrayList" (193 : Nat) ({ cls := "java/lang/IndexOutOfBoundsException", name := "<init>", desc := "(Ljava/lang/String;)V" } : Jvm.MethodName)) ∈ lw_all := lw_g (lw_at lw_m10 150 rfl) rfl
theorem q3233 : (Jvm.Cond.castable "java/util/ArrayList" "java/lang/Object") ∈ lw_tbl := lw_at lw_m14 31 rfl
theorem in_J2 : ∀ w ∈ wsJ20, w ∈ lw_all := lw_in wsJ20 [181, 177, 179] (by decide +kernel) (by decide +kernel)

/-! java/util/HashMap -/
set_option maxRecDepth 100000
def RJ4 : String := "java/util/HashMap"
def TJ4 : u_T := fun k => match k with
  | 0 => ("java/util/AbstractMap", "keySet", "Ljava/util/Set;", false)
  | 1 => ("java/util/AbstractMap", "values", "Ljava/util/Collection;", false)
  | 2 => ("java/util/HashMap", "table", "[Ljava/util/HashMap$Node;", false)
  | 3 => ("java/util/HashMap", "entrySet", "Ljava/util/Set;", false)
  | 4 => ("java/util/HashMap", "size", "I", false)
  | 5 => ("java/util/HashMap", "modCount", "I", false)
  | 6 => ("java/util/HashMap", "threshold", "I", false)
  | _ => ("java/util/HashMap", "loadFactor", "F", true)
def tyJ4 : Nat → FieldType := fun k => match k with
  | 0 => .object "java/util/Set"
  | 1 => .object "java/util/Collection"
  | 2 => .array (.object "java/util/HashMap$Node")
  | 3 => .object "java/util/Set"
  | 4 => .int
  | 5 => .int
  | 6 => .int
  | _ => .float
abbrev wsJ40 : List Cond := u_ws RJ4 TJ4 8
theorem nmJ4 : ∀ a, a < 8 → ∀ b, b < 8 → a ≠ b → (TJ4 a).2.1 ≠ (TJ4 b).2.1 := by decide +kernel
theorem tyJ4_ok : ∀ k, k < 8 → parseFieldDescriptor (TJ4 k).2.2.1 = some (tyJ4 k) := by decide +kernel
abbrev cJ4_init : ByteArray := prog_61_method_7_code
def yJ4_init : MethodName := ⟨RJ4, "<init>", "()V"⟩
abbrev cJ4_get : ByteArray := prog_61_method_12_code
def yJ4_get : MethodName := ⟨RJ4, "get", "(Ljava/lang/Object;)Ljava/lang/Object;"⟩
abbrev cJ4_getNode : ByteArray := prog_61_method_13_code
def yJ4_getNode : MethodName := ⟨RJ4, "getNode", "(Ljava/lang/Object;)Ljava/util/HashMap$Node;"⟩
abbrev cJ4_hash : ByteArray := prog_61_method_1_code
def yJ4_hash : MethodName := ⟨RJ4, "hash", "(Ljava/lang/Object;)I"⟩
abbrev cJ4_comparableClassFor : ByteArray := prog_61_method_2_code
def yJ4_comparableClassFor : MethodName := ⟨RJ4, "comparableClassFor", "(Ljava/lang/Object;)Ljava/lang/Class;"⟩
abbrev cJ4_compareComparables : ByteArray := prog_61_method_3_code
def yJ4_compareComparables : MethodName := ⟨RJ4, "compareComparables", "(Ljava/lang/Class;Ljava/lang/Object;Ljava/lang/Object;)I"⟩
abbrev cJ4_put : ByteArray := prog_61_method_15_code
def yJ4_put : MethodName := ⟨RJ4, "put", "(Ljava/lang/Object;Ljava/lang/Object;)Ljava/lang/Object;"⟩
abbrev cJ4_putVal : ByteArray := prog_61_method_16_code
def yJ4_putVal : MethodName := ⟨RJ4, "putVal", "(ILjava/lang/Object;Ljava/lang/Object;ZZ)Ljava/lang/Object;"⟩
abbrev cJ4_resize : ByteArray := prog_61_method_17_code
def yJ4_resize : MethodName := ⟨RJ4, "resize", "()[Ljava/util/HashMap$Node;"⟩
abbrev cJ4_replacementNode : ByteArray := prog_61_method_47_code
def yJ4_replacementNode : MethodName := ⟨RJ4, "replacementNode", "(Ljava/util/HashMap$Node;Ljava/util/HashMap$Node;)Ljava/util/HashMap$Node;"⟩
abbrev cJ4_newNode : ByteArray := prog_61_method_46_code
def yJ4_newNode : MethodName := ⟨RJ4, "newNode", "(ILjava/lang/Object;Ljava/lang/Object;Ljava/util/HashMap$Node;)Ljava/util/HashMap$Node;"⟩
abbrev cJ4_newTreeNode : ByteArray := prog_61_method_48_code
def yJ4_newTreeNode : MethodName := ⟨RJ4, "newTreeNode", "(ILjava/lang/Object;Ljava/lang/Object;Ljava/util/HashMap$Node;)Ljava/util/HashMap$TreeNode;"⟩
abbrev cJ4_treeifyBin : ByteArray := prog_61_method_18_code
def yJ4_treeifyBin : MethodName := ⟨RJ4, "treeifyBin", "([Ljava/util/HashMap$Node;I)V"⟩
abbrev cJ4_replacementTreeNode : ByteArray := prog_61_method_49_code
def yJ4_replacementTreeNode : MethodName := ⟨RJ4, "replacementTreeNode", "(Ljava/util/HashMap$Node;Ljava/util/HashMap$Node;)Ljava/util/HashMap$TreeNode;"⟩
abbrev cJ4_afterNodeAccess : ByteArray := prog_61_method_51_code
def yJ4_afterNodeAccess : MethodName := ⟨RJ4, "afterNodeAccess", "(Ljava/util/HashMap$Node;)V"⟩
abbrev cJ4_afterNodeInsertion : ByteArray := prog_61_method_52_code
def yJ4_afterNodeInsertion : MethodName := ⟨RJ4, "afterNodeInsertion", "(Z)V"⟩
theorem q89 : (Jvm.Cond.initialized "java/util/HashMap") ∈ lw_all := lw_g (lw_at lw_m1 7 rfl) rfl
theorem q185 : (Jvm.Cond.instantiable "java/util/HashMap" (8 : Nat)) ∈ lw_all := lw_g (lw_at lw_m1 103 rfl) rfl
theorem q187 : (Jvm.Cond.instanceMethod ({ cls := "java/util/HashMap", name := "<init>", desc := "()V" } : Jvm.MethodName)) ∈ lw_all := lw_g (lw_at lw_m1 105 rfl) rfl
theorem q188 : (Jvm.Cond.code ({ cls := "java/util/HashMap", name := "<init>", desc := "()V" } : Jvm.MethodName) prog_61_method_7_code (1 : Nat) (Option.none : Option Jvm.ClassFile.FieldType)) ∈ lw_all := lw_g (lw_at lw_m1 106 rfl) rfl
theorem q189 : (Jvm.Cond.methodLink "java/util/HashMap" (43 : Nat) ({ cls := "java/util/AbstractMap", name := "<init>", desc := "()V" } : Jvm.MethodName)) ∈ lw_all := lw_g (lw_at lw_m1 107 rfl) rfl
theorem q193 : (Jvm.Cond.constantFloat "java/util/HashMap" (92 : Nat) (1061158912 : UInt32)) ∈ lw_all := lw_g (lw_at lw_m1 111 rfl) rfl
theorem q194 : (Jvm.Cond.fieldLink "java/util/HashMap" (105 : Nat) "java/util/HashMap" "table" "[Ljava/util/HashMap$Node;") ∈ lw_all := lw_g (lw_at lw_m1 112 rfl) rfl
theorem q195 : (Jvm.Cond.fieldLink "java/util/HashMap" (156 : Nat) "java/util/HashMap" "size" "I") ∈ lw_all := lw_g (lw_at lw_m1 113 rfl) rfl
theorem q196 : (Jvm.Cond.fieldLink "java/util/HashMap" (202 : Nat) "java/util/HashMap" "modCount" "I") ∈ lw_all := lw_g (lw_at lw_m1 114 rfl) rfl
theorem q197 : (Jvm.Cond.fieldLink "java/util/HashMap" (88 : Nat) "java/util/HashMap" "threshold" "I") ∈ lw_all := lw_g (lw_at lw_m1 115 rfl) rfl
theorem q198 : (Jvm.Cond.fieldLink "java/util/HashMap" (81 : Nat) "java/util/HashMap" "loadFactor" "F") ∈ lw_all := lw_g (lw_at lw_m1 116 rfl) rfl
theorem q199 : (Jvm.Cond.lays "java/util/HashMap" "java/util/HashMap" "table" "[Ljava/util/HashMap$Node;") ∈ lw_all := lw_g (lw_at lw_m1 117 rfl) rfl
theorem q200 : (Jvm.Cond.soleField "java/util/HashMap" "table") ∈ lw_all := lw_g (lw_at lw_m1 118 rfl) rfl
theorem q201 : (Jvm.Cond.lays "java/util/HashMap" "java/util/HashMap" "entrySet" "Ljava/util/Set;") ∈ lw_all := lw_g (lw_at lw_m1 119 rfl) rfl
theorem q202 : (Jvm.Cond.soleField "java/util/HashMap" "entrySet") ∈ lw_all := lw_g (lw_at lw_m1 120 rfl) rfl
theorem q203 : (Jvm.Cond.lays "java/util/HashMap" "java/util/HashMap" "size" "I") ∈ lw_all := lw_g (lw_at lw_m1 121 rfl) rfl
theorem q204 : (Jvm.Cond.soleField "java/util/HashMap" "size") ∈ lw_all := lw_g (lw_at lw_m1 122 rfl) rfl
theorem q205 : (Jvm.Cond.lays "java/util/HashMap" "java/util/HashMap" "modCount" "I") ∈ lw_all := lw_g (lw_at lw_m1 123 rfl) rfl
theorem q206 : (Jvm.Cond.soleField "java/util/HashMap" "modCount") ∈ lw_all := lw_g (lw_at lw_m1 124 rfl) rfl
theorem q207 : (Jvm.Cond.lays "java/util/HashMap" "java/util/HashMap" "threshold" "I") ∈ lw_all := lw_g (lw_at lw_m1 125 rfl) rfl
theorem q208 : (Jvm.Cond.soleField "java/util/HashMap" "threshold") ∈ lw_all := lw_g (lw_at lw_m1 126 rfl) rfl
theorem q209 : (Jvm.Cond.laysFinal "java/util/HashMap" "java/util/HashMap" "loadFactor" "F") ∈ lw_all := lw_g (lw_at lw_m1 127 rfl) rfl
theorem q210 : (Jvm.Cond.soleField "java/util/HashMap" "loadFactor") ∈ lw_all := lw_g (lw_at lw_m1 128 rfl) rfl
theorem q211 : (Jvm.Cond.lays "java/util/HashMap" "java/util/AbstractMap" "keySet" "Ljava/util/Set;") ∈ lw_all := lw_g (lw_at lw_m1 129 rfl) rfl
theorem q213 : (Jvm.Cond.lays "java/util/HashMap" "java/util/AbstractMap" "values" "Ljava/util/Collection;") ∈ lw_all := lw_g (lw_at lw_m1 131 rfl) rfl
theorem q215 : (Jvm.Cond.superclass "java/util/HashMap" "java/util/AbstractMap") ∈ lw_all := lw_g (lw_at lw_m1 133 rfl) rfl
theorem q636 : (Jvm.Cond.instanceMethod ({ cls := "java/util/HashMap", name := "get", desc := "(Ljava/lang/Object;)Ljava/lang/Object;" } : Jvm.MethodName)) ∈ lw_all := lw_g (lw_at lw_m3 74 rfl) rfl
theorem q637 : (Jvm.Cond.selects "java/util/HashMap" ({ cls := "java/util/HashMap", name := "get", desc := "(Ljava/lang/Object;)Ljava/lang/Object;" } : Jvm.MethodName) ({ cls := "java/util/HashMap", name := "get", desc := "(Ljava/lang/Object;)Ljava/lang/Object;" } : Jvm.MethodName)) ∈ lw_all := lw_g (lw_at lw_m3 75 rfl) rfl
theorem q638 : (Jvm.Cond.code ({ cls := "java/util/HashMap", name := "get", desc := "(Ljava/lang/Object;)Ljava/lang/Object;" } : Jvm.MethodName) prog_61_method_12_code (3 : Nat) (Option.some (Jvm.ClassFile.FieldType.object "java/lang/Object"))) ∈ lw_all := lw_g (lw_at lw_m3 76 rfl) rfl
theorem q639 : (Jvm.Cond.methodLink "java/util/HashMap" (158 : Nat) ({ cls := "java/util/HashMap", name := "getNode", desc := "(Ljava/lang/Object;)Ljava/util/HashMap$Node;" } : Jvm.MethodName)) ∈ lw_all := lw_g (lw_at lw_m3 77 rfl) rfl
theorem q640 : (Jvm.Cond.instanceMethod ({ cls := "java/util/HashMap", name := "getNode", desc := "(Ljava/lang/Object;)Ljava/util/HashMap$Node;" } : Jvm.MethodName)) ∈ lw_all := lw_g (lw_at lw_m3 78 rfl) rfl
theorem q641 : (Jvm.Cond.selects "java/util/HashMap" ({ cls := "java/util/HashMap", name := "getNode", desc := "(Ljava/lang/Object;)Ljava/util/HashMap$Node;" } : Jvm.MethodName) ({ cls := "java/util/HashMap", name := "getNode", desc := "(Ljava/lang/Object;)Ljava/util/HashMap$Node;" } : Jvm.MethodName)) ∈ lw_all := lw_g (lw_at lw_m3 79 rfl) rfl
theorem q642 : (Jvm.Cond.code ({ cls := "java/util/HashMap", name := "getNode", desc := "(Ljava/lang/Object;)Ljava/util/HashMap$Node;" } : Jvm.MethodName) prog_61_method_13_code (8 : Nat) (Option.some (Jvm.ClassFile.FieldType.object "java/util/HashMap$Node"))) ∈ lw_all := lw_g (lw_at lw_m3 80 rfl) rfl
theorem q643 : (Jvm.Cond.methodLink "java/util/HashMap" (149 : Nat) ({ cls := "java/util/HashMap", name := "hash", desc := "(Ljava/lang/Object;)I" } : Jvm.MethodName)) ∈ lw_all := lw_g (lw_at lw_m3 81 rfl) rfl
theorem q644 : (Jvm.Cond.static ({ cls := "java/util/HashMap", name := "hash", desc := "(Ljava/lang/Object;)I" } : Jvm.MethodName)) ∈ lw_all := lw_g (lw_at lw_m3 82 rfl) rfl
theorem q645 : (Jvm.Cond.code ({ cls := "java/util/HashMap", name := "hash", desc := "(Ljava/lang/Object;)I" } : Jvm.MethodName) prog_61_method_1_code (2 : Nat) (Option.some Jvm.ClassFile.FieldType.int)) ∈ lw_all := lw_g (lw_at lw_m3 83 rfl) rfl
theorem q647 : (Jvm.Cond.methodLink "java/util/HashMap" (1 : Nat) ({ cls := "java/lang/Object", name := "hashCode", desc := "()I" } : Jvm.MethodName)) ∈ lw_all := lw_g (lw_at lw_m3 85 rfl) rfl
theorem q746 : (Jvm.Cond.methodLink "java/util/HashMap" (173 : Nat) ({ cls := "java/lang/Object", name := "equals", desc := "(Ljava/lang/Object;)Z" } : Jvm.MethodName)) ∈ lw_all := lw_g (lw_at lw_m3 184 rfl) rfl
theorem q793 : (Jvm.Cond.classLink "java/util/HashMap" (180 : Nat) "java/util/HashMap$TreeNode") ∈ lw_all := lw_g (lw_at lw_m3 231 rfl) rfl
theorem q794 : (Jvm.Cond.methodLink "java/util/HashMap" (182 : Nat) ({ cls := "java/util/HashMap$TreeNode", name := "getTreeNode", desc := "(ILjava/lang/Object;)Ljava/util/HashMap$TreeNode;" } : Jvm.MethodName)) ∈ lw_all := lw_g (lw_at lw_m3 232 rfl) rfl
theorem q808 : (Jvm.Cond.static ({ cls := "java/util/HashMap", name := "comparableClassFor", desc := "(Ljava/lang/Object;)Ljava/lang/Class;" } : Jvm.MethodName)) ∈ lw_all := lw_g (lw_at lw_m4 6 rfl) rfl
theorem q809 : (Jvm.Cond.code ({ cls := "java/util/HashMap", name := "comparableClassFor", desc := "(Ljava/lang/Object;)Ljava/lang/Class;" } : Jvm.MethodName) prog_61_method_2_code (9 : Nat) (Option.some (Jvm.ClassFile.FieldType.object "java/lang/Class"))) ∈ lw_all := lw_g (lw_at lw_m4 7 rfl) rfl
theorem q810 : (Jvm.Cond.classLink "java/util/HashMap" (7 : Nat) "java/lang/Comparable") ∈ lw_all := lw_g (lw_at lw_m4 8 rfl) rfl
theorem q811 : (Jvm.Cond.methodLink "java/util/HashMap" (9 : Nat) ({ cls := "java/lang/Object", name := "getClass", desc := "()Ljava/lang/Class;" } : Jvm.MethodName)) ∈ lw_all := lw_g (lw_at lw_m4 9 rfl) rfl
theorem q847 : (Jvm.Cond.selects "java/util/HashMap" ({ cls := "java/lang/Object", name := "getClass", desc := "()Ljava/lang/Class;" } : Jvm.MethodName) ({ cls := "java/lang/Object", name := "getClass", desc := "()Ljava/lang/Class;" } : Jvm.MethodName)) ∈ lw_all := lw_g (lw_at lw_m4 45 rfl) rfl
theorem q853 : (Jvm.Cond.classLink "java/util/HashMap" (13 : Nat) "java/lang/String") ∈ lw_all := lw_g (lw_at lw_m4 51 rfl) rfl
theorem q855 : (Jvm.Cond.static ({ cls := "java/util/HashMap", name := "compareComparables", desc := "(Ljava/lang/Class;Ljava/lang/Object;Ljava/lang/Object;)I" } : Jvm.MethodName)) ∈ lw_all := lw_g (lw_at lw_m4 53 rfl) rfl
theorem q856 : (Jvm.Cond.code ({ cls := "java/util/HashMap", name := "compareComparables", desc := "(Ljava/lang/Class;Ljava/lang/Object;Ljava/lang/Object;)I" } : Jvm.MethodName) prog_61_method_3_code (3 : Nat) (Option.some Jvm.ClassFile.FieldType.int)) ∈ lw_all := lw_g (lw_at lw_m4 54 rfl) rfl
theorem q857 : (Jvm.Cond.interfaceEntry "java/util/HashMap" (30 : Nat)) ∈ lw_tbl := lw_at lw_m4 55 rfl
theorem q858 : (Jvm.Cond.methodLink "java/util/HashMap" (30 : Nat) ({ cls := "java/lang/Comparable", name := "compareTo", desc := "(Ljava/lang/Object;)I" } : Jvm.MethodName)) ∈ lw_all := lw_g (lw_at lw_m4 56 rfl) rfl
theorem q1271 : (Jvm.Cond.instanceMethod ({ cls := "java/util/HashMap", name := "put", desc := "(Ljava/lang/Object;Ljava/lang/Object;)Ljava/lang/Object;" } : Jvm.MethodName)) ∈ lw_all := lw_g (lw_at lw_m5 229 rfl) rfl
theorem q1272 : (Jvm.Cond.selects "java/util/HashMap" ({ cls := "java/util/HashMap", name := "put", desc := "(Ljava/lang/Object;Ljava/lang/Object;)Ljava/lang/Object;" } : Jvm.MethodName) ({ cls := "java/util/HashMap", name := "put", desc := "(Ljava/lang/Object;Ljava/lang/Object;)Ljava/lang/Object;" } : Jvm.MethodName)) ∈ lw_all := lw_g (lw_at lw_m5 230 rfl) rfl
theorem q1273 : (Jvm.Cond.code ({ cls := "java/util/HashMap", name := "put", desc := "(Ljava/lang/Object;Ljava/lang/Object;)Ljava/lang/Object;" } : Jvm.MethodName) prog_61_method_15_code (3 : Nat) (Option.some (Jvm.ClassFile.FieldType.object "java/lang/Object"))) ∈ lw_all := lw_g (lw_at lw_m5 231 rfl) rfl
theorem q1274 : (Jvm.Cond.methodLink "java/util/HashMap" (152 : Nat) ({ cls := "java/util/HashMap", name := "putVal", desc := "(ILjava/lang/Object;Ljava/lang/Object;ZZ)Ljava/lang/Object;" } : Jvm.MethodName)) ∈ lw_all := lw_g (lw_at lw_m5 232 rfl) rfl
theorem q1275 : (Jvm.Cond.instanceMethod ({ cls := "java/util/HashMap", name := "putVal", desc := "(ILjava/lang/Object;Ljava/lang/Object;ZZ)Ljava/lang/Object;" } : Jvm.MethodName)) ∈ lw_all := lw_g (lw_at lw_m5 233 rfl) rfl
theorem q1276 : (Jvm.Cond.selects "java/util/HashMap" ({ cls := "java/util/HashMap", name := "putVal", desc := "(ILjava/lang/Object;Ljava/lang/Object;ZZ)Ljava/lang/Object;" } : Jvm.MethodName) ({ cls := "java/util/HashMap", name := "putVal", desc := "(ILjava/lang/Object;Ljava/lang/Object;ZZ)Ljava/lang/Object;" } : Jvm.MethodName)) ∈ lw_all := lw_g (lw_at lw_m5 234 rfl) rfl
theorem q1277 : (Jvm.Cond.code ({ cls := "java/util/HashMap", name := "putVal", desc := "(ILjava/lang/Object;Ljava/lang/Object;ZZ)Ljava/lang/Object;" } : Jvm.MethodName) prog_61_method_16_code (13 : Nat) (Option.some (Jvm.ClassFile.FieldType.object "java/lang/Object"))) ∈ lw_all := lw_g (lw_at lw_m5 235 rfl) rfl
theorem q1278 : (Jvm.Cond.methodLink "java/util/HashMap" (117 : Nat) ({ cls := "java/util/HashMap", name := "resize", desc := "()[Ljava/util/HashMap$Node;" } : Jvm.MethodName)) ∈ lw_all := lw_g (lw_at lw_m5 236 rfl) rfl
theorem q1279 : (Jvm.Cond.instanceMethod ({ cls := "java/util/HashMap", name := "resize", desc := "()[Ljava/util/HashMap$Node;" } : Jvm.MethodName)) ∈ lw_all := lw_g (lw_at lw_m5 237 rfl) rfl
theorem q1280 : (Jvm.Cond.selects "java/util/HashMap" ({ cls := "java/util/HashMap", name := "resize", desc := "()[Ljava/util/HashMap$Node;" } : Jvm.MethodName) ({ cls := "java/util/HashMap", name := "resize", desc := "()[Ljava/util/HashMap$Node;" } : Jvm.MethodName)) ∈ lw_all := lw_g (lw_at lw_m5 238 rfl) rfl
theorem q1281 : (Jvm.Cond.code ({ cls := "java/util/HashMap", name := "resize", desc := "()[Ljava/util/HashMap$Node;" } : Jvm.MethodName) prog_61_method_17_code (14 : Nat) (Option.some (Jvm.ClassFile.FieldType.array (Jvm.ClassFile.FieldType.object "java/util/HashMap$Node")))) ∈ lw_all := lw_g (lw_at lw_m5 239 rfl) rfl
theorem q1282 : (Jvm.Cond.constant "java/util/HashMap" (42 : Nat) (1073741824 : Int32)) ∈ lw_all := lw_g (lw_at lw_m6 0 rfl) rfl
theorem q1283 : (Jvm.Cond.constant "java/util/HashMap" (209 : Nat) (2147483647 : Int32)) ∈ lw_all := lw_g (lw_at lw_m6 1 rfl) rfl
theorem q1284 : (Jvm.Cond.constantFloat "java/util/HashMap" (210 : Nat) (1317011456 : UInt32)) ∈ lw_all := lw_g (lw_at lw_m6 2 rfl) rfl
theorem q1285 : (Jvm.Cond.classLink "java/util/HashMap" (163 : Nat) "java/util/HashMap$Node") ∈ lw_all := lw_g (lw_at lw_m6 3 rfl) rfl
theorem q1287 : (Jvm.Cond.methodLink "java/util/HashMap" (211 : Nat) ({ cls := "java/util/HashMap$TreeNode", name := "split", desc := "(Ljava/util/HashMap;[Ljava/util/HashMap$Node;II)V" } : Jvm.MethodName)) ∈ lw_all := lw_g (lw_at lw_m6 5 rfl) rfl
theorem q1297 : (Jvm.Cond.instanceMethod ({ cls := "java/util/HashMap", name := "replacementNode", desc := "(Ljava/util/HashMap$Node;Ljava/util/HashMap$Node;)Ljava/util/HashMap$Node;" } : Jvm.MethodName)) ∈ lw_all := lw_g (lw_at lw_m6 15 rfl) rfl
theorem q1298 : (Jvm.Cond.selects "java/util/HashMap" ({ cls := "java/util/HashMap", name := "replacementNode", desc := "(Ljava/util/HashMap$Node;Ljava/util/HashMap$Node;)Ljava/util/HashMap$Node;" } : Jvm.MethodName) ({ cls := "java/util/HashMap", name := "replacementNode", desc := "(Ljava/util/HashMap$Node;Ljava/util/HashMap$Node;)Ljava/util/HashMap$Node;" } : Jvm.MethodName)) ∈ lw_all := lw_g (lw_at lw_m6 16 rfl) rfl
theorem q1299 : (Jvm.Cond.code ({ cls := "java/util/HashMap", name := "replacementNode", desc := "(Ljava/util/HashMap$Node;Ljava/util/HashMap$Node;)Ljava/util/HashMap$Node;" } : Jvm.MethodName) prog_61_method_47_code (3 : Nat) (Option.some (Jvm.ClassFile.FieldType.object "java/util/HashMap$Node"))) ∈ lw_all := lw_g (lw_at lw_m6 17 rfl) rfl
theorem q1301 : (Jvm.Cond.methodLink "java/util/HashMap" (375 : Nat) ({ cls := "java/util/HashMap$Node", name := "<init>", desc := "(ILjava/lang/Object;Ljava/lang/Object;Ljava/util/HashMap$Node;)V" } : Jvm.MethodName)) ∈ lw_all := lw_g (lw_at lw_m6 19 rfl) rfl
theorem q1308 : (Jvm.Cond.fieldLink "java/util/HashMap" (168 : Nat) "java/util/HashMap$Node" "hash" "I") ∈ lw_all := lw_g (lw_at lw_m6 26 rfl) rfl
theorem q1312 : (Jvm.Cond.fieldLink "java/util/HashMap" (170 : Nat) "java/util/HashMap$Node" "key" "Ljava/lang/Object;") ∈ lw_all := lw_g (lw_at lw_m6 30 rfl) rfl
theorem q1314 : (Jvm.Cond.fieldLink "java/util/HashMap" (162 : Nat) "java/util/HashMap$Node" "value" "Ljava/lang/Object;") ∈ lw_all := lw_g (lw_at lw_m6 32 rfl) rfl
theorem q1319 : (Jvm.Cond.fieldLink "java/util/HashMap" (177 : Nat) "java/util/HashMap$Node" "next" "Ljava/util/HashMap$Node;") ∈ lw_all := lw_g (lw_at lw_m6 37 rfl) rfl
theorem q1320 : (Jvm.Cond.fieldLink "java/util/HashMap" (223 : Nat) "java/util/HashMap$TreeNode" "next" "Ljava/util/HashMap$Node;") ∈ lw_all := lw_g (lw_at lw_m6 38 rfl) rfl
theorem q1348 : (Jvm.Cond.methodLink "java/util/HashMap" (186 : Nat) ({ cls := "java/util/HashMap", name := "newNode", desc := "(ILjava/lang/Object;Ljava/lang/Object;Ljava/util/HashMap$Node;)Ljava/util/HashMap$Node;" } : Jvm.MethodName)) ∈ lw_all := lw_g (lw_at lw_m6 66 rfl) rfl
theorem q1349 : (Jvm.Cond.instanceMethod ({ cls := "java/util/HashMap", name := "newNode", desc := "(ILjava/lang/Object;Ljava/lang/Object;Ljava/util/HashMap$Node;)Ljava/util/HashMap$Node;" } : Jvm.MethodName)) ∈ lw_all := lw_g (lw_at lw_m6 67 rfl) rfl
theorem q1350 : (Jvm.Cond.selects "java/util/HashMap" ({ cls := "java/util/HashMap", name := "newNode", desc := "(ILjava/lang/Object;Ljava/lang/Object;Ljava/util/HashMap$Node;)Ljava/util/HashMap$Node;" } : Jvm.MethodName) ({ cls := "java/util/HashMap", name := "newNode", desc := "(ILjava/lang/Object;Ljava/lang/Object;Ljava/util/HashMap$Node;)Ljava/util/HashMap$Node;" } : Jvm.MethodName)) ∈ lw_all := lw_g (lw_at lw_m6 68 rfl) rfl
theorem q1351 : (Jvm.Cond.code ({ cls := "java/util/HashMap", name := "newNode", desc := "(ILjava/lang/Object;Ljava/lang/Object;Ljava/util/HashMap$Node;)Ljava/util/HashMap$Node;" } : Jvm.MethodName) prog_61_method_46_code (5 : Nat) (Option.some (Jvm.ClassFile.FieldType.object "java/util/HashMap$Node"))) ∈ lw_all := lw_g (lw_at lw_m6 69 rfl) rfl
theorem q1352 : (Jvm.Cond.methodLink "java/util/HashMap" (190 : Nat) ({ cls := "java/util/HashMap$TreeNode", name := "putTreeVal", desc := "(Ljava/util/HashMap;[Ljava/util/HashMap$Node;ILjava/lang/Object;Ljava/lang/Object;)Ljava/util/HashMap$TreeNode;" } : Jvm.MethodName)) ∈ lw_all := lw_g (lw_at lw_m6 70 rfl) rfl
theorem q1357 : (Jvm.Cond.instanceMethod ({ cls := "java/util/HashMap", name := "newTreeNode", desc := "(ILjava/lang/Object;Ljava/lang/Object;Ljava/util/HashMap$Node;)Ljava/util/HashMap$TreeNode;" } : Jvm.MethodName)) ∈ lw_all := lw_g (lw_at lw_m6 75 rfl) rfl
theorem q1358 : (Jvm.Cond.selects "java/util/HashMap" ({ cls := "java/util/HashMap", name := "newTreeNode", desc := "(ILjava/lang/Object;Ljava/lang/Object;Ljava/util/HashMap$Node;)Ljava/util/HashMap$TreeNode;" } : Jvm.MethodName) ({ cls := "java/util/HashMap", name := "newTreeNode", desc := "(ILjava/lang/Object;Ljava/lang/Object;Ljava/util/HashMap$Node;)Ljava/util/HashMap$TreeNode;" } : Jvm.MethodName)) ∈ lw_all := lw_g (lw_at lw_m6 76 rfl) rfl
theorem q1359 : (Jvm.Cond.code ({ cls := "java/util/HashMap", name := "newTreeNode", desc := "(ILjava/lang/Object;Ljava/lang/Object;Ljava/util/HashMap$Node;)Ljava/util/HashMap$TreeNode;" } : Jvm.MethodName) prog_61_method_48_code (5 : Nat) (Option.some (Jvm.ClassFile.FieldType.object "java/util/HashMap$TreeNode"))) ∈ lw_all := lw_g (lw_at lw_m6 77 rfl) rfl
theorem q1361 : (Jvm.Cond.methodLink "java/util/HashMap" (378 : Nat) ({ cls := "java/util/HashMap$TreeNode", name := "<init>", desc := "(ILjava/lang/Object;Ljava/lang/Object;Ljava/util/HashMap$Node;)V" } : Jvm.MethodName)) ∈ lw_all := lw_g (lw_at lw_m6 79 rfl) rfl
theorem q1372 : (Jvm.Cond.fieldLink "java/util/HashMap" (219 : Nat) "java/util/HashMap$TreeNode" "prev" "Ljava/util/HashMap$TreeNode;") ∈ lw_all := lw_g (lw_at lw_m6 90 rfl) rfl
theorem q1393 : (Jvm.Cond.methodLink "java/util/HashMap" (194 : Nat) ({ cls := "java/util/HashMap", name := "treeifyBin", desc := "([Ljava/util/HashMap$Node;I)V" } : Jvm.MethodName)) ∈ lw_all := lw_g (lw_at lw_m6 111 rfl) rfl
theorem q1394 : (Jvm.Cond.instanceMethod ({ cls := "java/util/HashMap", name := "treeifyBin", desc := "([Ljava/util/HashMap$Node;I)V" } : Jvm.MethodName)) ∈ lw_all := lw_g (lw_at lw_m6 112 rfl) rfl
theorem q1395 : (Jvm.Cond.selects "java/util/HashMap" ({ cls := "java/util/HashMap", name := "treeifyBin", desc := "([Ljava/util/HashMap$Node;I)V" } : Jvm.MethodName) ({ cls := "java/util/HashMap", name := "treeifyBin", desc := "([Ljava/util/HashMap$Node;I)V" } : Jvm.MethodName)) ∈ lw_all := lw_g (lw_at lw_m6 113 rfl) rfl
theorem q1396 : (Jvm.Cond.code ({ cls := "java/util/HashMap", name := "treeifyBin", desc := "([Ljava/util/HashMap$Node;I)V" } : Jvm.MethodName) prog_61_method_18_code (9 : Nat) (Option.none : Option Jvm.ClassFile.FieldType)) ∈ lw_all := lw_g (lw_at lw_m6 114 rfl) rfl
theorem q1397 : (Jvm.Cond.methodLink "java/util/HashMap" (215 : Nat) ({ cls := "java/util/HashMap", name := "replacementTreeNode", desc := "(Ljava/util/HashMap$Node;Ljava/util/HashMap$Node;)Ljava/util/HashMap$TreeNode;" } : Jvm.MethodName)) ∈ lw_all := lw_g (lw_at lw_m6 115 rfl) rfl
theorem q1398 : (Jvm.Cond.instanceMethod ({ cls := "java/util/HashMap", name := "replacementTreeNode", desc := "(Ljava/util/HashMap$Node;Ljava/util/HashMap$Node;)Ljava/util/HashMap$TreeNode;" } : Jvm.MethodName)) ∈ lw_all := lw_g (lw_at lw_m6 116 rfl) rfl
theorem q1399 : (Jvm.Cond.selects "java/util/HashMap" ({ cls := "java/util/HashMap", name := "replacementTreeNode", desc := "(Ljava/util/HashMap$Node;Ljava/util/HashMap$Node;)Ljava/util/HashMap$TreeNode;" } : Jvm.MethodName) ({ cls := "java/util/HashMap", name := "replacementTreeNode", desc := "(Ljava/util/HashMap$Node;Ljava/util/HashMap$Node;)Ljava/util/HashMap$TreeNode;" } : Jvm.MethodName)) ∈ lw_all := lw_g (lw_at lw_m6 117 rfl) rfl
theorem q1400 : (Jvm.Cond.code ({ cls := "java/util/HashMap", name := "replacementTreeNode", desc := "(Ljava/util/HashMap$Node;Ljava/util/HashMap$Node;)Ljava/util/HashMap$TreeNode;" } : Jvm.MethodName) prog_61_method_49_code (3 : Nat) (Option.some (Jvm.ClassFile.FieldType.object "java/util/HashMap$TreeNode"))) ∈ lw_all := lw_g (lw_at lw_m6 118 rfl) rfl
theorem q1401 : (Jvm.Cond.methodLink "java/util/HashMap" (224 : Nat) ({ cls := "java/util/HashMap$TreeNode", name := "treeify", desc := "([Ljava/util/HashMap$Node;)V" } : Jvm.MethodName)) ∈ lw_all := lw_g (lw_at lw_m6 119 rfl) rfl
theorem q1402 : (Jvm.Cond.methodLink "java/util/HashMap" (198 : Nat) ({ cls := "java/util/HashMap", name := "afterNodeAccess", desc := "(Ljava/util/HashMap$Node;)V" } : Jvm.MethodName)) ∈ lw_all := lw_g (lw_at lw_m6 120 rfl) rfl
theorem q1403 : (Jvm.Cond.instanceMethod ({ cls := "java/util/HashMap", name := "afterNodeAccess", desc := "(Ljava/util/HashMap$Node;)V" } : Jvm.MethodName)) ∈ lw_all := lw_g (lw_at lw_m6 121 rfl) rfl
theorem q1404 : (Jvm.Cond.selects "java/util/HashMap" ({ cls := "java/util/HashMap", name := "afterNodeAccess", desc := "(Ljava/util/HashMap$Node;)V" } : Jvm.MethodName) ({ cls := "java/util/HashMap", name := "afterNodeAccess", desc := "(Ljava/util/HashMap$Node;)V" } : Jvm.MethodName)) ∈ lw_all := lw_g (lw_at lw_m6 122 rfl) rfl
theorem q1405 : (Jvm.Cond.code ({ cls := "java/util/HashMap", name := "afterNodeAccess", desc := "(Ljava/util/HashMap$Node;)V" } : Jvm.MethodName) prog_61_method_51_code (2 : Nat) (Option.none : Option Jvm.ClassFile.FieldType)) ∈ lw_all := lw_g (lw_at lw_m6 123 rfl) rfl
theorem q1406 : (Jvm.Cond.methodLink "java/util/HashMap" (205 : Nat) ({ cls := "java/util/HashMap", name := "afterNodeInsertion", desc := "(Z)V" } : Jvm.MethodName)) ∈ lw_all := lw_g (lw_at lw_m6 124 rfl) rfl
theorem q1407 : (Jvm.Cond.instanceMethod ({ cls := "java/util/HashMap", name := "afterNodeInsertion", desc := "(Z)V" } : Jvm.MethodName)) ∈ lw_all := lw_g (lw_at lw_m6 125 rfl) rfl
theorem q1408 : (Jvm.Cond.selects "java/util/HashMap" ({ cls := "java/util/HashMap", name := "afterNodeInsertion", desc := "(Z)V" } : Jvm.MethodName) ({ cls := "java/util/HashMap", name := "afterNodeInsertion", desc := "(Z)V" } : Jvm.MethodName)) ∈ lw_all := lw_g (lw_at lw_m6 126 rfl) rfl
theorem q1409 : (Jvm.Cond.code ({ cls := "java/util/HashMap", name := "afterNodeInsertion", desc := "(Z)V" } : Jvm.MethodName) prog_61_method_52_code (2 : Nat) (Option.none : Option Jvm.ClassFile.FieldType)) ∈ lw_all := lw_g (lw_at lw_m6 127 rfl) rfl
theorem q3234 : (Jvm.Cond.castable "java/util/HashMap" "java/lang/Object") ∈ lw_tbl := lw_at lw_m14 32 rfl
theorem in_J4 : ∀ w ∈ wsJ40, w ∈ lw_all := lw_in wsJ40 [211, 213, 199, 201, 203, 205, 207, 209] (by decide +kernel) (by decide +kernel)

/-! java/util/ArrayDeque -/
set_option maxRecDepth 100000
def RJ5 : String := "java/util/ArrayDeque"
def TJ5 : u_T := fun k => match k with
  | 0 => ("java/util/ArrayDeque", "elements", "[Ljava/lang/Object;", false)
  | 1 => ("java/util/ArrayDeque", "head", "I", false)
  | _ => ("java/util/ArrayDeque", "tail", "I", false)
def tyJ5 : Nat → FieldType := fun k => match k with
  | 0 => .array (.object "java/lang/Object")
  | 1 => .int
  | _ => .int
abbrev wsJ50 : List Cond := u_ws RJ5 TJ5 3
theorem nmJ5 : ∀ a, a < 3 → ∀ b, b < 3 → a ≠ b → (TJ5 a).2.1 ≠ (TJ5 b).2.1 := by decide +kernel
theorem tyJ5_ok : ∀ k, k < 3 → parseFieldDescriptor (TJ5 k).2.2.1 = some (tyJ5 k) := by decide +kernel
abbrev cJ5_init : ByteArray := prog_54_method_3_code
def yJ5_init : MethodName := ⟨RJ5, "<init>", "()V"⟩
abbrev cJ5_clear : ByteArray := prog_54_method_53_code
def yJ5_clear : MethodName := ⟨RJ5, "clear", "()V"⟩
abbrev cJ5_circularClear : ByteArray := prog_54_method_54_code
def yJ5_circularClear : MethodName := ⟨RJ5, "circularClear", "([Ljava/lang/Object;II)V"⟩
abbrev cJ5_nonNullElementAt : ByteArray := prog_54_method_11_code
def yJ5_nonNullElementAt : MethodName := ⟨RJ5, "nonNullElementAt", "([Ljava/lang/Object;I)Ljava/lang/Object;"⟩
abbrev cJ5_inc : ByteArray := prog_54_method_6_code
def yJ5_inc : MethodName := ⟨RJ5, "inc", "(II)I"⟩
abbrev cJ5_toArray : ByteArray := prog_54_method_55_code
def yJ5_toArray : MethodName := ⟨RJ5, "toArray", "()[Ljava/lang/Object;"⟩
abbrev cJ5_toArray_2 : ByteArray := prog_54_method_56_code
def yJ5_toArray_2 : MethodName := ⟨RJ5, "toArray", "(Ljava/lang/Class;)[Ljava/lang/Object;"⟩
abbrev cJ5_size : ByteArray := prog_54_method_37_code
def yJ5_size : MethodName := ⟨RJ5, "size", "()I"⟩
abbrev cJ5_sub : ByteArray := prog_54_method_9_code
def yJ5_sub : MethodName := ⟨RJ5, "sub", "(III)I"⟩
abbrev cJ5_removeFirst : ByteArray := prog_54_method_18_code
def yJ5_removeFirst : MethodName := ⟨RJ5, "removeFirst", "()Ljava/lang/Object;"⟩
abbrev cJ5_pollFirst : ByteArray := prog_54_method_20_code
def yJ5_pollFirst : MethodName := ⟨RJ5, "pollFirst", "()Ljava/lang/Object;"⟩
abbrev cJ5_elementAt : ByteArray := prog_54_method_10_code
def yJ5_elementAt : MethodName := ⟨RJ5, "elementAt", "([Ljava/lang/Object;I)Ljava/lang/Object;"⟩
abbrev cJ5_addLast : ByteArray := prog_54_method_13_code
def yJ5_addLast : MethodName := ⟨RJ5, "addLast", "(Ljava/lang/Object;)V"⟩
abbrev cJ5_grow : ByteArray := prog_54_method_1_code
def yJ5_grow : MethodName := ⟨RJ5, "grow", "(I)V"⟩
abbrev cJ5_newCapacity : ByteArray := prog_54_method_2_code
def yJ5_newCapacity : MethodName := ⟨RJ5, "newCapacity", "(II)I"⟩
abbrev cJ5_iterator : ByteArray := prog_54_method_39_code
def yJ5_iterator : MethodName := ⟨RJ5, "iterator", "()Ljava/util/Iterator;"⟩
abbrev cJ5_isEmpty : ByteArray := prog_54_method_38_code
def yJ5_isEmpty : MethodName := ⟨RJ5, "isEmpty", "()Z"⟩
abbrev cJ5_removeLast : ByteArray := prog_54_method_19_code
def yJ5_removeLast : MethodName := ⟨RJ5, "removeLast", "()Ljava/lang/Object;"⟩
abbrev cJ5_pollLast : ByteArray := prog_54_method_21_code
def yJ5_pollLast : MethodName := ⟨RJ5, "pollLast", "()Ljava/lang/Object;"⟩
abbrev cJ5_dec : ByteArray := prog_54_method_7_code
def yJ5_dec : MethodName := ⟨RJ5, "dec", "(II)I"⟩
theorem q90 : (Jvm.Cond.initialized "java/util/ArrayDeque") ∈ lw_all := lw_g (lw_at lw_m1 8 rfl) rfl
theorem q252 : (Jvm.Cond.instantiable "java/util/ArrayDeque" (3 : Nat)) ∈ lw_all := lw_g (lw_at lw_m1 170 rfl) rfl
theorem q254 : (Jvm.Cond.instanceMethod ({ cls := "java/util/ArrayDeque", name := "<init>", desc := "()V" } : Jvm.MethodName)) ∈ lw_all := lw_g (lw_at lw_m1 172 rfl) rfl
theorem q255 : (Jvm.Cond.code ({ cls := "java/util/ArrayDeque", name := "<init>", desc := "()V" } : Jvm.MethodName) prog_54_method_3_code (1 : Nat) (Option.none : Option Jvm.ClassFile.FieldType)) ∈ lw_all := lw_g (lw_at lw_m1 173 rfl) rfl
theorem q256 : (Jvm.Cond.methodLink "java/util/ArrayDeque" (42 : Nat) ({ cls := "java/util/AbstractCollection", name := "<init>", desc := "()V" } : Jvm.MethodName)) ∈ lw_all := lw_g (lw_at lw_m1 174 rfl) rfl
theorem q257 : (Jvm.Cond.classLink "java/util/ArrayDeque" (47 : Nat) "java/lang/Object") ∈ lw_all := lw_g (lw_at lw_m1 175 rfl) rfl
theorem q259 : (Jvm.Cond.fieldLink "java/util/ArrayDeque" (3 : Nat) "java/util/ArrayDeque" "elements" "[Ljava/lang/Object;") ∈ lw_all := lw_g (lw_at lw_m1 177 rfl) rfl
theorem q262 : (Jvm.Cond.fieldLink "java/util/ArrayDeque" (24 : Nat) "java/util/ArrayDeque" "head" "I") ∈ lw_all := lw_g (lw_at lw_m1 180 rfl) rfl
theorem q263 : (Jvm.Cond.fieldLink "java/util/ArrayDeque" (20 : Nat) "java/util/ArrayDeque" "tail" "I") ∈ lw_all := lw_g (lw_at lw_m1 181 rfl) rfl
theorem q264 : (Jvm.Cond.lays "java/util/ArrayDeque" "java/util/ArrayDeque" "elements" "[Ljava/lang/Object;") ∈ lw_all := lw_g (lw_at lw_m1 182 rfl) rfl
theorem q265 : (Jvm.Cond.soleField "java/util/ArrayDeque" "elements") ∈ lw_all := lw_g (lw_at lw_m1 183 rfl) rfl
theorem q266 : (Jvm.Cond.lays "java/util/ArrayDeque" "java/util/ArrayDeque" "head" "I") ∈ lw_all := lw_g (lw_at lw_m1 184 rfl) rfl
theorem q267 : (Jvm.Cond.soleField "java/util/ArrayDeque" "head") ∈ lw_all := lw_g (lw_at lw_m1 185 rfl) rfl
theorem q268 : (Jvm.Cond.lays "java/util/ArrayDeque" "java/util/ArrayDeque" "tail" "I") ∈ lw_all := lw_g (lw_at lw_m1 186 rfl) rfl
theorem q269 : (Jvm.Cond.soleField "java/util/ArrayDeque" "tail") ∈ lw_all := lw_g (lw_at lw_m1 187 rfl) rfl
theorem q270 : (Jvm.Cond.superclass "java/util/ArrayDeque" "java/util/AbstractCollection") ∈ lw_all := lw_g (lw_at lw_m1 188 rfl) rfl
theorem q336 : (Jvm.Cond.instanceMethod ({ cls := "java/util/ArrayDeque", name := "clear", desc := "()V" } : Jvm.MethodName)) ∈ lw_all := lw_g (lw_at lw_m2 14 rfl) rfl
theorem q337 : (Jvm.Cond.selects "java/util/ArrayDeque" ({ cls := "java/util/ArrayDeque", name := "clear", desc := "()V" } : Jvm.MethodName) ({ cls := "java/util/ArrayDeque", name := "clear", desc := "()V" } : Jvm.MethodName)) ∈ lw_all := lw_g (lw_at lw_m2 15 rfl) rfl
theorem q338 : (Jvm.Cond.code ({ cls := "java/util/ArrayDeque", name := "clear", desc := "()V" } : Jvm.MethodName) prog_54_method_53_code (1 : Nat) (Option.none : Option Jvm.ClassFile.FieldType)) ∈ lw_all := lw_g (lw_at lw_m2 16 rfl) rfl
theorem q339 : (Jvm.Cond.methodLink "java/util/ArrayDeque" (181 : Nat) ({ cls := "java/util/ArrayDeque", name := "circularClear", desc := "([Ljava/lang/Object;II)V" } : Jvm.MethodName)) ∈ lw_all := lw_g (lw_at lw_m2 17 rfl) rfl
theorem q340 : (Jvm.Cond.static ({ cls := "java/util/ArrayDeque", name := "circularClear", desc := "([Ljava/lang/Object;II)V" } : Jvm.MethodName)) ∈ lw_all := lw_g (lw_at lw_m2 18 rfl) rfl
theorem q341 : (Jvm.Cond.code ({ cls := "java/util/ArrayDeque", name := "circularClear", desc := "([Ljava/lang/Object;II)V" } : Jvm.MethodName) prog_54_method_54_code (4 : Nat) (Option.none : Option Jvm.ClassFile.FieldType)) ∈ lw_all := lw_g (lw_at lw_m2 19 rfl) rfl
theorem q843 : (Jvm.Cond.selects "java/util/ArrayDeque" ({ cls := "java/lang/Object", name := "getClass", desc := "()Ljava/lang/Class;" } : Jvm.MethodName) ({ cls := "java/lang/Object", name := "getClass", desc := "()Ljava/lang/Class;" } : Jvm.MethodName)) ∈ lw_all := lw_g (lw_at lw_m4 41 rfl) rfl
theorem q1201 : (Jvm.Cond.static ({ cls := "java/util/ArrayDeque", name := "nonNullElementAt", desc := "([Ljava/lang/Object;I)Ljava/lang/Object;" } : Jvm.MethodName)) ∈ lw_all := lw_g (lw_at lw_m5 159 rfl) rfl
theorem q1202 : (Jvm.Cond.code ({ cls := "java/util/ArrayDeque", name := "nonNullElementAt", desc := "([Ljava/lang/Object;I)Ljava/lang/Object;" } : Jvm.MethodName) prog_54_method_11_code (3 : Nat) (Option.some (Jvm.ClassFile.FieldType.object "java/lang/Object"))) ∈ lw_all := lw_g (lw_at lw_m5 160 rfl) rfl
theorem q1204 : (Jvm.Cond.static ({ cls := "java/util/ArrayDeque", name := "inc", desc := "(II)I" } : Jvm.MethodName)) ∈ lw_all := lw_g (lw_at lw_m5 162 rfl) rfl
theorem q1205 : (Jvm.Cond.code ({ cls := "java/util/ArrayDeque", name := "inc", desc := "(II)I" } : Jvm.MethodName) prog_54_method_6_code (2 : Nat) (Option.some Jvm.ClassFile.FieldType.int)) ∈ lw_all := lw_g (lw_at lw_m5 163 rfl) rfl
theorem q1537 : (Jvm.Cond.castable "java/util/ArrayDeque" "java/util/Collection") ∈ lw_tbl := lw_at lw_m7 15 rfl
theorem q1538 : (Jvm.Cond.selects "java/util/ArrayDeque" ({ cls := "java/util/Collection", name := "toArray", desc := "()[Ljava/lang/Object;" } : Jvm.MethodName) ({ cls := "java/util/ArrayDeque", name := "toArray", desc := "()[Ljava/lang/Object;" } : Jvm.MethodName)) ∈ lw_all := lw_g (lw_at lw_m7 16 rfl) rfl
theorem q1539 : (Jvm.Cond.unhidden "java/util/ArrayDeque" "toArray" "()[Ljava/lang/Object;") ∈ lw_tbl := lw_at lw_m7 17 rfl
theorem q1540 : (Jvm.Cond.instanceMethod ({ cls := "java/util/ArrayDeque", name := "toArray", desc := "()[Ljava/lang/Object;" } : Jvm.MethodName)) ∈ lw_all := lw_g (lw_at lw_m7 18 rfl) rfl
theorem q1541 : (Jvm.Cond.publicMethod ({ cls := "java/util/ArrayDeque", name := "toArray", desc := "()[Ljava/lang/Object;" } : Jvm.MethodName)) ∈ lw_tbl := lw_at lw_m7 19 rfl
theorem q1542 : (Jvm.Cond.code ({ cls := "java/util/ArrayDeque", name := "toArray", desc := "()[Ljava/lang/Object;" } : Jvm.MethodName) prog_54_method_55_code (1 : Nat) (Option.some (Jvm.ClassFile.FieldType.array (Jvm.ClassFile.FieldType.object "java/lang/Object")))) ∈ lw_all := lw_g (lw_at lw_m7 20 rfl) rfl
theorem q1543 : (Jvm.Cond.classLink "java/util/ArrayDeque" (188 : Nat) "[Ljava/lang/Object;") ∈ lw_all := lw_g (lw_at lw_m7 21 rfl) rfl
theorem q1544 : (Jvm.Cond.methodLink "java/util/ArrayDeque" (189 : Nat) ({ cls := "java/util/ArrayDeque", name := "toArray", desc := "(Ljava/lang/Class;)[Ljava/lang/Object;" } : Jvm.MethodName)) ∈ lw_all := lw_g (lw_at lw_m7 22 rfl) rfl
theorem q1545 : (Jvm.Cond.privateMethod ({ cls := "java/util/ArrayDeque", name := "toArray", desc := "(Ljava/lang/Class;)[Ljava/lang/Object;" } : Jvm.MethodName)) ∈ lw_tbl := lw_at lw_m7 23 rfl
theorem q1546 : (Jvm.Cond.instanceMethod ({ cls := "java/util/ArrayDeque", name := "toArray", desc := "(Ljava/lang/Class;)[Ljava/lang/Object;" } : Jvm.MethodName)) ∈ lw_all := lw_g (lw_at lw_m7 24 rfl) rfl
theorem q1547 : (Jvm.Cond.code ({ cls := "java/util/ArrayDeque", name := "toArray", desc := "(Ljava/lang/Class;)[Ljava/lang/Object;" } : Jvm.MethodName) prog_54_method_56_code (7 : Nat) (Option.some (Jvm.ClassFile.FieldType.array (Jvm.ClassFile.FieldType.object "java/lang/Object")))) ∈ lw_all := lw_g (lw_at lw_m7 25 rfl) rfl
theorem q1548 : (Jvm.Cond.methodLink "java/util/ArrayDeque" (193 : Nat) ({ cls := "java/util/Arrays", name := "copyOfRange", desc := "([Ljava/lang/Object;IILjava/lang/Class;)[Ljava/lang/Object;" } : Jvm.MethodName)) ∈ lw_all := lw_g (lw_at lw_m7 26 rfl) rfl
theorem q1551 : (Jvm.Cond.methodLink "java/util/ArrayDeque" (27 : Nat) ({ cls := "java/lang/System", name := "arraycopy", desc := "(Ljava/lang/Object;ILjava/lang/Object;II)V" } : Jvm.MethodName)) ∈ lw_all := lw_g (lw_at lw_m7 29 rfl) rfl
theorem q1610 : (Jvm.Cond.instanceMethod ({ cls := "java/util/ArrayDeque", name := "size", desc := "()I" } : Jvm.MethodName)) ∈ lw_all := lw_g (lw_at lw_m7 88 rfl) rfl
theorem q1611 : (Jvm.Cond.selects "java/util/ArrayDeque" ({ cls := "java/util/ArrayDeque", name := "size", desc := "()I" } : Jvm.MethodName) ({ cls := "java/util/ArrayDeque", name := "size", desc := "()I" } : Jvm.MethodName)) ∈ lw_all := lw_g (lw_at lw_m7 89 rfl) rfl
theorem q1612 : (Jvm.Cond.code ({ cls := "java/util/ArrayDeque", name := "size", desc := "()I" } : Jvm.MethodName) prog_54_method_37_code (1 : Nat) (Option.some Jvm.ClassFile.FieldType.int)) ∈ lw_all := lw_g (lw_at lw_m7 90 rfl) rfl
theorem q1613 : (Jvm.Cond.methodLink "java/util/ArrayDeque" (127 : Nat) ({ cls := "java/util/ArrayDeque", name := "sub", desc := "(III)I" } : Jvm.MethodName)) ∈ lw_all := lw_g (lw_at lw_m7 91 rfl) rfl
theorem q1614 : (Jvm.Cond.static ({ cls := "java/util/ArrayDeque", name := "sub", desc := "(III)I" } : Jvm.MethodName)) ∈ lw_all := lw_g (lw_at lw_m7 92 rfl) rfl
theorem q1615 : (Jvm.Cond.code ({ cls := "java/util/ArrayDeque", name := "sub", desc := "(III)I" } : Jvm.MethodName) prog_54_method_9_code (3 : Nat) (Option.some Jvm.ClassFile.FieldType.int)) ∈ lw_all := lw_g (lw_at lw_m7 93 rfl) rfl
theorem q1617 : (Jvm.Cond.instanceMethod ({ cls := "java/util/ArrayDeque", name := "removeFirst", desc := "()Ljava/lang/Object;" } : Jvm.MethodName)) ∈ lw_all := lw_g (lw_at lw_m7 95 rfl) rfl
theorem q1618 : (Jvm.Cond.selects "java/util/ArrayDeque" ({ cls := "java/util/ArrayDeque", name := "removeFirst", desc := "()Ljava/lang/Object;" } : Jvm.MethodName) ({ cls := "java/util/ArrayDeque", name := "removeFirst", desc := "()Ljava/lang/Object;" } : Jvm.MethodName)) ∈ lw_all := lw_g (lw_at lw_m7 96 rfl) rfl
theorem q1619 : (Jvm.Cond.code ({ cls := "java/util/ArrayDeque", name := "removeFirst", desc := "()Ljava/lang/Object;" } : Jvm.MethodName) prog_54_method_18_code (2 : Nat) (Option.some (Jvm.ClassFile.FieldType.object "java/lang/Object"))) ∈ lw_all := lw_g (lw_at lw_m7 97 rfl) rfl
theorem q1620 : (Jvm.Cond.methodLink "java/util/ArrayDeque" (93 : Nat) ({ cls := "java/util/ArrayDeque", name := "pollFirst", desc := "()Ljava/lang/Object;" } : Jvm.MethodName)) ∈ lw_all := lw_g (lw_at lw_m7 98 rfl) rfl
theorem q1621 : (Jvm.Cond.instanceMethod ({ cls := "java/util/ArrayDeque", name := "pollFirst", desc := "()Ljava/lang/Object;" } : Jvm.MethodName)) ∈ lw_all := lw_g (lw_at lw_m7 99 rfl) rfl
theorem q1622 : (Jvm.Cond.selects "java/util/ArrayDeque" ({ cls := "java/util/ArrayDeque", name := "pollFirst", desc := "()Ljava/lang/Object;" } : Jvm.MethodName) ({ cls := "java/util/ArrayDeque", name := "pollFirst", desc := "()Ljava/lang/Object;" } : Jvm.MethodName)) ∈ lw_all := lw_g (lw_at lw_m7 100 rfl) rfl
theorem q1623 : (Jvm.Cond.code ({ cls := "java/util/ArrayDeque", name := "pollFirst", desc := "()Ljava/lang/Object;" } : Jvm.MethodName) prog_54_method_20_code (4 : Nat) (Option.some (Jvm.ClassFile.FieldType.object "java/lang/Object"))) ∈ lw_all := lw_g (lw_at lw_m7 101 rfl) rfl
theorem q1624 : (Jvm.Cond.methodLink "java/util/ArrayDeque" (103 : Nat) ({ cls := "java/util/ArrayDeque", name := "elementAt", desc := "([Ljava/lang/Object;I)Ljava/lang/Object;" } : Jvm.MethodName)) ∈ lw_all := lw_g (lw_at lw_m7 102 rfl) rfl
theorem q1625 : (Jvm.Cond.static ({ cls := "java/util/ArrayDeque", name := "elementAt", desc := "([Ljava/lang/Object;I)Ljava/lang/Object;" } : Jvm.MethodName)) ∈ lw_all := lw_g (lw_at lw_m7 103 rfl) rfl
theorem q1626 : (Jvm.Cond.code ({ cls := "java/util/ArrayDeque", name := "elementAt", desc := "([Ljava/lang/Object;I)Ljava/lang/Object;" } : Jvm.MethodName) prog_54_method_10_code (2 : Nat) (Option.some (Jvm.ClassFile.FieldType.object "java/lang/Object"))) ∈ lw_all := lw_g (lw_at lw_m7 104 rfl) rfl
theorem q1627 : (Jvm.Cond.methodLink "java/util/ArrayDeque" (74 : Nat) ({ cls := "java/util/ArrayDeque", name := "inc", desc := "(II)I" } : Jvm.MethodName)) ∈ lw_all := lw_g (lw_at lw_m7 105 rfl) rfl
theorem q1628 : (Jvm.Cond.classLink "java/util/ArrayDeque" (97 : Nat) "java/util/NoSuchElementException") ∈ lw_all := lw_g (lw_at lw_m7 106 rfl) rfl
theorem q1629 : (Jvm.Cond.methodLink "java/util/ArrayDeque" (99 : Nat) ({ cls := "java/util/NoSuchElementException", name := "<init>", desc := "()V" } : Jvm.MethodName)) ∈ lw_all := lw_g (lw_at lw_m7 107 rfl) rfl
theorem q1631 : (Jvm.Cond.instanceMethod ({ cls := "java/util/ArrayDeque", name := "addLast", desc := "(Ljava/lang/Object;)V" } : Jvm.MethodName)) ∈ lw_all := lw_g (lw_at lw_m7 109 rfl) rfl
theorem q1632 : (Jvm.Cond.selects "java/util/ArrayDeque" ({ cls := "java/util/ArrayDeque", name := "addLast", desc := "(Ljava/lang/Object;)V" } : Jvm.MethodName) ({ cls := "java/util/ArrayDeque", name := "addLast", desc := "(Ljava/lang/Object;)V" } : Jvm.MethodName)) ∈ lw_all := lw_g (lw_at lw_m7 110 rfl) rfl
theorem q1633 : (Jvm.Cond.code ({ cls := "java/util/ArrayDeque", name := "addLast", desc := "(Ljava/lang/Object;)V" } : Jvm.MethodName) prog_54_method_13_code (3 : Nat) (Option.none : Option Jvm.ClassFile.FieldType)) ∈ lw_all := lw_g (lw_at lw_m7 111 rfl) rfl
theorem q1634 : (Jvm.Cond.methodLink "java/util/ArrayDeque" (71 : Nat) ({ cls := "java/util/ArrayDeque", name := "grow", desc := "(I)V" } : Jvm.MethodName)) ∈ lw_all := lw_g (lw_at lw_m7 112 rfl) rfl
theorem q1635 : (Jvm.Cond.privateMethod ({ cls := "java/util/ArrayDeque", name := "grow", desc := "(I)V" } : Jvm.MethodName)) ∈ lw_tbl := lw_at lw_m7 113 rfl
theorem q1636 : (Jvm.Cond.instanceMethod ({ cls := "java/util/ArrayDeque", name := "grow", desc := "(I)V" } : Jvm.MethodName)) ∈ lw_all := lw_g (lw_at lw_m7 114 rfl) rfl
theorem q1637 : (Jvm.Cond.code ({ cls := "java/util/ArrayDeque", name := "grow", desc := "(I)V" } : Jvm.MethodName) prog_54_method_1_code (9 : Nat) (Option.none : Option Jvm.ClassFile.FieldType)) ∈ lw_all := lw_g (lw_at lw_m7 115 rfl) rfl
theorem q1638 : (Jvm.Cond.constant "java/util/ArrayDeque" (9 : Nat) (2147483639 : Int32)) ∈ lw_all := lw_g (lw_at lw_m7 116 rfl) rfl
theorem q1639 : (Jvm.Cond.methodLink "java/util/ArrayDeque" (10 : Nat) ({ cls := "java/util/ArrayDeque", name := "newCapacity", desc := "(II)I" } : Jvm.MethodName)) ∈ lw_all := lw_g (lw_at lw_m7 117 rfl) rfl
theorem q1640 : (Jvm.Cond.privateMethod ({ cls := "java/util/ArrayDeque", name := "newCapacity", desc := "(II)I" } : Jvm.MethodName)) ∈ lw_tbl := lw_at lw_m7 118 rfl
theorem q1641 : (Jvm.Cond.instanceMethod ({ cls := "java/util/ArrayDeque", name := "newCapacity", desc := "(II)I" } : Jvm.MethodName)) ∈ lw_all := lw_g (lw_at lw_m7 119 rfl) rfl
theorem q1642 : (Jvm.Cond.code ({ cls := "java/util/ArrayDeque", name := "newCapacity", desc := "(II)I" } : Jvm.MethodName) prog_54_method_2_code (5 : Nat) (Option.some Jvm.ClassFile.FieldType.int)) ∈ lw_all := lw_g (lw_at lw_m7 120 rfl) rfl
theorem q1643 : (Jvm.Cond.classLink "java/util/ArrayDeque" (33 : Nat) "java/lang/IllegalStateException") ∈ lw_all := lw_g (lw_at lw_m7 121 rfl) rfl
theorem q1652 : (Jvm.Cond.stringRef "java/util/ArrayDeque" (35 : Nat) "Sorry, deque too big") ∈ lw_tbl := lw_at lw_m7 130 rfl
theorem q1653 : (Jvm.Cond.methodLink "java/util/ArrayDeque" (37 : Nat) ({ cls := "java/lang/IllegalStateException", name := "<init>", desc := "(Ljava/lang/String;)V" } : Jvm.MethodName)) ∈ lw_all := lw_g (lw_at lw_m7 131 rfl) rfl
theorem q1659 : (Jvm.Cond.constant "java/util/ArrayDeque" (41 : Nat) (2147483647 : Int32)) ∈ lw_all := lw_g (lw_at lw_m7 137 rfl) rfl
theorem q1660 : (Jvm.Cond.methodLink "java/util/ArrayDeque" (14 : Nat) ({ cls := "java/util/Arrays", name := "copyOf", desc := "([Ljava/lang/Object;I)[Ljava/lang/Object;" } : Jvm.MethodName)) ∈ lw_all := lw_g (lw_at lw_m7 138 rfl) rfl
theorem q1958 : (Jvm.Cond.castable "java/util/ArrayDeque" "java/lang/Iterable") ∈ lw_tbl := lw_at lw_m8 196 rfl
theorem q1959 : (Jvm.Cond.selects "java/util/ArrayDeque" ({ cls := "java/lang/Iterable", name := "iterator", desc := "()Ljava/util/Iterator;" } : Jvm.MethodName) ({ cls := "java/util/ArrayDeque", name := "iterator", desc := "()Ljava/util/Iterator;" } : Jvm.MethodName)) ∈ lw_all := lw_g (lw_at lw_m8 197 rfl) rfl
theorem q1960 : (Jvm.Cond.unhidden "java/util/ArrayDeque" "iterator" "()Ljava/util/Iterator;") ∈ lw_tbl := lw_at lw_m8 198 rfl
theorem q1961 : (Jvm.Cond.instanceMethod ({ cls := "java/util/ArrayDeque", name := "iterator", desc := "()Ljava/util/Iterator;" } : Jvm.MethodName)) ∈ lw_all := lw_g (lw_at lw_m8 199 rfl) rfl
theorem q1962 : (Jvm.Cond.publicMethod ({ cls := "java/util/ArrayDeque", name := "iterator", desc := "()Ljava/util/Iterator;" } : Jvm.MethodName)) ∈ lw_tbl := lw_at lw_m8 200 rfl
theorem q1963 : (Jvm.Cond.code ({ cls := "java/util/ArrayDeque", name := "iterator", desc := "()Ljava/util/Iterator;" } : Jvm.MethodName) prog_54_method_39_code (1 : Nat) (Option.some (Jvm.ClassFile.FieldType.object "java/util/Iterator"))) ∈ lw_all := lw_g (lw_at lw_m8 201 rfl) rfl
theorem q1964 : (Jvm.Cond.classLink "java/util/ArrayDeque" (131 : Nat) "java/util/ArrayDeque$DeqIterator") ∈ lw_all := lw_g (lw_at lw_m8 202 rfl) rfl
theorem q1966 : (Jvm.Cond.methodLink "java/util/ArrayDeque" (133 : Nat) ({ cls := "java/util/ArrayDeque$DeqIterator", name := "<init>", desc := "(Ljava/util/ArrayDeque;)V" } : Jvm.MethodName)) ∈ lw_all := lw_g (lw_at lw_m8 204 rfl) rfl
theorem q2750 : (Jvm.Cond.instanceMethod ({ cls := "java/util/ArrayDeque", name := "isEmpty", desc := "()Z" } : Jvm.MethodName)) ∈ lw_all := lw_g (lw_at lw_m12 28 rfl) rfl
theorem q2751 : (Jvm.Cond.selects "java/util/ArrayDeque" ({ cls := "java/util/ArrayDeque", name := "isEmpty", desc := "()Z" } : Jvm.MethodName) ({ cls := "java/util/ArrayDeque", name := "isEmpty", desc := "()Z" } : Jvm.MethodName)) ∈ lw_all := lw_g (lw_at lw_m12 29 rfl) rfl
theorem q2752 : (Jvm.Cond.code ({ cls := "java/util/ArrayDeque", name := "isEmpty", desc := "()Z" } : Jvm.MethodName) prog_54_method_38_code (1 : Nat) (Option.some Jvm.ClassFile.FieldType.boolean)) ∈ lw_all := lw_g (lw_at lw_m12 30 rfl) rfl
theorem q2754 : (Jvm.Cond.instanceMethod ({ cls := "java/util/ArrayDeque", name := "removeLast", desc := "()Ljava/lang/Object;" } : Jvm.MethodName)) ∈ lw_all := lw_g (lw_at lw_m12 32 rfl) rfl
theorem q2755 : (Jvm.Cond.selects "java/util/ArrayDeque" ({ cls := "java/util/ArrayDeque", name := "removeLast", desc := "()Ljava/lang/Object;" } : Jvm.MethodName) ({ cls := "java/util/ArrayDeque", name := "removeLast", desc := "()Ljava/lang/Object;" } : Jvm.MethodName)) ∈ lw_all := lw_g (lw_at lw_m12 33 rfl) rfl
theorem q2756 : (Jvm.Cond.code ({ cls := "java/util/ArrayDeque", name := "removeLast", desc := "()Ljava/lang/Object;" } : Jvm.MethodName) prog_54_method_19_code (2 : Nat) (Option.some (Jvm.ClassFile.FieldType.object "java/lang/Object"))) ∈ lw_all := lw_g (lw_at lw_m12 34 rfl) rfl
theorem q2757 : (Jvm.Cond.methodLink "java/util/ArrayDeque" (100 : Nat) ({ cls := "java/util/ArrayDeque", name := "pollLast", desc := "()Ljava/lang/Object;" } : Jvm.MethodName)) ∈ lw_all := lw_g (lw_at lw_m12 35 rfl) rfl
theorem q2758 : (Jvm.Cond.instanceMethod ({ cls := "java/util/ArrayDeque", name := "pollLast", desc := "()Ljava/lang/Object;" } : Jvm.MethodName)) ∈ lw_all := lw_g (lw_at lw_m12 36 rfl) rfl
theorem q2759 : (Jvm.Cond.selects "java/util/ArrayDeque" ({ cls := "java/util/ArrayDeque", name := "pollLast", desc := "()Ljava/lang/Object;" } : Jvm.MethodName) ({ cls := "java/util/ArrayDeque", name := "pollLast", desc := "()Ljava/lang/Object;" } : Jvm.MethodName)) ∈ lw_all := lw_g (lw_at lw_m12 37 rfl) rfl
theorem q2760 : (Jvm.Cond.code ({ cls := "java/util/ArrayDeque", name := "pollLast", desc := "()Ljava/lang/Object;" } : Jvm.MethodName) prog_54_method_21_code (4 : Nat) (Option.some (Jvm.ClassFile.FieldType.object "java/lang/Object"))) ∈ lw_all := lw_g (lw_at lw_m12 38 rfl) rfl
theorem q2761 : (Jvm.Cond.methodLink "java/util/ArrayDeque" (68 : Nat) ({ cls := "java/util/ArrayDeque", name := "dec", desc := "(II)I" } : Jvm.MethodName)) ∈ lw_all := lw_g (lw_at lw_m12 39 rfl) rfl
theorem q2762 : (Jvm.Cond.static ({ cls := "java/util/ArrayDeque", name := "dec", desc := "(II)I" } : Jvm.MethodName)) ∈ lw_all := lw_g (lw_at lw_m12 40 rfl) rfl
theorem q2763 : (Jvm.Cond.code ({ cls := "java/util/ArrayDeque", name := "dec", desc := "(II)I" } : Jvm.MethodName) prog_54_method_7_code (2 : Nat) (Option.some Jvm.ClassFile.FieldType.int)) ∈ lw_all := lw_g (lw_at lw_m12 41 rfl) rfl
theorem q3235 : (Jvm.Cond.castable "java/util/ArrayDeque" "java/lang/Object") ∈ lw_tbl := lw_at lw_m14 33 rfl
theorem in_J5 : ∀ w ∈ wsJ50, w ∈ lw_all := lw_in wsJ50 [264, 266, 268] (by decide +kernel) (by decide +kernel)

/-! java/lang/StringBuilder -/
set_option maxRecDepth 100000
def RJ7 : String := "java/lang/StringBuilder"
def TJ7 : u_T := fun k => match k with
  | 0 => ("java/lang/AbstractStringBuilder", "value", "[B", false)
  | 1 => ("java/lang/AbstractStringBuilder", "coder", "B", false)
  | 2 => ("java/lang/AbstractStringBuilder", "maybeLatin1", "Z", false)
  | _ => ("java/lang/AbstractStringBuilder", "count", "I", false)
def tyJ7 : Nat → FieldType := fun k => match k with
  | 0 => .array .byte
  | 1 => .byte
  | 2 => .boolean
  | _ => .int
abbrev wsJ70 : List Cond := u_ws RJ7 TJ7 4
theorem nmJ7 : ∀ a, a < 4 → ∀ b, b < 4 → a ≠ b → (TJ7 a).2.1 ≠ (TJ7 b).2.1 := by decide +kernel
theorem tyJ7_ok : ∀ k, k < 4 → parseFieldDescriptor (TJ7 k).2.2.1 = some (tyJ7 k) := by decide +kernel
abbrev cJ7_init : ByteArray := prog_42_method_1_code
def yJ7_init : MethodName := ⟨RJ7, "<init>", "()V"⟩
abbrev cJ7_toString : ByteArray := prog_42_method_42_code
def yJ7_toString : MethodName := ⟨RJ7, "toString", "()Ljava/lang/String;"⟩
abbrev cJ7_length : ByteArray := prog_42_method_93_code
def yJ7_length : MethodName := ⟨RJ7, "length", "()I"⟩
abbrev cJ7_append : ByteArray := prog_42_method_15_code
def yJ7_append : MethodName := ⟨RJ7, "append", "(I)Ljava/lang/StringBuilder;"⟩
abbrev cJ7_append_2 : ByteArray := prog_42_method_7_code
def yJ7_append_2 : MethodName := ⟨RJ7, "append", "(Ljava/lang/String;)Ljava/lang/StringBuilder;"⟩
abbrev cJ7_compareTo : ByteArray := prog_42_method_97_code
def yJ7_compareTo : MethodName := ⟨RJ7, "compareTo", "(Ljava/lang/Object;)I"⟩
abbrev cJ7_compareTo_2 : ByteArray := prog_42_method_5_code
def yJ7_compareTo_2 : MethodName := ⟨RJ7, "compareTo", "(Ljava/lang/StringBuilder;)I"⟩
abbrev cJ7_append_3 : ByteArray := prog_42_method_14_code
def yJ7_append_3 : MethodName := ⟨RJ7, "append", "(C)Ljava/lang/StringBuilder;"⟩
abbrev cJ7_charAt : ByteArray := prog_42_method_88_code
def yJ7_charAt : MethodName := ⟨RJ7, "charAt", "(I)C"⟩
abbrev cJ7_subSequence : ByteArray := prog_42_method_63_code
def yJ7_subSequence : MethodName := ⟨RJ7, "subSequence", "(II)Ljava/lang/CharSequence;"⟩
abbrev cJ7_substring : ByteArray := prog_42_method_62_code
def yJ7_substring : MethodName := ⟨RJ7, "substring", "(II)Ljava/lang/String;"⟩
theorem q92 : (Jvm.Cond.initialized "java/lang/StringBuilder") ∈ lw_all := lw_g (lw_at lw_m1 10 rfl) rfl
theorem q272 : (Jvm.Cond.instantiable "java/lang/StringBuilder" (4 : Nat)) ∈ lw_all := lw_g (lw_at lw_m1 190 rfl) rfl
theorem q274 : (Jvm.Cond.instanceMethod ({ cls := "java/lang/StringBuilder", name := "<init>", desc := "()V" } : Jvm.MethodName)) ∈ lw_all := lw_g (lw_at lw_m1 192 rfl) rfl
theorem q275 : (Jvm.Cond.code ({ cls := "java/lang/StringBuilder", name := "<init>", desc := "()V" } : Jvm.MethodName) prog_42_method_1_code (1 : Nat) (Option.none : Option Jvm.ClassFile.FieldType)) ∈ lw_all := lw_g (lw_at lw_m1 193 rfl) rfl
theorem q276 : (Jvm.Cond.methodLink "java/lang/StringBuilder" (1 : Nat) ({ cls := "java/lang/AbstractStringBuilder", name := "<init>", desc := "(I)V" } : Jvm.MethodName)) ∈ lw_all := lw_g (lw_at lw_m1 194 rfl) rfl
theorem q293 : (Jvm.Cond.lays "java/lang/StringBuilder" "java/lang/AbstractStringBuilder" "value" "[B") ∈ lw_all := lw_g (lw_at lw_m1 211 rfl) rfl
theorem q295 : (Jvm.Cond.lays "java/lang/StringBuilder" "java/lang/AbstractStringBuilder" "coder" "B") ∈ lw_all := lw_g (lw_at lw_m1 213 rfl) rfl
theorem q297 : (Jvm.Cond.lays "java/lang/StringBuilder" "java/lang/AbstractStringBuilder" "maybeLatin1" "Z") ∈ lw_all := lw_g (lw_at lw_m1 215 rfl) rfl
theorem q299 : (Jvm.Cond.lays "java/lang/StringBuilder" "java/lang/AbstractStringBuilder" "count" "I") ∈ lw_all := lw_g (lw_at lw_m1 217 rfl) rfl
theorem q301 : (Jvm.Cond.superclass "java/lang/StringBuilder" "java/lang/AbstractStringBuilder") ∈ lw_all := lw_g (lw_at lw_m1 219 rfl) rfl
theorem q347 : (Jvm.Cond.instanceMethod ({ cls := "java/lang/StringBuilder", name := "toString", desc := "()Ljava/lang/String;" } : Jvm.MethodName)) ∈ lw_all := lw_g (lw_at lw_m2 25 rfl) rfl
theorem q348 : (Jvm.Cond.selects "java/lang/StringBuilder" ({ cls := "java/lang/StringBuilder", name := "toString", desc := "()Ljava/lang/String;" } : Jvm.MethodName) ({ cls := "java/lang/StringBuilder", name := "toString", desc := "()Ljava/lang/String;" } : Jvm.MethodName)) ∈ lw_all := lw_g (lw_at lw_m2 26 rfl) rfl
theorem q349 : (Jvm.Cond.code ({ cls := "java/lang/StringBuilder", name := "toString", desc := "()Ljava/lang/String;" } : Jvm.MethodName) prog_42_method_42_code (1 : Nat) (Option.some (Jvm.ClassFile.FieldType.object "java/lang/String"))) ∈ lw_all := lw_g (lw_at lw_m2 27 rfl) rfl
theorem q350 : (Jvm.Cond.classLink "java/lang/StringBuilder" (18 : Nat) "java/lang/String") ∈ lw_all := lw_g (lw_at lw_m2 28 rfl) rfl
theorem q352 : (Jvm.Cond.methodLink "java/lang/StringBuilder" (137 : Nat) ({ cls := "java/lang/String", name := "<init>", desc := "(Ljava/lang/StringBuilder;)V" } : Jvm.MethodName)) ∈ lw_all := lw_g (lw_at lw_m2 30 rfl) rfl
theorem q362 : (Jvm.Cond.selects "java/lang/StringBuilder" ({ cls := "java/lang/AbstractStringBuilder", name := "getValue", desc := "()[B" } : Jvm.MethodName) ({ cls := "java/lang/AbstractStringBuilder", name := "getValue", desc := "()[B" } : Jvm.MethodName)) ∈ lw_all := lw_g (lw_at lw_m2 40 rfl) rfl
theorem q367 : (Jvm.Cond.selects "java/lang/StringBuilder" ({ cls := "java/lang/AbstractStringBuilder", name := "length", desc := "()I" } : Jvm.MethodName) ({ cls := "java/lang/StringBuilder", name := "length", desc := "()I" } : Jvm.MethodName)) ∈ lw_all := lw_g (lw_at lw_m2 45 rfl) rfl
theorem q368 : (Jvm.Cond.instanceMethod ({ cls := "java/lang/StringBuilder", name := "length", desc := "()I" } : Jvm.MethodName)) ∈ lw_all := lw_g (lw_at lw_m2 46 rfl) rfl
theorem q369 : (Jvm.Cond.code ({ cls := "java/lang/StringBuilder", name := "length", desc := "()I" } : Jvm.MethodName) prog_42_method_93_code (1 : Nat) (Option.some Jvm.ClassFile.FieldType.int)) ∈ lw_all := lw_g (lw_at lw_m2 47 rfl) rfl
theorem q370 : (Jvm.Cond.methodLink "java/lang/StringBuilder" (343 : Nat) ({ cls := "java/lang/AbstractStringBuilder", name := "length", desc := "()I" } : Jvm.MethodName)) ∈ lw_all := lw_g (lw_at lw_m2 48 rfl) rfl
theorem q375 : (Jvm.Cond.selects "java/lang/StringBuilder" ({ cls := "java/lang/AbstractStringBuilder", name := "isLatin1", desc := "()Z" } : Jvm.MethodName) ({ cls := "java/lang/AbstractStringBuilder", name := "isLatin1", desc := "()Z" } : Jvm.MethodName)) ∈ lw_all := lw_g (lw_at lw_m2 53 rfl) rfl
theorem q438 : (Jvm.Cond.instanceMethod ({ cls := "java/lang/StringBuilder", name := "append", desc := "(I)Ljava/lang/StringBuilder;" } : Jvm.MethodName)) ∈ lw_all := lw_g (lw_at lw_m2 116 rfl) rfl
theorem q439 : (Jvm.Cond.selects "java/lang/StringBuilder" ({ cls := "java/lang/StringBuilder", name := "append", desc := "(I)Ljava/lang/StringBuilder;" } : Jvm.MethodName) ({ cls := "java/lang/StringBuilder", name := "append", desc := "(I)Ljava/lang/StringBuilder;" } : Jvm.MethodName)) ∈ lw_all := lw_g (lw_at lw_m2 117 rfl) rfl
theorem q440 : (Jvm.Cond.code ({ cls := "java/lang/StringBuilder", name := "append", desc := "(I)Ljava/lang/StringBuilder;" } : Jvm.MethodName) prog_42_method_15_code (2 : Nat) (Option.some (Jvm.ClassFile.FieldType.object "java/lang/StringBuilder"))) ∈ lw_all := lw_g (lw_at lw_m2 118 rfl) rfl
theorem q441 : (Jvm.Cond.methodLink "java/lang/StringBuilder" (53 : Nat) ({ cls := "java/lang/AbstractStringBuilder", name := "append", desc := "(I)Ljava/lang/AbstractStringBuilder;" } : Jvm.MethodName)) ∈ lw_all := lw_g (lw_at lw_m2 119 rfl) rfl
theorem q523 : (Jvm.Cond.instanceMethod ({ cls := "java/lang/StringBuilder", name := "append", desc := "(Ljava/lang/String;)Ljava/lang/StringBuilder;" } : Jvm.MethodName)) ∈ lw_all := lw_g (lw_at lw_m2 201 rfl) rfl
theorem q524 : (Jvm.Cond.selects "java/lang/StringBuilder" ({ cls := "java/lang/StringBuilder", name := "append", desc := "(Ljava/lang/String;)Ljava/lang/StringBuilder;" } : Jvm.MethodName) ({ cls := "java/lang/StringBuilder", name := "append", desc := "(Ljava/lang/String;)Ljava/lang/StringBuilder;" } : Jvm.MethodName)) ∈ lw_all := lw_g (lw_at lw_m2 202 rfl) rfl
theorem q525 : (Jvm.Cond.code ({ cls := "java/lang/StringBuilder", name := "append", desc := "(Ljava/lang/String;)Ljava/lang/StringBuilder;" } : Jvm.MethodName) prog_42_method_7_code (2 : Nat) (Option.some (Jvm.ClassFile.FieldType.object "java/lang/StringBuilder"))) ∈ lw_all := lw_g (lw_at lw_m2 203 rfl) rfl
theorem q526 : (Jvm.Cond.methodLink "java/lang/StringBuilder" (29 : Nat) ({ cls := "java/lang/AbstractStringBuilder", name := "append", desc := "(Ljava/lang/String;)Ljava/lang/AbstractStringBuilder;" } : Jvm.MethodName)) ∈ lw_all := lw_g (lw_at lw_m2 204 rfl) rfl
theorem q740 : (Jvm.Cond.selects "java/lang/StringBuilder" ({ cls := "java/lang/Object", name := "hashCode", desc := "()I" } : Jvm.MethodName) ({ cls := "java/lang/Object", name := "hashCode", desc := "()I" } : Jvm.MethodName)) ∈ lw_all := lw_g (lw_at lw_m3 178 rfl) rfl
theorem q788 : (Jvm.Cond.selects "java/lang/StringBuilder" ({ cls := "java/lang/Object", name := "equals", desc := "(Ljava/lang/Object;)Z" } : Jvm.MethodName) ({ cls := "java/lang/Object", name := "equals", desc := "(Ljava/lang/Object;)Z" } : Jvm.MethodName)) ∈ lw_all := lw_g (lw_at lw_m3 226 rfl) rfl
theorem q840 : (Jvm.Cond.selects "java/lang/StringBuilder" ({ cls := "java/lang/Object", name := "getClass", desc := "()Ljava/lang/Class;" } : Jvm.MethodName) ({ cls := "java/lang/Object", name := "getClass", desc := "()Ljava/lang/Class;" } : Jvm.MethodName)) ∈ lw_all := lw_g (lw_at lw_m4 38 rfl) rfl
theorem q1020 : (Jvm.Cond.castable "java/lang/StringBuilder" "java/lang/Comparable") ∈ lw_tbl := lw_at lw_m4 218 rfl
theorem q1021 : (Jvm.Cond.selects "java/lang/StringBuilder" ({ cls := "java/lang/Comparable", name := "compareTo", desc := "(Ljava/lang/Object;)I" } : Jvm.MethodName) ({ cls := "java/lang/StringBuilder", name := "compareTo", desc := "(Ljava/lang/Object;)I" } : Jvm.MethodName)) ∈ lw_all := lw_g (lw_at lw_m4 219 rfl) rfl
theorem q1022 : (Jvm.Cond.unhidden "java/lang/StringBuilder" "compareTo" "(Ljava/lang/Object;)I") ∈ lw_tbl := lw_at lw_m4 220 rfl
theorem q1023 : (Jvm.Cond.instanceMethod ({ cls := "java/lang/StringBuilder", name := "compareTo", desc := "(Ljava/lang/Object;)I" } : Jvm.MethodName)) ∈ lw_all := lw_g (lw_at lw_m4 221 rfl) rfl
theorem q1024 : (Jvm.Cond.publicMethod ({ cls := "java/lang/StringBuilder", name := "compareTo", desc := "(Ljava/lang/Object;)I" } : Jvm.MethodName)) ∈ lw_tbl := lw_at lw_m4 222 rfl
theorem q1025 : (Jvm.Cond.code ({ cls := "java/lang/StringBuilder", name := "compareTo", desc := "(Ljava/lang/Object;)I" } : Jvm.MethodName) prog_42_method_97_code (2 : Nat) (Option.some Jvm.ClassFile.FieldType.int)) ∈ lw_all := lw_g (lw_at lw_m4 223 rfl) rfl
theorem q1026 : (Jvm.Cond.classLink "java/lang/StringBuilder" (24 : Nat) "java/lang/StringBuilder") ∈ lw_all := lw_g (lw_at lw_m4 224 rfl) rfl
theorem q1027 : (Jvm.Cond.methodLink "java/lang/StringBuilder" (346 : Nat) ({ cls := "java/lang/StringBuilder", name := "compareTo", desc := "(Ljava/lang/StringBuilder;)I" } : Jvm.MethodName)) ∈ lw_all := lw_g (lw_at lw_m4 225 rfl) rfl
theorem q1028 : (Jvm.Cond.instanceMethod ({ cls := "java/lang/StringBuilder", name := "compareTo", desc := "(Ljava/lang/StringBuilder;)I" } : Jvm.MethodName)) ∈ lw_all := lw_g (lw_at lw_m4 226 rfl) rfl
theorem q1029 : (Jvm.Cond.selects "java/lang/StringBuilder" ({ cls := "java/lang/StringBuilder", name := "compareTo", desc := "(Ljava/lang/StringBuilder;)I" } : Jvm.MethodName) ({ cls := "java/lang/StringBuilder", name := "compareTo", desc := "(Ljava/lang/StringBuilder;)I" } : Jvm.MethodName)) ∈ lw_all := lw_g (lw_at lw_m4 227 rfl) rfl
theorem q1030 : (Jvm.Cond.code ({ cls := "java/lang/StringBuilder", name := "compareTo", desc := "(Ljava/lang/StringBuilder;)I" } : Jvm.MethodName) prog_42_method_5_code (2 : Nat) (Option.some Jvm.ClassFile.FieldType.int)) ∈ lw_all := lw_g (lw_at lw_m4 228 rfl) rfl
theorem q1031 : (Jvm.Cond.methodLink "java/lang/StringBuilder" (13 : Nat) ({ cls := "java/lang/AbstractStringBuilder", name := "compareTo", desc := "(Ljava/lang/AbstractStringBuilder;)I" } : Jvm.MethodName)) ∈ lw_all := lw_g (lw_at lw_m4 229 rfl) rfl
theorem q2461 : (Jvm.Cond.instanceMethod ({ cls := "java/lang/StringBuilder", name := "append", desc := "(C)Ljava/lang/StringBuilder;" } : Jvm.MethodName)) ∈ lw_all := lw_g (lw_at lw_m10 219 rfl) rfl
theorem q2462 : (Jvm.Cond.selects "java/lang/StringBuilder" ({ cls := "java/lang/StringBuilder", name := "append", desc := "(C)Ljava/lang/StringBuilder;" } : Jvm.MethodName) ({ cls := "java/lang/StringBuilder", name := "append", desc := "(C)Ljava/lang/StringBuilder;" } : Jvm.MethodName)) ∈ lw_all := lw_g (lw_at lw_m10 220 rfl) rfl
theorem q2463 : (Jvm.Cond.code ({ cls := "java/lang/StringBuilder", name := "append", desc := "(C)Ljava/lang/StringBuilder;" } : Jvm.MethodName) prog_42_method_14_code (2 : Nat) (Option.some (Jvm.ClassFile.FieldType.object "java/lang/StringBuilder"))) ∈ lw_all := lw_g (lw_at lw_m10 221 rfl) rfl
theorem q2464 : (Jvm.Cond.methodLink "java/lang/StringBuilder" (50 : Nat) ({ cls := "java/lang/AbstractStringBuilder", name := "append", desc := "(C)Ljava/lang/AbstractStringBuilder;" } : Jvm.MethodName)) ∈ lw_all := lw_g (lw_at lw_m10 222 rfl) rfl
theorem q2517 : (Jvm.Cond.castable "java/lang/StringBuilder" "java/lang/CharSequence") ∈ lw_tbl := lw_at lw_m11 35 rfl
theorem q2518 : (Jvm.Cond.selects "java/lang/StringBuilder" ({ cls := "java/lang/CharSequence", name := "length", desc := "()I" } : Jvm.MethodName) ({ cls := "java/lang/StringBuilder", name := "length", desc := "()I" } : Jvm.MethodName)) ∈ lw_all := lw_g (lw_at lw_m11 36 rfl) rfl
theorem q2519 : (Jvm.Cond.unhidden "java/lang/StringBuilder" "length" "()I") ∈ lw_tbl := lw_at lw_m11 37 rfl
theorem q2520 : (Jvm.Cond.publicMethod ({ cls := "java/lang/StringBuilder", name := "length", desc := "()I" } : Jvm.MethodName)) ∈ lw_tbl := lw_at lw_m11 38 rfl
theorem q2528 : (Jvm.Cond.selects "java/lang/StringBuilder" ({ cls := "java/lang/CharSequence", name := "charAt", desc := "(I)C" } : Jvm.MethodName) ({ cls := "java/lang/StringBuilder", name := "charAt", desc := "(I)C" } : Jvm.MethodName)) ∈ lw_all := lw_g (lw_at lw_m11 46 rfl) rfl
theorem q2529 : (Jvm.Cond.unhidden "java/lang/StringBuilder" "charAt" "(I)C") ∈ lw_tbl := lw_at lw_m11 47 rfl
theorem q2530 : (Jvm.Cond.instanceMethod ({ cls := "java/lang/StringBuilder", name := "charAt", desc := "(I)C" } : Jvm.MethodName)) ∈ lw_all := lw_g (lw_at lw_m11 48 rfl) rfl
theorem q2531 : (Jvm.Cond.publicMethod ({ cls := "java/lang/StringBuilder", name := "charAt", desc := "(I)C" } : Jvm.MethodName)) ∈ lw_tbl := lw_at lw_m11 49 rfl
theorem q2532 : (Jvm.Cond.code ({ cls := "java/lang/StringBuilder", name := "charAt", desc := "(I)C" } : Jvm.MethodName) prog_42_method_88_code (2 : Nat) (Option.some Jvm.ClassFile.FieldType.char)) ∈ lw_all := lw_g (lw_at lw_m11 50 rfl) rfl
theorem q2533 : (Jvm.Cond.methodLink "java/lang/StringBuilder" (329 : Nat) ({ cls := "java/lang/AbstractStringBuilder", name := "charAt", desc := "(I)C" } : Jvm.MethodName)) ∈ lw_all := lw_g (lw_at lw_m11 51 rfl) rfl
theorem q2600 : (Jvm.Cond.selects "java/lang/StringBuilder" ({ cls := "java/lang/CharSequence", name := "subSequence", desc := "(II)Ljava/lang/CharSequence;" } : Jvm.MethodName) ({ cls := "java/lang/StringBuilder", name := "subSequence", desc := "(II)Ljava/lang/CharSequence;" } : Jvm.MethodName)) ∈ lw_all := lw_g (lw_at lw_m11 118 rfl) rfl
theorem q2601 : (Jvm.Cond.unhidden "java/lang/StringBuilder" "subSequence" "(II)Ljava/lang/CharSequence;") ∈ lw_tbl := lw_at lw_m11 119 rfl
theorem q2602 : (Jvm.Cond.instanceMethod ({ cls := "java/lang/StringBuilder", name := "subSequence", desc := "(II)Ljava/lang/CharSequence;" } : Jvm.MethodName)) ∈ lw_all := lw_g (lw_at lw_m11 120 rfl) rfl
theorem q2603 : (Jvm.Cond.publicMethod ({ cls := "java/lang/StringBuilder", name := "subSequence", desc := "(II)Ljava/lang/CharSequence;" } : Jvm.MethodName)) ∈ lw_tbl := lw_at lw_m11 121 rfl
theorem q2604 : (Jvm.Cond.code ({ cls := "java/lang/StringBuilder", name := "subSequence", desc := "(II)Ljava/lang/CharSequence;" } : Jvm.MethodName) prog_42_method_63_code (3 : Nat) (Option.some (Jvm.ClassFile.FieldType.object "java/lang/CharSequence"))) ∈ lw_all := lw_g (lw_at lw_m11 122 rfl) rfl
theorem q2605 : (Jvm.Cond.methodLink "java/lang/StringBuilder" (256 : Nat) ({ cls := "java/lang/AbstractStringBuilder", name := "subSequence", desc := "(II)Ljava/lang/CharSequence;" } : Jvm.MethodName)) ∈ lw_all := lw_g (lw_at lw_m11 123 rfl) rfl
theorem q2611 : (Jvm.Cond.selects "java/lang/StringBuilder" ({ cls := "java/lang/AbstractStringBuilder", name := "substring", desc := "(II)Ljava/lang/String;" } : Jvm.MethodName) ({ cls := "java/lang/StringBuilder", name := "substring", desc := "(II)Ljava/lang/String;" } : Jvm.MethodName)) ∈ lw_all := lw_g (lw_at lw_m11 129 rfl) rfl
theorem q2612 : (Jvm.Cond.instanceMethod ({ cls := "java/lang/StringBuilder", name := "substring", desc := "(II)Ljava/lang/String;" } : Jvm.MethodName)) ∈ lw_all := lw_g (lw_at lw_m11 130 rfl) rfl
theorem q2613 : (Jvm.Cond.code ({ cls := "java/lang/StringBuilder", name := "substring", desc := "(II)Ljava/lang/String;" } : Jvm.MethodName) prog_42_method_62_code (3 : Nat) (Option.some (Jvm.ClassFile.FieldType.object "java/lang/String"))) ∈ lw_all := lw_g (lw_at lw_m11 131 rfl) rfl
theorem q2614 : (Jvm.Cond.methodLink "java/lang/StringBuilder" (252 : Nat) ({ cls := "java/lang/AbstractStringBuilder", name := "substring", desc := "(II)Ljava/lang/String;" } : Jvm.MethodName)) ∈ lw_all := lw_g (lw_at lw_m11 132 rfl) rfl
theorem q2629 : (Jvm.Cond.selects "java/lang/StringBuilder" ({ cls := "java/lang/CharSequence", name := "toString", desc := "()Ljava/lang/String;" } : Jvm.MethodName) ({ cls := "java/lang/StringBuilder", name := "toString", desc := "()Ljava/lang/String;" } : Jvm.MethodName)) ∈ lw_all := lw_g (lw_at lw_m11 147 rfl) rfl
theorem q2630 : (Jvm.Cond.unhidden "java/lang/StringBuilder" "toString" "()Ljava/lang/String;") ∈ lw_tbl := lw_at lw_m11 148 rfl
theorem q2631 : (Jvm.Cond.publicMethod ({ cls := "java/lang/StringBuilder", name := "toString", desc := "()Ljava/lang/String;" } : Jvm.MethodName)) ∈ lw_tbl := lw_at lw_m11 149 rfl
theorem q3223 : (Jvm.Cond.selects "java/lang/StringBuilder" ({ cls := "java/lang/StringBuilder", name := "length", desc := "()I" } : Jvm.MethodName) ({ cls := "java/lang/StringBuilder", name := "length", desc := "()I" } : Jvm.MethodName)) ∈ lw_all := lw_g (lw_at lw_m14 21 rfl) rfl
theorem q3236 : (Jvm.Cond.castable "java/lang/StringBuilder" "java/lang/Object") ∈ lw_tbl := lw_at lw_m14 34 rfl
theorem in_J7 : ∀ w ∈ wsJ70, w ∈ lw_all := lw_in wsJ70 [293, 295, 297, 299] (by decide +kernel) (by decide +kernel)

/-! java/lang/String -/
set_option maxRecDepth 100000
def RJ8 : String := "java/lang/String"
def TJ8 : u_T := fun k => match k with
  | 0 => ("java/lang/String", "value", "[B", true)
  | 1 => ("java/lang/String", "coder", "B", true)
  | 2 => ("java/lang/String", "hash", "I", false)
  | _ => ("java/lang/String", "hashIsZero", "Z", false)
def tyJ8 : Nat → FieldType := fun k => match k with
  | 0 => .array .byte
  | 1 => .byte
  | 2 => .int
  | _ => .boolean
abbrev wsJ80 : List Cond := u_ws RJ8 TJ8 4
theorem nmJ8 : ∀ a, a < 4 → ∀ b, b < 4 → a ≠ b → (TJ8 a).2.1 ≠ (TJ8 b).2.1 := by decide +kernel
theorem tyJ8_ok : ∀ k, k < 4 → parseFieldDescriptor (TJ8 k).2.2.1 = some (tyJ8 k) := by decide +kernel
abbrev cJ8_init : ByteArray := prog_41_method_53_code
def yJ8_init : MethodName := ⟨RJ8, "<init>", "(Ljava/lang/StringBuilder;)V"⟩
abbrev cJ8_init_2 : ByteArray := prog_41_method_150_code
def yJ8_init_2 : MethodName := ⟨RJ8, "<init>", "(Ljava/lang/AbstractStringBuilder;Ljava/lang/Void;)V"⟩
abbrev cJ8_checkBoundsBeginEnd : ByteArray := prog_41_method_158_code
def yJ8_checkBoundsBeginEnd : MethodName := ⟨RJ8, "checkBoundsBeginEnd", "(III)V"⟩
abbrev cJ8_length : ByteArray := prog_41_method_54_code
def yJ8_length : MethodName := ⟨RJ8, "length", "()I"⟩
abbrev cJ8_coder : ByteArray := prog_41_method_152_code
def yJ8_coder : MethodName := ⟨RJ8, "coder", "()B"⟩
abbrev cJ8_checkBoundsOffCount : ByteArray := prog_41_method_157_code
def yJ8_checkBoundsOffCount : MethodName := ⟨RJ8, "checkBoundsOffCount", "(III)I"⟩
abbrev cJ8_getBytes : ByteArray := prog_41_method_147_code
def yJ8_getBytes : MethodName := ⟨RJ8, "getBytes", "([BIB)V"⟩
abbrev cJ8_hashCode : ByteArray := prog_41_method_78_code
def yJ8_hashCode : MethodName := ⟨RJ8, "hashCode", "()I"⟩
abbrev cJ8_isLatin1 : ByteArray := prog_41_method_154_code
def yJ8_isLatin1 : MethodName := ⟨RJ8, "isLatin1", "()Z"⟩
abbrev cJ8_equals : ByteArray := prog_41_method_66_code
def yJ8_equals : MethodName := ⟨RJ8, "equals", "(Ljava/lang/Object;)Z"⟩
abbrev cJ8_compareTo : ByteArray := prog_41_method_162_code
def yJ8_compareTo : MethodName := ⟨RJ8, "compareTo", "(Ljava/lang/Object;)I"⟩
abbrev cJ8_compareTo_2 : ByteArray := prog_41_method_71_code
def yJ8_compareTo_2 : MethodName := ⟨RJ8, "compareTo", "(Ljava/lang/String;)I"⟩
abbrev cJ8_checkOffset : ByteArray := prog_41_method_156_code
def yJ8_checkOffset : MethodName := ⟨RJ8, "checkOffset", "(II)V"⟩
abbrev cJ8_charAt : ByteArray := prog_41_method_56_code
def yJ8_charAt : MethodName := ⟨RJ8, "charAt", "(I)C"⟩
abbrev cJ8_checkIndex : ByteArray := prog_41_method_155_code
def yJ8_checkIndex : MethodName := ⟨RJ8, "checkIndex", "(II)V"⟩
abbrev cJ8_subSequence : ByteArray := prog_41_method_93_code
def yJ8_subSequence : MethodName := ⟨RJ8, "subSequence", "(II)Ljava/lang/CharSequence;"⟩
abbrev cJ8_substring : ByteArray := prog_41_method_92_code
def yJ8_substring : MethodName := ⟨RJ8, "substring", "(II)Ljava/lang/String;"⟩
abbrev cJ8_init_3 : ByteArray := prog_41_method_151_code
def yJ8_init_3 : MethodName := ⟨RJ8, "<init>", "([BB)V"⟩
abbrev cJ8_toString : ByteArray := prog_41_method_126_code
def yJ8_toString : MethodName := ⟨RJ8, "toString", "()Ljava/lang/String;"⟩
theorem q93 : (Jvm.Cond.initialized "java/lang/String") ∈ lw_all := lw_g (lw_at lw_m1 11 rfl) rfl
theorem q281 : (Jvm.Cond.laysStatic "java/lang/String" "COMPACT_STRINGS" "Z") ∈ lw_tbl := lw_at lw_m1 199 rfl
theorem q291 : (Jvm.Cond.fieldLink "java/lang/String" (1048 : Nat) "java/lang/AbstractStringBuilder" "maybeLatin1" "Z") ∈ lw_all := lw_g (lw_at lw_m1 209 rfl) rfl
theorem q351 : (Jvm.Cond.instantiable "java/lang/String" (4 : Nat)) ∈ lw_all := lw_g (lw_at lw_m2 29 rfl) rfl
theorem q353 : (Jvm.Cond.instanceMethod ({ cls := "java/lang/String", name := "<init>", desc := "(Ljava/lang/StringBuilder;)V" } : Jvm.MethodName)) ∈ lw_all := lw_g (lw_at lw_m2 31 rfl) rfl
theorem q354 : (Jvm.Cond.code ({ cls := "java/lang/String", name := "<init>", desc := "(Ljava/lang/StringBuilder;)V" } : Jvm.MethodName) prog_41_method_53_code (2 : Nat) (Option.none : Option Jvm.ClassFile.FieldType)) ∈ lw_all := lw_g (lw_at lw_m2 32 rfl) rfl
theorem q355 : (Jvm.Cond.methodLink "java/lang/String" (489 : Nat) ({ cls := "java/lang/String", name := "<init>", desc := "(Ljava/lang/AbstractStringBuilder;Ljava/lang/Void;)V" } : Jvm.MethodName)) ∈ lw_all := lw_g (lw_at lw_m2 33 rfl) rfl
theorem q356 : (Jvm.Cond.instanceMethod ({ cls := "java/lang/String", name := "<init>", desc := "(Ljava/lang/AbstractStringBuilder;Ljava/lang/Void;)V" } : Jvm.MethodName)) ∈ lw_all := lw_g (lw_at lw_m2 34 rfl) rfl
theorem q357 : (Jvm.Cond.code ({ cls := "java/lang/String", name := "<init>", desc := "(Ljava/lang/AbstractStringBuilder;Ljava/lang/Void;)V" } : Jvm.MethodName) prog_41_method_150_code (5 : Nat) (Option.none : Option Jvm.ClassFile.FieldType)) ∈ lw_all := lw_g (lw_at lw_m2 35 rfl) rfl
theorem q358 : (Jvm.Cond.methodLink "java/lang/String" (1 : Nat) ({ cls := "java/lang/Object", name := "<init>", desc := "()V" } : Jvm.MethodName)) ∈ lw_all := lw_g (lw_at lw_m2 36 rfl) rfl
theorem q359 : (Jvm.Cond.methodLink "java/lang/String" (552 : Nat) ({ cls := "java/lang/AbstractStringBuilder", name := "getValue", desc := "()[B" } : Jvm.MethodName)) ∈ lw_all := lw_g (lw_at lw_m2 37 rfl) rfl
theorem q364 : (Jvm.Cond.methodLink "java/lang/String" (549 : Nat) ({ cls := "java/lang/AbstractStringBuilder", name := "length", desc := "()I" } : Jvm.MethodName)) ∈ lw_all := lw_g (lw_at lw_m2 42 rfl) rfl
theorem q372 : (Jvm.Cond.methodLink "java/lang/String" (1047 : Nat) ({ cls := "java/lang/AbstractStringBuilder", name := "isLatin1", desc := "()Z" } : Jvm.MethodName)) ∈ lw_all := lw_g (lw_at lw_m2 50 rfl) rfl
theorem q377 : (Jvm.Cond.methodLink "java/lang/String" (54 : Nat) ({ cls := "java/util/Arrays", name := "copyOfRange", desc := "([BII)[B" } : Jvm.MethodName)) ∈ lw_all := lw_g (lw_at lw_m2 55 rfl) rfl
theorem q500 : (Jvm.Cond.static ({ cls := "java/lang/String", name := "checkBoundsBeginEnd", desc := "(III)V" } : Jvm.MethodName)) ∈ lw_all := lw_g (lw_at lw_m2 178 rfl) rfl
theorem q501 : (Jvm.Cond.code ({ cls := "java/lang/String", name := "checkBoundsBeginEnd", desc := "(III)V" } : Jvm.MethodName) prog_41_method_158_code (3 : Nat) (Option.none : Option Jvm.ClassFile.FieldType)) ∈ lw_all := lw_g (lw_at lw_m2 179 rfl) rfl
theorem q502 : (Jvm.Cond.fieldLink "java/lang/String" (1053 : Nat) "jdk/internal/util/Preconditions" "SIOOBE_FORMATTER" "Ljava/util/function/BiFunction;") ∈ lw_all := lw_g (lw_at lw_m2 180 rfl) rfl
theorem q504 : (Jvm.Cond.methodLink "java/lang/String" (1062 : Nat) ({ cls := "jdk/internal/util/Preconditions", name := "checkFromToIndex", desc := "(IIILjava/util/function/BiFunction;)I" } : Jvm.MethodName)) ∈ lw_all := lw_g (lw_at lw_m2 182 rfl) rfl
theorem q537 : (Jvm.Cond.instanceMethod ({ cls := "java/lang/String", name := "length", desc := "()I" } : Jvm.MethodName)) ∈ lw_all := lw_g (lw_at lw_m2 215 rfl) rfl
theorem q538 : (Jvm.Cond.selects "java/lang/String" ({ cls := "java/lang/String", name := "length", desc := "()I" } : Jvm.MethodName) ({ cls := "java/lang/String", name := "length", desc := "()I" } : Jvm.MethodName)) ∈ lw_all := lw_g (lw_at lw_m2 216 rfl) rfl
theorem q539 : (Jvm.Cond.code ({ cls := "java/lang/String", name := "length", desc := "()I" } : Jvm.MethodName) prog_41_method_54_code (1 : Nat) (Option.some Jvm.ClassFile.FieldType.int)) ∈ lw_all := lw_g (lw_at lw_m2 217 rfl) rfl
theorem q540 : (Jvm.Cond.methodLink "java/lang/String" (335 : Nat) ({ cls := "java/lang/String", name := "coder", desc := "()B" } : Jvm.MethodName)) ∈ lw_all := lw_g (lw_at lw_m2 218 rfl) rfl
theorem q541 : (Jvm.Cond.instanceMethod ({ cls := "java/lang/String", name := "coder", desc := "()B" } : Jvm.MethodName)) ∈ lw_all := lw_g (lw_at lw_m2 219 rfl) rfl
theorem q542 : (Jvm.Cond.selects "java/lang/String" ({ cls := "java/lang/String", name := "coder", desc := "()B" } : Jvm.MethodName) ({ cls := "java/lang/String", name := "coder", desc := "()B" } : Jvm.MethodName)) ∈ lw_all := lw_g (lw_at lw_m2 220 rfl) rfl
theorem q543 : (Jvm.Cond.code ({ cls := "java/lang/String", name := "coder", desc := "()B" } : Jvm.MethodName) prog_41_method_152_code (1 : Nat) (Option.some Jvm.ClassFile.FieldType.byte)) ∈ lw_all := lw_g (lw_at lw_m2 221 rfl) rfl
theorem q544 : (Jvm.Cond.fieldLink "java/lang/String" (38 : Nat) "java/lang/String" "COMPACT_STRINGS" "Z") ∈ lw_all := lw_g (lw_at lw_m2 222 rfl) rfl
theorem q568 : (Jvm.Cond.static ({ cls := "java/lang/String", name := "checkBoundsOffCount", desc := "(III)I" } : Jvm.MethodName)) ∈ lw_all := lw_g (lw_at lw_m3 6 rfl) rfl
theorem q569 : (Jvm.Cond.code ({ cls := "java/lang/String", name := "checkBoundsOffCount", desc := "(III)I" } : Jvm.MethodName) prog_41_method_157_code (3 : Nat) (Option.some Jvm.ClassFile.FieldType.int)) ∈ lw_all := lw_g (lw_at lw_m3 7 rfl) rfl
theorem q570 : (Jvm.Cond.methodLink "java/lang/String" (1065 : Nat) ({ cls := "jdk/internal/util/Preconditions", name := "checkFromIndexSize", desc := "(IIILjava/util/function/BiFunction;)I" } : Jvm.MethodName)) ∈ lw_all := lw_g (lw_at lw_m3 8 rfl) rfl
theorem q574 : (Jvm.Cond.instanceMethod ({ cls := "java/lang/String", name := "getBytes", desc := "([BIB)V" } : Jvm.MethodName)) ∈ lw_all := lw_g (lw_at lw_m3 12 rfl) rfl
theorem q575 : (Jvm.Cond.selects "java/lang/String" ({ cls := "java/lang/String", name := "getBytes", desc := "([BIB)V" } : Jvm.MethodName) ({ cls := "java/lang/String", name := "getBytes", desc := "([BIB)V" } : Jvm.MethodName)) ∈ lw_all := lw_g (lw_at lw_m3 13 rfl) rfl
theorem q576 : (Jvm.Cond.code ({ cls := "java/lang/String", name := "getBytes", desc := "([BIB)V" } : Jvm.MethodName) prog_41_method_147_code (4 : Nat) (Option.none : Option Jvm.ClassFile.FieldType)) ∈ lw_all := lw_g (lw_at lw_m3 14 rfl) rfl
theorem q577 : (Jvm.Cond.methodLink "java/lang/String" (212 : Nat) ({ cls := "java/lang/System", name := "arraycopy", desc := "(Ljava/lang/Object;ILjava/lang/Object;II)V" } : Jvm.MethodName)) ∈ lw_all := lw_g (lw_at lw_m3 15 rfl) rfl
theorem q578 : (Jvm.Cond.methodLink "java/lang/String" (106 : Nat) ({ cls := "java/lang/StringLatin1", name := "inflate", desc := "([BI[BII)V" } : Jvm.MethodName)) ∈ lw_all := lw_g (lw_at lw_m3 16 rfl) rfl
theorem q605 : (Jvm.Cond.methodLink "java/lang/String" (1051 : Nat) ({ cls := "java/lang/StringUTF16", name := "compress", desc := "([BII)[B" } : Jvm.MethodName)) ∈ lw_all := lw_g (lw_at lw_m3 43 rfl) rfl
theorem q615 : (Jvm.Cond.methodLink "java/lang/String" (47 : Nat) ({ cls := "java/lang/StringUTF16", name := "coderFromArrayLen", desc := "([BI)B" } : Jvm.MethodName)) ∈ lw_all := lw_g (lw_at lw_m3 53 rfl) rfl
theorem q618 : (Jvm.Cond.fieldLink "java/lang/String" (9 : Nat) "java/lang/String" "value" "[B") ∈ lw_all := lw_g (lw_at lw_m3 56 rfl) rfl
theorem q619 : (Jvm.Cond.fieldLink "java/lang/String" (15 : Nat) "java/lang/String" "coder" "B") ∈ lw_all := lw_g (lw_at lw_m3 57 rfl) rfl
theorem q620 : (Jvm.Cond.fieldLink "java/lang/String" (19 : Nat) "java/lang/String" "hash" "I") ∈ lw_all := lw_g (lw_at lw_m3 58 rfl) rfl
theorem q621 : (Jvm.Cond.fieldLink "java/lang/String" (23 : Nat) "java/lang/String" "hashIsZero" "Z") ∈ lw_all := lw_g (lw_at lw_m3 59 rfl) rfl
theorem q622 : (Jvm.Cond.laysFinal "java/lang/String" "java/lang/String" "value" "[B") ∈ lw_all := lw_g (lw_at lw_m3 60 rfl) rfl
theorem q623 : (Jvm.Cond.soleField "java/lang/String" "value") ∈ lw_all := lw_g (lw_at lw_m3 61 rfl) rfl
theorem q624 : (Jvm.Cond.laysFinal "java/lang/String" "java/lang/String" "coder" "B") ∈ lw_all := lw_g (lw_at lw_m3 62 rfl) rfl
theorem q625 : (Jvm.Cond.soleField "java/lang/String" "coder") ∈ lw_all := lw_g (lw_at lw_m3 63 rfl) rfl
theorem q626 : (Jvm.Cond.lays "java/lang/String" "java/lang/String" "hash" "I") ∈ lw_all := lw_g (lw_at lw_m3 64 rfl) rfl
theorem q627 : (Jvm.Cond.soleField "java/lang/String" "hash") ∈ lw_all := lw_g (lw_at lw_m3 65 rfl) rfl
theorem q628 : (Jvm.Cond.lays "java/lang/String" "java/lang/String" "hashIsZero" "Z") ∈ lw_all := lw_g (lw_at lw_m3 66 rfl) rfl
theorem q629 : (Jvm.Cond.soleField "java/lang/String" "hashIsZero") ∈ lw_all := lw_g (lw_at lw_m3 67 rfl) rfl
theorem q630 : (Jvm.Cond.superclass "java/lang/String" "java/lang/Object") ∈ lw_all := lw_g (lw_at lw_m3 68 rfl) rfl
theorem q680 : (Jvm.Cond.selects "java/lang/String" ({ cls := "java/lang/Object", name := "hashCode", desc := "()I" } : Jvm.MethodName) ({ cls := "java/lang/String", name := "hashCode", desc := "()I" } : Jvm.MethodName)) ∈ lw_all := lw_g (lw_at lw_m3 118 rfl) rfl
theorem q681 : (Jvm.Cond.instanceMethod ({ cls := "java/lang/String", name := "hashCode", desc := "()I" } : Jvm.MethodName)) ∈ lw_all := lw_g (lw_at lw_m3 119 rfl) rfl
theorem q682 : (Jvm.Cond.code ({ cls := "java/lang/String", name := "hashCode", desc := "()I" } : Jvm.MethodName) prog_41_method_78_code (2 : Nat) (Option.some Jvm.ClassFile.FieldType.int)) ∈ lw_all := lw_g (lw_at lw_m3 120 rfl) rfl
theorem q683 : (Jvm.Cond.methodLink "java/lang/String" (492 : Nat) ({ cls := "java/lang/String", name := "isLatin1", desc := "()Z" } : Jvm.MethodName)) ∈ lw_all := lw_g (lw_at lw_m3 121 rfl) rfl
theorem q684 : (Jvm.Cond.instanceMethod ({ cls := "java/lang/String", name := "isLatin1", desc := "()Z" } : Jvm.MethodName)) ∈ lw_all := lw_g (lw_at lw_m3 122 rfl) rfl
theorem q685 : (Jvm.Cond.selects "java/lang/String" ({ cls := "java/lang/String", name := "isLatin1", desc := "()Z" } : Jvm.MethodName) ({ cls := "java/lang/String", name := "isLatin1", desc := "()Z" } : Jvm.MethodName)) ∈ lw_all := lw_g (lw_at lw_m3 123 rfl) rfl
theorem q686 : (Jvm.Cond.code ({ cls := "java/lang/String", name := "isLatin1", desc := "()Z" } : Jvm.MethodName) prog_41_method_154_code (1 : Nat) (Option.some Jvm.ClassFile.FieldType.boolean)) ∈ lw_all := lw_g (lw_at lw_m3 124 rfl) rfl
theorem q687 : (Jvm.Cond.methodLink "java/lang/String" (628 : Nat) ({ cls := "java/lang/StringLatin1", name := "hashCode", desc := "([B)I" } : Jvm.MethodName)) ∈ lw_all := lw_g (lw_at lw_m3 125 rfl) rfl
theorem q736 : (Jvm.Cond.methodLink "java/lang/String" (632 : Nat) ({ cls := "java/lang/StringUTF16", name := "hashCode", desc := "([B)I" } : Jvm.MethodName)) ∈ lw_all := lw_g (lw_at lw_m3 174 rfl) rfl
theorem q781 : (Jvm.Cond.selects "java/lang/String" ({ cls := "java/lang/Object", name := "equals", desc := "(Ljava/lang/Object;)Z" } : Jvm.MethodName) ({ cls := "java/lang/String", name := "equals", desc := "(Ljava/lang/Object;)Z" } : Jvm.MethodName)) ∈ lw_all := lw_g (lw_at lw_m3 219 rfl) rfl
theorem q782 : (Jvm.Cond.instanceMethod ({ cls := "java/lang/String", name := "equals", desc := "(Ljava/lang/Object;)Z" } : Jvm.MethodName)) ∈ lw_all := lw_g (lw_at lw_m3 220 rfl) rfl
theorem q783 : (Jvm.Cond.code ({ cls := "java/lang/String", name := "equals", desc := "(Ljava/lang/Object;)Z" } : Jvm.MethodName) prog_41_method_66_code (3 : Nat) (Option.some Jvm.ClassFile.FieldType.boolean)) ∈ lw_all := lw_g (lw_at lw_m3 221 rfl) rfl
theorem q784 : (Jvm.Cond.classLink "java/lang/String" (10 : Nat) "java/lang/String") ∈ lw_all := lw_g (lw_at lw_m3 222 rfl) rfl
theorem q785 : (Jvm.Cond.methodLink "java/lang/String" (541 : Nat) ({ cls := "java/lang/StringLatin1", name := "equals", desc := "([B[B)Z" } : Jvm.MethodName)) ∈ lw_all := lw_g (lw_at lw_m3 223 rfl) rfl
theorem q839 : (Jvm.Cond.selects "java/lang/String" ({ cls := "java/lang/Object", name := "getClass", desc := "()Ljava/lang/Class;" } : Jvm.MethodName) ({ cls := "java/lang/Object", name := "getClass", desc := "()Ljava/lang/Class;" } : Jvm.MethodName)) ∈ lw_all := lw_g (lw_at lw_m4 37 rfl) rfl
theorem q874 : (Jvm.Cond.castable "java/lang/String" "java/lang/Comparable") ∈ lw_tbl := lw_at lw_m4 72 rfl
theorem q875 : (Jvm.Cond.selects "java/lang/String" ({ cls := "java/lang/Comparable", name := "compareTo", desc := "(Ljava/lang/Object;)I" } : Jvm.MethodName) ({ cls := "java/lang/String", name := "compareTo", desc := "(Ljava/lang/Object;)I" } : Jvm.MethodName)) ∈ lw_all := lw_g (lw_at lw_m4 73 rfl) rfl
theorem q876 : (Jvm.Cond.unhidden "java/lang/String" "compareTo" "(Ljava/lang/Object;)I") ∈ lw_tbl := lw_at lw_m4 74 rfl
theorem q877 : (Jvm.Cond.instanceMethod ({ cls := "java/lang/String", name := "compareTo", desc := "(Ljava/lang/Object;)I" } : Jvm.MethodName)) ∈ lw_all := lw_g (lw_at lw_m4 75 rfl) rfl
theorem q878 : (Jvm.Cond.publicMethod ({ cls := "java/lang/String", name := "compareTo", desc := "(Ljava/lang/Object;)I" } : Jvm.MethodName)) ∈ lw_tbl := lw_at lw_m4 76 rfl
theorem q879 : (Jvm.Cond.code ({ cls := "java/lang/String", name := "compareTo", desc := "(Ljava/lang/Object;)I" } : Jvm.MethodName) prog_41_method_162_code (2 : Nat) (Option.some Jvm.ClassFile.FieldType.int)) ∈ lw_all := lw_g (lw_at lw_m4 77 rfl) rfl
theorem q880 : (Jvm.Cond.methodLink "java/lang/String" (1084 : Nat) ({ cls := "java/lang/String", name := "compareTo", desc := "(Ljava/lang/String;)I" } : Jvm.MethodName)) ∈ lw_all := lw_g (lw_at lw_m4 78 rfl) rfl
theorem q881 : (Jvm.Cond.instanceMethod ({ cls := "java/lang/String", name := "compareTo", desc := "(Ljava/lang/String;)I" } : Jvm.MethodName)) ∈ lw_all := lw_g (lw_at lw_m4 79 rfl) rfl
theorem q882 : (Jvm.Cond.selects "java/lang/String" ({ cls := "java/lang/String", name := "compareTo", desc := "(Ljava/lang/String;)I" } : Jvm.MethodName) ({ cls := "java/lang/String", name := "compareTo", desc := "(Ljava/lang/String;)I" } : Jvm.MethodName)) ∈ lw_all := lw_g (lw_at lw_m4 80 rfl) rfl
theorem q883 : (Jvm.Cond.code ({ cls := "java/lang/String", name := "compareTo", desc := "(Ljava/lang/String;)I" } : Jvm.MethodName) prog_41_method_71_code (5 : Nat) (Option.some Jvm.ClassFile.FieldType.int)) ∈ lw_all := lw_g (lw_at lw_m4 81 rfl) rfl
theorem q884 : (Jvm.Cond.methodLink "java/lang/String" (586 : Nat) ({ cls := "java/lang/StringLatin1", name := "compareTo", desc := "([B[B)I" } : Jvm.MethodName)) ∈ lw_all := lw_g (lw_at lw_m4 82 rfl) rfl
theorem q998 : (Jvm.Cond.methodLink "java/lang/String" (590 : Nat) ({ cls := "java/lang/StringUTF16", name := "compareTo", desc := "([B[B)I" } : Jvm.MethodName)) ∈ lw_all := lw_g (lw_at lw_m4 196 rfl) rfl
theorem q1005 : (Jvm.Cond.methodLink "java/lang/String" (591 : Nat) ({ cls := "java/lang/StringLatin1", name := "compareToUTF16", desc := "([B[B)I" } : Jvm.MethodName)) ∈ lw_all := lw_g (lw_at lw_m4 203 rfl) rfl
theorem q1016 : (Jvm.Cond.methodLink "java/lang/String" (594 : Nat) ({ cls := "java/lang/StringUTF16", name := "compareToLatin1", desc := "([B[B)I" } : Jvm.MethodName)) ∈ lw_all := lw_g (lw_at lw_m4 214 rfl) rfl
theorem q1042 : (Jvm.Cond.static ({ cls := "java/lang/String", name := "checkOffset", desc := "(II)V" } : Jvm.MethodName)) ∈ lw_all := lw_g (lw_at lw_m5 0 rfl) rfl
theorem q1043 : (Jvm.Cond.code ({ cls := "java/lang/String", name := "checkOffset", desc := "(II)V" } : Jvm.MethodName) prog_41_method_156_code (2 : Nat) (Option.none : Option Jvm.ClassFile.FieldType)) ∈ lw_all := lw_g (lw_at lw_m5 1 rfl) rfl
theorem q2256 : (Jvm.Cond.instanceMethod ({ cls := "java/lang/String", name := "charAt", desc := "(I)C" } : Jvm.MethodName)) ∈ lw_all := lw_g (lw_at lw_m10 14 rfl) rfl
theorem q2257 : (Jvm.Cond.selects "java/lang/String" ({ cls := "java/lang/String", name := "charAt", desc := "(I)C" } : Jvm.MethodName) ({ cls := "java/lang/String", name := "charAt", desc := "(I)C" } : Jvm.MethodName)) ∈ lw_all := lw_g (lw_at lw_m10 15 rfl) rfl
theorem q2258 : (Jvm.Cond.code ({ cls := "java/lang/String", name := "charAt", desc := "(I)C" } : Jvm.MethodName) prog_41_method_56_code (2 : Nat) (Option.some Jvm.ClassFile.FieldType.char)) ∈ lw_all := lw_g (lw_at lw_m10 16 rfl) rfl
theorem q2259 : (Jvm.Cond.methodLink "java/lang/String" (495 : Nat) ({ cls := "java/lang/StringLatin1", name := "charAt", desc := "([BI)C" } : Jvm.MethodName)) ∈ lw_all := lw_g (lw_at lw_m10 17 rfl) rfl
theorem q2263 : (Jvm.Cond.static ({ cls := "java/lang/String", name := "checkIndex", desc := "(II)V" } : Jvm.MethodName)) ∈ lw_all := lw_g (lw_at lw_m10 21 rfl) rfl
theorem q2264 : (Jvm.Cond.code ({ cls := "java/lang/String", name := "checkIndex", desc := "(II)V" } : Jvm.MethodName) prog_41_method_155_code (2 : Nat) (Option.none : Option Jvm.ClassFile.FieldType)) ∈ lw_all := lw_g (lw_at lw_m10 22 rfl) rfl
theorem q2265 : (Jvm.Cond.methodLink "java/lang/String" (1059 : Nat) ({ cls := "jdk/internal/util/Preconditions", name := "checkIndex", desc := "(IILjava/util/function/BiFunction;)I" } : Jvm.MethodName)) ∈ lw_all := lw_g (lw_at lw_m10 23 rfl) rfl
theorem q2266 : (Jvm.Cond.methodLink "java/lang/String" (498 : Nat) ({ cls := "java/lang/StringUTF16", name := "charAt", desc := "([BI)C" } : Jvm.MethodName)) ∈ lw_all := lw_g (lw_at lw_m10 24 rfl) rfl
theorem q2513 : (Jvm.Cond.castable "java/lang/String" "java/lang/CharSequence") ∈ lw_tbl := lw_at lw_m11 31 rfl
theorem q2514 : (Jvm.Cond.selects "java/lang/String" ({ cls := "java/lang/CharSequence", name := "length", desc := "()I" } : Jvm.MethodName) ({ cls := "java/lang/String", name := "length", desc := "()I" } : Jvm.MethodName)) ∈ lw_all := lw_g (lw_at lw_m11 32 rfl) rfl
theorem q2515 : (Jvm.Cond.unhidden "java/lang/String" "length" "()I") ∈ lw_tbl := lw_at lw_m11 33 rfl
theorem q2516 : (Jvm.Cond.publicMethod ({ cls := "java/lang/String", name := "length", desc := "()I" } : Jvm.MethodName)) ∈ lw_tbl := lw_at lw_m11 34 rfl
theorem q2525 : (Jvm.Cond.selects "java/lang/String" ({ cls := "java/lang/CharSequence", name := "charAt", desc := "(I)C" } : Jvm.MethodName) ({ cls := "java/lang/String", name := "charAt", desc := "(I)C" } : Jvm.MethodName)) ∈ lw_all := lw_g (lw_at lw_m11 43 rfl) rfl
theorem q2526 : (Jvm.Cond.unhidden "java/lang/String" "charAt" "(I)C") ∈ lw_tbl := lw_at lw_m11 44 rfl
theorem q2527 : (Jvm.Cond.publicMethod ({ cls := "java/lang/String", name := "charAt", desc := "(I)C" } : Jvm.MethodName)) ∈ lw_tbl := lw_at lw_m11 45 rfl
theorem q2571 : (Jvm.Cond.selects "java/lang/String" ({ cls := "java/lang/CharSequence", name := "subSequence", desc := "(II)Ljava/lang/CharSequence;" } : Jvm.MethodName) ({ cls := "java/lang/String", name := "subSequence", desc := "(II)Ljava/lang/CharSequence;" } : Jvm.MethodName)) ∈ lw_all := lw_g (lw_at lw_m11 89 rfl) rfl
theorem q2572 : (Jvm.Cond.unhidden "java/lang/String" "subSequence" "(II)Ljava/lang/CharSequence;") ∈ lw_tbl := lw_at lw_m11 90 rfl
theorem q2573 : (Jvm.Cond.instanceMethod ({ cls := "java/lang/String", name := "subSequence", desc := "(II)Ljava/lang/CharSequence;" } : Jvm.MethodName)) ∈ lw_all := lw_g (lw_at lw_m11 91 rfl) rfl
theorem q2574 : (Jvm.Cond.publicMethod ({ cls := "java/lang/String", name := "subSequence", desc := "(II)Ljava/lang/CharSequence;" } : Jvm.MethodName)) ∈ lw_tbl := lw_at lw_m11 92 rfl
theorem q2575 : (Jvm.Cond.code ({ cls := "java/lang/String", name := "subSequence", desc := "(II)Ljava/lang/CharSequence;" } : Jvm.MethodName) prog_41_method_93_code (3 : Nat) (Option.some (Jvm.ClassFile.FieldType.object "java/lang/CharSequence"))) ∈ lw_all := lw_g (lw_at lw_m11 93 rfl) rfl
theorem q2576 : (Jvm.Cond.methodLink "java/lang/String" (681 : Nat) ({ cls := "java/lang/String", name := "substring", desc := "(II)Ljava/lang/String;" } : Jvm.MethodName)) ∈ lw_all := lw_g (lw_at lw_m11 94 rfl) rfl
theorem q2577 : (Jvm.Cond.instanceMethod ({ cls := "java/lang/String", name := "substring", desc := "(II)Ljava/lang/String;" } : Jvm.MethodName)) ∈ lw_all := lw_g (lw_at lw_m11 95 rfl) rfl
theorem q2578 : (Jvm.Cond.selects "java/lang/String" ({ cls := "java/lang/String", name := "substring", desc := "(II)Ljava/lang/String;" } : Jvm.MethodName) ({ cls := "java/lang/String", name := "substring", desc := "(II)Ljava/lang/String;" } : Jvm.MethodName)) ∈ lw_all := lw_g (lw_at lw_m11 96 rfl) rfl
theorem q2579 : (Jvm.Cond.code ({ cls := "java/lang/String", name := "substring", desc := "(II)Ljava/lang/String;" } : Jvm.MethodName) prog_41_method_92_code (5 : Nat) (Option.some (Jvm.ClassFile.FieldType.object "java/lang/String"))) ∈ lw_all := lw_g (lw_at lw_m11 97 rfl) rfl
theorem q2580 : (Jvm.Cond.methodLink "java/lang/String" (505 : Nat) ({ cls := "java/lang/String", name := "length", desc := "()I" } : Jvm.MethodName)) ∈ lw_all := lw_g (lw_at lw_m11 98 rfl) rfl
theorem q2581 : (Jvm.Cond.methodLink "java/lang/String" (521 : Nat) ({ cls := "java/lang/String", name := "checkBoundsBeginEnd", desc := "(III)V" } : Jvm.MethodName)) ∈ lw_all := lw_g (lw_at lw_m11 99 rfl) rfl
theorem q2582 : (Jvm.Cond.methodLink "java/lang/String" (685 : Nat) ({ cls := "java/lang/StringLatin1", name := "newString", desc := "([BII)Ljava/lang/String;" } : Jvm.MethodName)) ∈ lw_all := lw_g (lw_at lw_m11 100 rfl) rfl
theorem q2589 : (Jvm.Cond.instanceMethod ({ cls := "java/lang/String", name := "<init>", desc := "([BB)V" } : Jvm.MethodName)) ∈ lw_all := lw_g (lw_at lw_m11 107 rfl) rfl
theorem q2590 : (Jvm.Cond.code ({ cls := "java/lang/String", name := "<init>", desc := "([BB)V" } : Jvm.MethodName) prog_41_method_151_code (3 : Nat) (Option.none : Option Jvm.ClassFile.FieldType)) ∈ lw_all := lw_g (lw_at lw_m11 108 rfl) rfl
theorem q2591 : (Jvm.Cond.methodLink "java/lang/String" (689 : Nat) ({ cls := "java/lang/StringUTF16", name := "newString", desc := "([BII)Ljava/lang/String;" } : Jvm.MethodName)) ∈ lw_all := lw_g (lw_at lw_m11 109 rfl) rfl
theorem q2624 : (Jvm.Cond.selects "java/lang/String" ({ cls := "java/lang/CharSequence", name := "toString", desc := "()Ljava/lang/String;" } : Jvm.MethodName) ({ cls := "java/lang/String", name := "toString", desc := "()Ljava/lang/String;" } : Jvm.MethodName)) ∈ lw_all := lw_g (lw_at lw_m11 142 rfl) rfl
theorem q2625 : (Jvm.Cond.unhidden "java/lang/String" "toString" "()Ljava/lang/String;") ∈ lw_tbl := lw_at lw_m11 143 rfl
theorem q2626 : (Jvm.Cond.instanceMethod ({ cls := "java/lang/String", name := "toString", desc := "()Ljava/lang/String;" } : Jvm.MethodName)) ∈ lw_all := lw_g (lw_at lw_m11 144 rfl) rfl
theorem q2627 : (Jvm.Cond.publicMethod ({ cls := "java/lang/String", name := "toString", desc := "()Ljava/lang/String;" } : Jvm.MethodName)) ∈ lw_tbl := lw_at lw_m11 145 rfl
theorem q2628 : (Jvm.Cond.code ({ cls := "java/lang/String", name := "toString", desc := "()Ljava/lang/String;" } : Jvm.MethodName) prog_41_method_126_code (1 : Nat) (Option.some (Jvm.ClassFile.FieldType.object "java/lang/String"))) ∈ lw_all := lw_g (lw_at lw_m11 146 rfl) rfl
theorem q3246 : (Jvm.Cond.castable "java/lang/String" "java/lang/Object") ∈ lw_tbl := lw_at lw_m14 44 rfl
theorem in_J8 : ∀ w ∈ wsJ80, w ∈ lw_all := lw_in wsJ80 [622, 624, 626, 628] (by decide +kernel) (by decide +kernel)

/-! java/util/ArrayList$Itr -/
set_option maxRecDepth 100000
def RJ14 : String := "java/util/ArrayList$Itr"
def TJ14 : u_T := fun k => match k with
  | 0 => ("java/util/ArrayList$Itr", "cursor", "I", false)
  | 1 => ("java/util/ArrayList$Itr", "lastRet", "I", false)
  | 2 => ("java/util/ArrayList$Itr", "expectedModCount", "I", false)
  | _ => ("java/util/ArrayList$Itr", "this$0", "Ljava/util/ArrayList;", true)
def tyJ14 : Nat → FieldType := fun k => match k with
  | 0 => .int
  | 1 => .int
  | 2 => .int
  | _ => .object "java/util/ArrayList"
abbrev wsJ140 : List Cond := u_ws RJ14 TJ14 4
theorem nmJ14 : ∀ a, a < 4 → ∀ b, b < 4 → a ≠ b → (TJ14 a).2.1 ≠ (TJ14 b).2.1 := by decide +kernel
theorem tyJ14_ok : ∀ k, k < 4 → parseFieldDescriptor (TJ14 k).2.2.1 = some (tyJ14 k) := by decide +kernel
abbrev cJ14_init : ByteArray := prog_57_method_1_code
def yJ14_init : MethodName := ⟨RJ14, "<init>", "(Ljava/util/ArrayList;)V"⟩
abbrev cJ14_hasNext : ByteArray := prog_57_method_2_code
def yJ14_hasNext : MethodName := ⟨RJ14, "hasNext", "()Z"⟩
abbrev cJ14_next : ByteArray := prog_57_method_3_code
def yJ14_next : MethodName := ⟨RJ14, "next", "()Ljava/lang/Object;"⟩
abbrev cJ14_checkForComodification : ByteArray := prog_57_method_6_code
def yJ14_checkForComodification : MethodName := ⟨RJ14, "checkForComodification", "()V"⟩
theorem q100 : (Jvm.Cond.initialized "java/util/ArrayList$Itr") ∈ lw_all := lw_g (lw_at lw_m1 18 rfl) rfl
theorem q170 : (Jvm.Cond.fieldLink "java/util/ArrayList$Itr" (37 : Nat) "java/util/ArrayList" "elementData" "[Ljava/lang/Object;") ∈ lw_all := lw_g (lw_at lw_m1 88 rfl) rfl
theorem q171 : (Jvm.Cond.fieldLinkNest "java/util/ArrayList$Itr" (28 : Nat) "java/util/ArrayList" "size" "I" "java/util/ArrayList") ∈ lw_tbl := lw_at lw_m1 89 rfl
theorem q174 : (Jvm.Cond.fieldLink "java/util/ArrayList$Itr" (17 : Nat) "java/util/ArrayList" "modCount" "I") ∈ lw_all := lw_g (lw_at lw_m1 92 rfl) rfl
theorem q846 : (Jvm.Cond.selects "java/util/ArrayList$Itr" ({ cls := "java/lang/Object", name := "getClass", desc := "()Ljava/lang/Class;" } : Jvm.MethodName) ({ cls := "java/lang/Object", name := "getClass", desc := "()Ljava/lang/Class;" } : Jvm.MethodName)) ∈ lw_all := lw_g (lw_at lw_m4 44 rfl) rfl
theorem q1071 : (Jvm.Cond.instantiable "java/util/ArrayList$Itr" (4 : Nat)) ∈ lw_all := lw_g (lw_at lw_m5 29 rfl) rfl
theorem q1073 : (Jvm.Cond.instanceMethod ({ cls := "java/util/ArrayList$Itr", name := "<init>", desc := "(Ljava/util/ArrayList;)V" } : Jvm.MethodName)) ∈ lw_all := lw_g (lw_at lw_m5 31 rfl) rfl
theorem q1074 : (Jvm.Cond.code ({ cls := "java/util/ArrayList$Itr", name := "<init>", desc := "(Ljava/util/ArrayList;)V" } : Jvm.MethodName) prog_57_method_1_code (2 : Nat) (Option.none : Option Jvm.ClassFile.FieldType)) ∈ lw_all := lw_g (lw_at lw_m5 32 rfl) rfl
theorem q1075 : (Jvm.Cond.methodLink "java/util/ArrayList$Itr" (7 : Nat) ({ cls := "java/lang/Object", name := "<init>", desc := "()V" } : Jvm.MethodName)) ∈ lw_all := lw_g (lw_at lw_m5 33 rfl) rfl
theorem q1076 : (Jvm.Cond.fieldLink "java/util/ArrayList$Itr" (25 : Nat) "java/util/ArrayList$Itr" "cursor" "I") ∈ lw_all := lw_g (lw_at lw_m5 34 rfl) rfl
theorem q1077 : (Jvm.Cond.fieldLink "java/util/ArrayList$Itr" (13 : Nat) "java/util/ArrayList$Itr" "lastRet" "I") ∈ lw_all := lw_g (lw_at lw_m5 35 rfl) rfl
theorem q1078 : (Jvm.Cond.fieldLink "java/util/ArrayList$Itr" (22 : Nat) "java/util/ArrayList$Itr" "expectedModCount" "I") ∈ lw_all := lw_g (lw_at lw_m5 36 rfl) rfl
theorem q1079 : (Jvm.Cond.fieldLink "java/util/ArrayList$Itr" (1 : Nat) "java/util/ArrayList$Itr" "this$0" "Ljava/util/ArrayList;") ∈ lw_all := lw_g (lw_at lw_m5 37 rfl) rfl
theorem q1080 : (Jvm.Cond.lays "java/util/ArrayList$Itr" "java/util/ArrayList$Itr" "cursor" "I") ∈ lw_all := lw_g (lw_at lw_m5 38 rfl) rfl
theorem q1081 : (Jvm.Cond.soleField "java/util/ArrayList$Itr" "cursor") ∈ lw_all := lw_g (lw_at lw_m5 39 rfl) rfl
theorem q1082 : (Jvm.Cond.lays "java/util/ArrayList$Itr" "java/util/ArrayList$Itr" "lastRet" "I") ∈ lw_all := lw_g (lw_at lw_m5 40 rfl) rfl
theorem q1083 : (Jvm.Cond.soleField "java/util/ArrayList$Itr" "lastRet") ∈ lw_all := lw_g (lw_at lw_m5 41 rfl) rfl
theorem q1084 : (Jvm.Cond.lays "java/util/ArrayList$Itr" "java/util/ArrayList$Itr" "expectedModCount" "I") ∈ lw_all := lw_g (lw_at lw_m5 42 rfl) rfl
theorem q1085 : (Jvm.Cond.soleField "java/util/ArrayList$Itr" "expectedModCount") ∈ lw_all := lw_g (lw_at lw_m5 43 rfl) rfl
theorem q1086 : (Jvm.Cond.laysFinal "java/util/ArrayList$Itr" "java/util/ArrayList$Itr" "this$0" "Ljava/util/ArrayList;") ∈ lw_all := lw_g (lw_at lw_m5 44 rfl) rfl
theorem q1087 : (Jvm.Cond.soleField "java/util/ArrayList$Itr" "this$0") ∈ lw_all := lw_g (lw_at lw_m5 45 rfl) rfl
theorem q1088 : (Jvm.Cond.superclass "java/util/ArrayList$Itr" "java/lang/Object") ∈ lw_all := lw_g (lw_at lw_m5 46 rfl) rfl
theorem q1106 : (Jvm.Cond.castable "java/util/ArrayList$Itr" "java/util/Iterator") ∈ lw_tbl := lw_at lw_m5 64 rfl
theorem q1107 : (Jvm.Cond.selects "java/util/ArrayList$Itr" ({ cls := "java/util/Iterator", name := "hasNext", desc := "()Z" } : Jvm.MethodName) ({ cls := "java/util/ArrayList$Itr", name := "hasNext", desc := "()Z" } : Jvm.MethodName)) ∈ lw_all := lw_g (lw_at lw_m5 65 rfl) rfl
theorem q1108 : (Jvm.Cond.unhidden "java/util/ArrayList$Itr" "hasNext" "()Z") ∈ lw_tbl := lw_at lw_m5 66 rfl
theorem q1109 : (Jvm.Cond.instanceMethod ({ cls := "java/util/ArrayList$Itr", name := "hasNext", desc := "()Z" } : Jvm.MethodName)) ∈ lw_all := lw_g (lw_at lw_m5 67 rfl) rfl
theorem q1110 : (Jvm.Cond.publicMethod ({ cls := "java/util/ArrayList$Itr", name := "hasNext", desc := "()Z" } : Jvm.MethodName)) ∈ lw_tbl := lw_at lw_m5 68 rfl
theorem q1111 : (Jvm.Cond.code ({ cls := "java/util/ArrayList$Itr", name := "hasNext", desc := "()Z" } : Jvm.MethodName) prog_57_method_2_code (1 : Nat) (Option.some Jvm.ClassFile.FieldType.boolean)) ∈ lw_all := lw_g (lw_at lw_m5 69 rfl) rfl
theorem q1206 : (Jvm.Cond.selects "java/util/ArrayList$Itr" ({ cls := "java/util/Iterator", name := "next", desc := "()Ljava/lang/Object;" } : Jvm.MethodName) ({ cls := "java/util/ArrayList$Itr", name := "next", desc := "()Ljava/lang/Object;" } : Jvm.MethodName)) ∈ lw_all := lw_g (lw_at lw_m5 164 rfl) rfl
theorem q1207 : (Jvm.Cond.unhidden "java/util/ArrayList$Itr" "next" "()Ljava/lang/Object;") ∈ lw_tbl := lw_at lw_m5 165 rfl
theorem q1208 : (Jvm.Cond.instanceMethod ({ cls := "java/util/ArrayList$Itr", name := "next", desc := "()Ljava/lang/Object;" } : Jvm.MethodName)) ∈ lw_all := lw_g (lw_at lw_m5 166 rfl) rfl
theorem q1209 : (Jvm.Cond.publicMethod ({ cls := "java/util/ArrayList$Itr", name := "next", desc := "()Ljava/lang/Object;" } : Jvm.MethodName)) ∈ lw_tbl := lw_at lw_m5 167 rfl
theorem q1210 : (Jvm.Cond.code ({ cls := "java/util/ArrayList$Itr", name := "next", desc := "()Ljava/lang/Object;" } : Jvm.MethodName) prog_57_method_3_code (3 : Nat) (Option.some (Jvm.ClassFile.FieldType.object "java/lang/Object"))) ∈ lw_all := lw_g (lw_at lw_m5 168 rfl) rfl
theorem q1211 : (Jvm.Cond.methodLink "java/util/ArrayList$Itr" (31 : Nat) ({ cls := "java/util/ArrayList$Itr", name := "checkForComodification", desc := "()V" } : Jvm.MethodName)) ∈ lw_all := lw_g (lw_at lw_m5 169 rfl) rfl
theorem q1212 : (Jvm.Cond.instanceMethod ({ cls := "java/util/ArrayList$Itr", name := "checkForComodification", desc := "()V" } : Jvm.MethodName)) ∈ lw_all := lw_g (lw_at lw_m5 170 rfl) rfl
theorem q1213 : (Jvm.Cond.selects "java/util/ArrayList$Itr" ({ cls := "java/util/ArrayList$Itr", name := "checkForComodification", desc := "()V" } : Jvm.MethodName) ({ cls := "java/util/ArrayList$Itr", name := "checkForComodification", desc := "()V" } : Jvm.MethodName)) ∈ lw_all := lw_g (lw_at lw_m5 171 rfl) rfl
theorem q1214 : (Jvm.Cond.code ({ cls := "java/util/ArrayList$Itr", name := "checkForComodification", desc := "()V" } : Jvm.MethodName) prog_57_method_6_code (1 : Nat) (Option.none : Option Jvm.ClassFile.FieldType)) ∈ lw_all := lw_g (lw_at lw_m5 172 rfl) rfl
theorem q1215 : (Jvm.Cond.classLink "java/util/ArrayList$Itr" (34 : Nat) "java/util/NoSuchElementException") ∈ lw_all := lw_g (lw_at lw_m5 173 rfl) rfl
theorem q1216 : (Jvm.Cond.methodLink "java/util/ArrayList$Itr" (36 : Nat) ({ cls := "java/util/NoSuchElementException", name := "<init>", desc := "()V" } : Jvm.MethodName)) ∈ lw_all := lw_g (lw_at lw_m5 174 rfl) rfl
theorem q3239 : (Jvm.Cond.castable "java/util/ArrayList$Itr" "java/lang/Object") ∈ lw_tbl := lw_at lw_m14 37 rfl
theorem in_J14 : ∀ w ∈ wsJ140, w ∈ lw_all := lw_in wsJ140 [1080, 1082, 1084, 1086] (by decide +kernel) (by decide +kernel)

/-! java/lang/Integer -/
set_option maxRecDepth 100000
def RJ19 : String := "java/lang/Integer"
def TJ19 : u_T := fun k => match k with
  | _ => ("java/lang/Integer", "value", "I", true)
def tyJ19 : Nat → FieldType := fun k => match k with
  | _ => .int
abbrev wsJ190 : List Cond := u_ws RJ19 TJ19 1
theorem nmJ19 : ∀ a, a < 1 → ∀ b, b < 1 → a ≠ b → (TJ19 a).2.1 ≠ (TJ19 b).2.1 := by decide +kernel
theorem tyJ19_ok : ∀ k, k < 1 → parseFieldDescriptor (TJ19 k).2.2.1 = some (tyJ19 k) := by decide +kernel
abbrev cJ19_stringSize : ByteArray := prog_34_method_13_code
def yJ19_stringSize : MethodName := ⟨RJ19, "stringSize", "(I)I"⟩
abbrev cJ19_getChars : ByteArray := prog_34_method_12_code
def yJ19_getChars : MethodName := ⟨RJ19, "getChars", "(II[B)I"⟩
abbrev cJ19_hashCode : ByteArray := prog_34_method_32_code
def yJ19_hashCode : MethodName := ⟨RJ19, "hashCode", "()I"⟩
abbrev cJ19_hashCode_2 : ByteArray := prog_34_method_33_code
def yJ19_hashCode_2 : MethodName := ⟨RJ19, "hashCode", "(I)I"⟩
abbrev cJ19_equals : ByteArray := prog_34_method_34_code
def yJ19_equals : MethodName := ⟨RJ19, "equals", "(Ljava/lang/Object;)Z"⟩
abbrev cJ19_intValue : ByteArray := prog_34_method_27_code
def yJ19_intValue : MethodName := ⟨RJ19, "intValue", "()I"⟩
abbrev cJ19_compareTo : ByteArray := prog_34_method_63_code
def yJ19_compareTo : MethodName := ⟨RJ19, "compareTo", "(Ljava/lang/Object;)I"⟩
abbrev cJ19_compareTo_2 : ByteArray := prog_34_method_39_code
def yJ19_compareTo_2 : MethodName := ⟨RJ19, "compareTo", "(Ljava/lang/Integer;)I"⟩
abbrev cJ19_compare : ByteArray := prog_34_method_40_code
def yJ19_compare : MethodName := ⟨RJ19, "compare", "(II)I"⟩
abbrev cJ19_numberOfLeadingZeros : ByteArray := prog_34_method_47_code
def yJ19_numberOfLeadingZeros : MethodName := ⟨RJ19, "numberOfLeadingZeros", "(I)I"⟩
abbrev cJ19_numberOfTrailingZeros : ByteArray := prog_34_method_48_code
def yJ19_numberOfTrailingZeros : MethodName := ⟨RJ19, "numberOfTrailingZeros", "(I)I"⟩
abbrev cJ19_valueOf : ByteArray := prog_34_method_22_code
def yJ19_valueOf : MethodName := ⟨RJ19, "valueOf", "(I)Ljava/lang/Integer;"⟩
abbrev cJ19_init : ByteArray := prog_34_method_23_code
def yJ19_init : MethodName := ⟨RJ19, "<init>", "(I)V"⟩
theorem q105 : (Jvm.Cond.initialized "java/lang/Integer") ∈ lw_all := lw_g (lw_at lw_m1 23 rfl) rfl
theorem q445 : (Jvm.Cond.static ({ cls := "java/lang/Integer", name := "stringSize", desc := "(I)I" } : Jvm.MethodName)) ∈ lw_all := lw_g (lw_at lw_m2 123 rfl) rfl
theorem q446 : (Jvm.Cond.code ({ cls := "java/lang/Integer", name := "stringSize", desc := "(I)I" } : Jvm.MethodName) prog_34_method_13_code (4 : Nat) (Option.some Jvm.ClassFile.FieldType.int)) ∈ lw_all := lw_g (lw_at lw_m2 124 rfl) rfl
theorem q484 : (Jvm.Cond.static ({ cls := "java/lang/Integer", name := "getChars", desc := "(II[B)I" } : Jvm.MethodName)) ∈ lw_all := lw_g (lw_at lw_m2 162 rfl) rfl
theorem q485 : (Jvm.Cond.code ({ cls := "java/lang/Integer", name := "getChars", desc := "(II[B)I" } : Jvm.MethodName) prog_34_method_12_code (7 : Nat) (Option.some Jvm.ClassFile.FieldType.int)) ∈ lw_all := lw_g (lw_at lw_m2 163 rfl) rfl
theorem q486 : (Jvm.Cond.fieldLink "java/lang/Integer" (83 : Nat) "java/lang/Integer" "DigitOnes" "[B") ∈ lw_all := lw_g (lw_at lw_m2 164 rfl) rfl
theorem q487 : (Jvm.Cond.laysStatic "java/lang/Integer" "DigitOnes" "[B") ∈ lw_tbl := lw_at lw_m2 165 rfl
theorem q488 : (Jvm.Cond.fieldLink "java/lang/Integer" (87 : Nat) "java/lang/Integer" "DigitTens" "[B") ∈ lw_all := lw_g (lw_at lw_m2 166 rfl) rfl
theorem q489 : (Jvm.Cond.laysStatic "java/lang/Integer" "DigitTens" "[B") ∈ lw_tbl := lw_at lw_m2 167 rfl
theorem q674 : (Jvm.Cond.selects "java/lang/Integer" ({ cls := "java/lang/Object", name := "hashCode", desc := "()I" } : Jvm.MethodName) ({ cls := "java/lang/Integer", name := "hashCode", desc := "()I" } : Jvm.MethodName)) ∈ lw_all := lw_g (lw_at lw_m3 112 rfl) rfl
theorem q675 : (Jvm.Cond.instanceMethod ({ cls := "java/lang/Integer", name := "hashCode", desc := "()I" } : Jvm.MethodName)) ∈ lw_all := lw_g (lw_at lw_m3 113 rfl) rfl
theorem q676 : (Jvm.Cond.code ({ cls := "java/lang/Integer", name := "hashCode", desc := "()I" } : Jvm.MethodName) prog_34_method_32_code (1 : Nat) (Option.some Jvm.ClassFile.FieldType.int)) ∈ lw_all := lw_g (lw_at lw_m3 114 rfl) rfl
theorem q677 : (Jvm.Cond.methodLink "java/lang/Integer" (208 : Nat) ({ cls := "java/lang/Integer", name := "hashCode", desc := "(I)I" } : Jvm.MethodName)) ∈ lw_all := lw_g (lw_at lw_m3 115 rfl) rfl
theorem q678 : (Jvm.Cond.static ({ cls := "java/lang/Integer", name := "hashCode", desc := "(I)I" } : Jvm.MethodName)) ∈ lw_all := lw_g (lw_at lw_m3 116 rfl) rfl
theorem q679 : (Jvm.Cond.code ({ cls := "java/lang/Integer", name := "hashCode", desc := "(I)I" } : Jvm.MethodName) prog_34_method_33_code (1 : Nat) (Option.some Jvm.ClassFile.FieldType.int)) ∈ lw_all := lw_g (lw_at lw_m3 117 rfl) rfl
theorem q773 : (Jvm.Cond.selects "java/lang/Integer" ({ cls := "java/lang/Object", name := "equals", desc := "(Ljava/lang/Object;)Z" } : Jvm.MethodName) ({ cls := "java/lang/Integer", name := "equals", desc := "(Ljava/lang/Object;)Z" } : Jvm.MethodName)) ∈ lw_all := lw_g (lw_at lw_m3 211 rfl) rfl
theorem q774 : (Jvm.Cond.instanceMethod ({ cls := "java/lang/Integer", name := "equals", desc := "(Ljava/lang/Object;)Z" } : Jvm.MethodName)) ∈ lw_all := lw_g (lw_at lw_m3 212 rfl) rfl
theorem q775 : (Jvm.Cond.code ({ cls := "java/lang/Integer", name := "equals", desc := "(Ljava/lang/Object;)Z" } : Jvm.MethodName) prog_34_method_34_code (2 : Nat) (Option.some Jvm.ClassFile.FieldType.boolean)) ∈ lw_all := lw_g (lw_at lw_m3 213 rfl) rfl
theorem q776 : (Jvm.Cond.classLink "java/lang/Integer" (1 : Nat) "java/lang/Integer") ∈ lw_all := lw_g (lw_at lw_m3 214 rfl) rfl
theorem q777 : (Jvm.Cond.methodLink "java/lang/Integer" (211 : Nat) ({ cls := "java/lang/Integer", name := "intValue", desc := "()I" } : Jvm.MethodName)) ∈ lw_all := lw_g (lw_at lw_m3 215 rfl) rfl
theorem q778 : (Jvm.Cond.instanceMethod ({ cls := "java/lang/Integer", name := "intValue", desc := "()I" } : Jvm.MethodName)) ∈ lw_all := lw_g (lw_at lw_m3 216 rfl) rfl
theorem q779 : (Jvm.Cond.selects "java/lang/Integer" ({ cls := "java/lang/Integer", name := "intValue", desc := "()I" } : Jvm.MethodName) ({ cls := "java/lang/Integer", name := "intValue", desc := "()I" } : Jvm.MethodName)) ∈ lw_all := lw_g (lw_at lw_m3 217 rfl) rfl
theorem q780 : (Jvm.Cond.code ({ cls := "java/lang/Integer", name := "intValue", desc := "()I" } : Jvm.MethodName) prog_34_method_27_code (1 : Nat) (Option.some Jvm.ClassFile.FieldType.int)) ∈ lw_all := lw_g (lw_at lw_m3 218 rfl) rfl
theorem q838 : (Jvm.Cond.selects "java/lang/Integer" ({ cls := "java/lang/Object", name := "getClass", desc := "()Ljava/lang/Class;" } : Jvm.MethodName) ({ cls := "java/lang/Object", name := "getClass", desc := "()Ljava/lang/Class;" } : Jvm.MethodName)) ∈ lw_all := lw_g (lw_at lw_m4 36 rfl) rfl
theorem q861 : (Jvm.Cond.castable "java/lang/Integer" "java/lang/Comparable") ∈ lw_tbl := lw_at lw_m4 59 rfl
theorem q862 : (Jvm.Cond.selects "java/lang/Integer" ({ cls := "java/lang/Comparable", name := "compareTo", desc := "(Ljava/lang/Object;)I" } : Jvm.MethodName) ({ cls := "java/lang/Integer", name := "compareTo", desc := "(Ljava/lang/Object;)I" } : Jvm.MethodName)) ∈ lw_all := lw_g (lw_at lw_m4 60 rfl) rfl
theorem q863 : (Jvm.Cond.unhidden "java/lang/Integer" "compareTo" "(Ljava/lang/Object;)I") ∈ lw_tbl := lw_at lw_m4 61 rfl
theorem q864 : (Jvm.Cond.instanceMethod ({ cls := "java/lang/Integer", name := "compareTo", desc := "(Ljava/lang/Object;)I" } : Jvm.MethodName)) ∈ lw_all := lw_g (lw_at lw_m4 62 rfl) rfl
theorem q865 : (Jvm.Cond.publicMethod ({ cls := "java/lang/Integer", name := "compareTo", desc := "(Ljava/lang/Object;)I" } : Jvm.MethodName)) ∈ lw_tbl := lw_at lw_m4 63 rfl
theorem q866 : (Jvm.Cond.code ({ cls := "java/lang/Integer", name := "compareTo", desc := "(Ljava/lang/Object;)I" } : Jvm.MethodName) prog_34_method_63_code (2 : Nat) (Option.some Jvm.ClassFile.FieldType.int)) ∈ lw_all := lw_g (lw_at lw_m4 64 rfl) rfl
theorem q867 : (Jvm.Cond.methodLink "java/lang/Integer" (284 : Nat) ({ cls := "java/lang/Integer", name := "compareTo", desc := "(Ljava/lang/Integer;)I" } : Jvm.MethodName)) ∈ lw_all := lw_g (lw_at lw_m4 65 rfl) rfl
theorem q868 : (Jvm.Cond.instanceMethod ({ cls := "java/lang/Integer", name := "compareTo", desc := "(Ljava/lang/Integer;)I" } : Jvm.MethodName)) ∈ lw_all := lw_g (lw_at lw_m4 66 rfl) rfl
theorem q869 : (Jvm.Cond.selects "java/lang/Integer" ({ cls := "java/lang/Integer", name := "compareTo", desc := "(Ljava/lang/Integer;)I" } : Jvm.MethodName) ({ cls := "java/lang/Integer", name := "compareTo", desc := "(Ljava/lang/Integer;)I" } : Jvm.MethodName)) ∈ lw_all := lw_g (lw_at lw_m4 67 rfl) rfl
theorem q870 : (Jvm.Cond.code ({ cls := "java/lang/Integer", name := "compareTo", desc := "(Ljava/lang/Integer;)I" } : Jvm.MethodName) prog_34_method_39_code (2 : Nat) (Option.some Jvm.ClassFile.FieldType.int)) ∈ lw_all := lw_g (lw_at lw_m4 68 rfl) rfl
theorem q871 : (Jvm.Cond.methodLink "java/lang/Integer" (259 : Nat) ({ cls := "java/lang/Integer", name := "compare", desc := "(II)I" } : Jvm.MethodName)) ∈ lw_all := lw_g (lw_at lw_m4 69 rfl) rfl
theorem q872 : (Jvm.Cond.static ({ cls := "java/lang/Integer", name := "compare", desc := "(II)I" } : Jvm.MethodName)) ∈ lw_all := lw_g (lw_at lw_m4 70 rfl) rfl
theorem q873 : (Jvm.Cond.code ({ cls := "java/lang/Integer", name := "compare", desc := "(II)I" } : Jvm.MethodName) prog_34_method_40_code (2 : Nat) (Option.some Jvm.ClassFile.FieldType.int)) ∈ lw_all := lw_g (lw_at lw_m4 71 rfl) rfl
theorem q963 : (Jvm.Cond.static ({ cls := "java/lang/Integer", name := "numberOfLeadingZeros", desc := "(I)I" } : Jvm.MethodName)) ∈ lw_all := lw_g (lw_at lw_m4 161 rfl) rfl
theorem q964 : (Jvm.Cond.code ({ cls := "java/lang/Integer", name := "numberOfLeadingZeros", desc := "(I)I" } : Jvm.MethodName) prog_34_method_47_code (2 : Nat) (Option.some Jvm.ClassFile.FieldType.int)) ∈ lw_all := lw_g (lw_at lw_m4 162 rfl) rfl
theorem q965 : (Jvm.Cond.constant "java/lang/Integer" (264 : Nat) (65536 : Int32)) ∈ lw_all := lw_g (lw_at lw_m4 163 rfl) rfl
theorem q972 : (Jvm.Cond.static ({ cls := "java/lang/Integer", name := "numberOfTrailingZeros", desc := "(I)I" } : Jvm.MethodName)) ∈ lw_all := lw_g (lw_at lw_m4 170 rfl) rfl
theorem q973 : (Jvm.Cond.code ({ cls := "java/lang/Integer", name := "numberOfTrailingZeros", desc := "(I)I" } : Jvm.MethodName) prog_34_method_48_code (2 : Nat) (Option.some Jvm.ClassFile.FieldType.int)) ∈ lw_all := lw_g (lw_at lw_m4 171 rfl) rfl
theorem q1175 : (Jvm.Cond.static ({ cls := "java/lang/Integer", name := "valueOf", desc := "(I)Ljava/lang/Integer;" } : Jvm.MethodName)) ∈ lw_all := lw_g (lw_at lw_m5 133 rfl) rfl
theorem q1176 : (Jvm.Cond.code ({ cls := "java/lang/Integer", name := "valueOf", desc := "(I)Ljava/lang/Integer;" } : Jvm.MethodName) prog_34_method_22_code (1 : Nat) (Option.some (Jvm.ClassFile.FieldType.object "java/lang/Integer"))) ∈ lw_all := lw_g (lw_at lw_m5 134 rfl) rfl
theorem q1177 : (Jvm.Cond.fieldLink "java/lang/Integer" (191 : Nat) "java/lang/Integer$IntegerCache" "high" "I") ∈ lw_all := lw_g (lw_at lw_m5 135 rfl) rfl
theorem q1179 : (Jvm.Cond.fieldLink "java/lang/Integer" (195 : Nat) "java/lang/Integer$IntegerCache" "cache" "[Ljava/lang/Integer;") ∈ lw_all := lw_g (lw_at lw_m5 137 rfl) rfl
theorem q1181 : (Jvm.Cond.instantiable "java/lang/Integer" (1 : Nat)) ∈ lw_all := lw_g (lw_at lw_m5 139 rfl) rfl
theorem q1182 : (Jvm.Cond.methodLink "java/lang/Integer" (199 : Nat) ({ cls := "java/lang/Integer", name := "<init>", desc := "(I)V" } : Jvm.MethodName)) ∈ lw_all := lw_g (lw_at lw_m5 140 rfl) rfl
theorem q1183 : (Jvm.Cond.instanceMethod ({ cls := "java/lang/Integer", name := "<init>", desc := "(I)V" } : Jvm.MethodName)) ∈ lw_all := lw_g (lw_at lw_m5 141 rfl) rfl
theorem q1184 : (Jvm.Cond.code ({ cls := "java/lang/Integer", name := "<init>", desc := "(I)V" } : Jvm.MethodName) prog_34_method_23_code (2 : Nat) (Option.none : Option Jvm.ClassFile.FieldType)) ∈ lw_all := lw_g (lw_at lw_m5 142 rfl) rfl
theorem q1185 : (Jvm.Cond.methodLink "java/lang/Integer" (202 : Nat) ({ cls := "java/lang/Number", name := "<init>", desc := "()V" } : Jvm.MethodName)) ∈ lw_all := lw_g (lw_at lw_m5 143 rfl) rfl
theorem q1189 : (Jvm.Cond.fieldLink "java/lang/Integer" (205 : Nat) "java/lang/Integer" "value" "I") ∈ lw_all := lw_g (lw_at lw_m5 147 rfl) rfl
theorem q1190 : (Jvm.Cond.laysFinal "java/lang/Integer" "java/lang/Integer" "value" "I") ∈ lw_all := lw_g (lw_at lw_m5 148 rfl) rfl
theorem q1191 : (Jvm.Cond.soleField "java/lang/Integer" "value") ∈ lw_all := lw_g (lw_at lw_m5 149 rfl) rfl
theorem q1192 : (Jvm.Cond.superclass "java/lang/Integer" "java/lang/Number") ∈ lw_all := lw_g (lw_at lw_m5 150 rfl) rfl
theorem q3241 : (Jvm.Cond.castable "java/lang/Integer" "java/lang/Object") ∈ lw_tbl := lw_at lw_m14 39 rfl
theorem in_J19 : ∀ w ∈ wsJ190, w ∈ lw_all := lw_in wsJ190 [1190] (by decide +kernel) (by decide +kernel)

/-! java/util/HashMap$Node -/
set_option maxRecDepth 100000
def RJ24 : String := "java/util/HashMap$Node"
def TJ24 : u_T := fun k => match k with
  | 0 => ("java/util/HashMap$Node", "hash", "I", true)
  | 1 => ("java/util/HashMap$Node", "key", "Ljava/lang/Object;", true)
  | 2 => ("java/util/HashMap$Node", "value", "Ljava/lang/Object;", false)
  | _ => ("java/util/HashMap$Node", "next", "Ljava/util/HashMap$Node;", false)
def tyJ24 : Nat → FieldType := fun k => match k with
  | 0 => .int
  | 1 => .object "java/lang/Object"
  | 2 => .object "java/lang/Object"
  | _ => .object "java/util/HashMap$Node"
abbrev wsJ240 : List Cond := u_ws RJ24 TJ24 4
theorem nmJ24 : ∀ a, a < 4 → ∀ b, b < 4 → a ≠ b → (TJ24 a).2.1 ≠ (TJ24 b).2.1 := by decide +kernel
theorem tyJ24_ok : ∀ k, k < 4 → parseFieldDescriptor (TJ24 k).2.2.1 = some (tyJ24 k) := by decide +kernel
abbrev cJ24_init : ByteArray := prog_62_method_1_code
def yJ24_init : MethodName := ⟨RJ24, "<init>", "(ILjava/lang/Object;Ljava/lang/Object;Ljava/util/HashMap$Node;)V"⟩
theorem q112 : (Jvm.Cond.initialized "java/util/HashMap$Node") ∈ lw_all := lw_g (lw_at lw_m1 30 rfl) rfl
theorem q848 : (Jvm.Cond.selects "java/util/HashMap$Node" ({ cls := "java/lang/Object", name := "getClass", desc := "()Ljava/lang/Class;" } : Jvm.MethodName) ({ cls := "java/lang/Object", name := "getClass", desc := "()Ljava/lang/Class;" } : Jvm.MethodName)) ∈ lw_all := lw_g (lw_at lw_m4 46 rfl) rfl
theorem q1300 : (Jvm.Cond.instantiable "java/util/HashMap$Node" (4 : Nat)) ∈ lw_all := lw_g (lw_at lw_m6 18 rfl) rfl
theorem q1302 : (Jvm.Cond.instanceMethod ({ cls := "java/util/HashMap$Node", name := "<init>", desc := "(ILjava/lang/Object;Ljava/lang/Object;Ljava/util/HashMap$Node;)V" } : Jvm.MethodName)) ∈ lw_all := lw_g (lw_at lw_m6 20 rfl) rfl
theorem q1303 : (Jvm.Cond.code ({ cls := "java/util/HashMap$Node", name := "<init>", desc := "(ILjava/lang/Object;Ljava/lang/Object;Ljava/util/HashMap$Node;)V" } : Jvm.MethodName) prog_62_method_1_code (5 : Nat) (Option.none : Option Jvm.ClassFile.FieldType)) ∈ lw_all := lw_g (lw_at lw_m6 21 rfl) rfl
theorem q1304 : (Jvm.Cond.methodLink "java/util/HashMap$Node" (1 : Nat) ({ cls := "java/lang/Object", name := "<init>", desc := "()V" } : Jvm.MethodName)) ∈ lw_all := lw_g (lw_at lw_m6 22 rfl) rfl
theorem q1305 : (Jvm.Cond.fieldLink "java/util/HashMap$Node" (7 : Nat) "java/util/HashMap$Node" "hash" "I") ∈ lw_all := lw_g (lw_at lw_m6 23 rfl) rfl
theorem q1309 : (Jvm.Cond.fieldLink "java/util/HashMap$Node" (13 : Nat) "java/util/HashMap$Node" "key" "Ljava/lang/Object;") ∈ lw_all := lw_g (lw_at lw_m6 27 rfl) rfl
theorem q1313 : (Jvm.Cond.fieldLink "java/util/HashMap$Node" (17 : Nat) "java/util/HashMap$Node" "value" "Ljava/lang/Object;") ∈ lw_all := lw_g (lw_at lw_m6 31 rfl) rfl
theorem q1315 : (Jvm.Cond.fieldLink "java/util/HashMap$Node" (20 : Nat) "java/util/HashMap$Node" "next" "Ljava/util/HashMap$Node;") ∈ lw_all := lw_g (lw_at lw_m6 33 rfl) rfl
theorem q1321 : (Jvm.Cond.laysFinal "java/util/HashMap$Node" "java/util/HashMap$Node" "hash" "I") ∈ lw_all := lw_g (lw_at lw_m6 39 rfl) rfl
theorem q1322 : (Jvm.Cond.soleField "java/util/HashMap$Node" "hash") ∈ lw_all := lw_g (lw_at lw_m6 40 rfl) rfl
theorem q1323 : (Jvm.Cond.laysFinal "java/util/HashMap$Node" "java/util/HashMap$Node" "key" "Ljava/lang/Object;") ∈ lw_all := lw_g (lw_at lw_m6 41 rfl) rfl
theorem q1324 : (Jvm.Cond.soleField "java/util/HashMap$Node" "key") ∈ lw_all := lw_g (lw_at lw_m6 42 rfl) rfl
theorem q1325 : (Jvm.Cond.lays "java/util/HashMap$Node" "java/util/HashMap$Node" "value" "Ljava/lang/Object;") ∈ lw_all := lw_g (lw_at lw_m6 43 rfl) rfl
theorem q1326 : (Jvm.Cond.soleField "java/util/HashMap$Node" "value") ∈ lw_all := lw_g (lw_at lw_m6 44 rfl) rfl
theorem q1327 : (Jvm.Cond.lays "java/util/HashMap$Node" "java/util/HashMap$Node" "next" "Ljava/util/HashMap$Node;") ∈ lw_all := lw_g (lw_at lw_m6 45 rfl) rfl
theorem q1328 : (Jvm.Cond.soleField "java/util/HashMap$Node" "next") ∈ lw_all := lw_g (lw_at lw_m6 46 rfl) rfl
theorem q1329 : (Jvm.Cond.superclass "java/util/HashMap$Node" "java/lang/Object") ∈ lw_all := lw_g (lw_at lw_m6 47 rfl) rfl
theorem q3230 : (Jvm.Cond.castable "java/util/HashMap$Node" "java/lang/Object") ∈ lw_tbl := lw_at lw_m14 28 rfl
theorem in_J24 : ∀ w ∈ wsJ240, w ∈ lw_all := lw_in wsJ240 [1321, 1323, 1325, 1327] (by decide +kernel) (by decide +kernel)

/-! CableTrayPlannerLaw -/
set_option maxRecDepth 100000
def RX0 : String := "CableTrayPlannerLaw"
abbrev cX0_setSpare : ByteArray := method_3_code
def yX0_setSpare : MethodName := ⟨RX0, "setSpare", "(LCableTrayPlanner;I[J)I"⟩
abbrev cX0_setTail : ByteArray := method_4_code
def yX0_setTail : MethodName := ⟨RX0, "setTail", "(LCableTrayPlanner;I[J)I"⟩
abbrev cX0_addTray : ByteArray := method_5_code
def yX0_addTray : MethodName := ⟨RX0, "addTray", "(LCableTrayPlanner;IIIII[J)I"⟩
abbrev cX0_dropTray : ByteArray := method_6_code
def yX0_dropTray : MethodName := ⟨RX0, "dropTray", "(LCableTrayPlanner;I[J)I"⟩
abbrev cX0_addCable : ByteArray := method_7_code
def yX0_addCable : MethodName := ⟨RX0, "addCable", "(LCableTrayPlanner;III[J)I"⟩
abbrev cX0_addDrum : ByteArray := method_8_code
def yX0_addDrum : MethodName := ⟨RX0, "addDrum", "(LCableTrayPlanner;II[J)I"⟩
abbrev cX0_route : ByteArray := method_9_code
def yX0_route : MethodName := ⟨RX0, "route", "(LCableTrayPlanner;I[J)I"⟩
abbrev cX0_free : ByteArray := method_10_code
def yX0_free : MethodName := ⟨RX0, "free", "(LCableTrayPlanner;I[J)I"⟩
abbrev cX0_cut : ByteArray := method_11_code
def yX0_cut : MethodName := ⟨RX0, "cut", "(LCableTrayPlanner;I[J)I"⟩
abbrev cX0_scrap : ByteArray := method_12_code
def yX0_scrap : MethodName := ⟨RX0, "scrap", "(LCableTrayPlanner;I[J)I"⟩
abbrev cX0_refusal : ByteArray := method_13_code
def yX0_refusal : MethodName := ⟨RX0, "refusal", "(LCableTrayPlanner;I[J)I"⟩
abbrev cX0_planner : ByteArray := method_14_code
def yX0_planner : MethodName := ⟨RX0, "planner", "(LCableTrayPlanner;I[J)I"⟩
abbrev cX0_type : ByteArray := method_15_code
def yX0_type : MethodName := ⟨RX0, "type", "(LCableTrayPlanner;II[J)I"⟩
abbrev cX0_letter : ByteArray := method_16_code
def yX0_letter : MethodName := ⟨RX0, "letter", "(LCableTrayPlanner;II[J)I"⟩
abbrev cX0_tray : ByteArray := method_17_code
def yX0_tray : MethodName := ⟨RX0, "tray", "(LCableTrayPlanner;II[J)I"⟩
abbrev cX0_compartment : ByteArray := method_18_code
def yX0_compartment : MethodName := ⟨RX0, "compartment", "(LCableTrayPlanner;IIZ[J)I"⟩
abbrev cX0_fits : ByteArray := method_19_code
def yX0_fits : MethodName := ⟨RX0, "fits", "(LCableTrayPlanner;II[J)I"⟩
abbrev cX0_cable : ByteArray := method_20_code
def yX0_cable : MethodName := ⟨RX0, "cable", "(LCableTrayPlanner;II[J)I"⟩
abbrev cX0_step : ByteArray := method_21_code
def yX0_step : MethodName := ⟨RX0, "step", "(LCableTrayPlanner;IIZ[J)I"⟩
abbrev cX0_shortest : ByteArray := method_22_code
def yX0_shortest : MethodName := ⟨RX0, "shortest", "(LCableTrayPlanner;III[J)I"⟩
abbrev cX0_drum : ByteArray := method_23_code
def yX0_drum : MethodName := ⟨RX0, "drum", "(LCableTrayPlanner;II[J)I"⟩
abbrev cX0_fewestDrums : ByteArray := method_24_code
def yX0_fewestDrums : MethodName := ⟨RX0, "fewestDrums", "(LCableTrayPlanner;I[J)I"⟩
abbrev cX0_cablesIn : ByteArray := method_25_code
def yX0_cablesIn : MethodName := ⟨RX0, "cablesIn", "(LCableTrayPlanner;I[J)I"⟩
abbrev cX0_fullest : ByteArray := method_26_code
def yX0_fullest : MethodName := ⟨RX0, "fullest", "(LCableTrayPlanner;[J)I"⟩
abbrev cX0_fill : ByteArray := method_27_code
def yX0_fill : MethodName := ⟨RX0, "fill", "(LCableTrayPlanner;I[D)I"⟩
abbrev cX0_meanLength : ByteArray := method_28_code
def yX0_meanLength : MethodName := ⟨RX0, "meanLength", "(LCableTrayPlanner;[D)I"⟩
abbrev cX0_append : ByteArray := method_29_code
def yX0_append : MethodName := ⟨RX0, "append", "(LCableTrayPlanner;I[J)I"⟩
abbrev cX0_read : ByteArray := method_30_code
def yX0_read : MethodName := ⟨RX0, "read", "(LCableTrayPlanner;[J)I"⟩
abbrev cX0_errorPosition : ByteArray := method_31_code
def yX0_errorPosition : MethodName := ⟨RX0, "errorPosition", "(LCableTrayPlanner;[J)I"⟩
abbrev cX0_refusedItem : ByteArray := method_32_code
def yX0_refusedItem : MethodName := ⟨RX0, "refusedItem", "(LCableTrayPlanner;[J)I"⟩
abbrev cX0_undo : ByteArray := method_33_code
def yX0_undo : MethodName := ⟨RX0, "undo", "(LCableTrayPlanner;[J)I"⟩
abbrev cX0_restore : ByteArray := method_34_code
def yX0_restore : MethodName := ⟨RX0, "restore", "(LCableTrayPlanner;[J)I"⟩
theorem q82 : (Jvm.Cond.initialized "CableTrayPlannerLaw") ∈ lw_all := lw_g (lw_at lw_m1 0 rfl) rfl
theorem q141 : (Jvm.Cond.classLink "CableTrayPlannerLaw" (8 : Nat) "CableTrayPlanner") ∈ lw_all := lw_g (lw_at lw_m1 59 rfl) rfl
theorem q143 : (Jvm.Cond.methodLink "CableTrayPlannerLaw" (127 : Nat) ({ cls := "CableTrayPlanner", name := "<init>", desc := "()V" } : Jvm.MethodName)) ∈ lw_all := lw_g (lw_at lw_m1 61 rfl) rfl
theorem q327 : (Jvm.Cond.methodLink "CableTrayPlannerLaw" (131 : Nat) ({ cls := "CableTrayPlanner", name := "clear", desc := "()I" } : Jvm.MethodName)) ∈ lw_all := lw_g (lw_at lw_m2 5 rfl) rfl
theorem q342 : (Jvm.Cond.methodLink "CableTrayPlannerLaw" (186 : Nat) ({ cls := "CableTrayPlanner", name := "typeNamed", desc := "()I" } : Jvm.MethodName)) ∈ lw_all := lw_g (lw_at lw_m2 20 rfl) rfl
theorem q1054 : (Jvm.Cond.methodLink "CableTrayPlannerLaw" (230 : Nat) ({ cls := "CableTrayPlanner", name := "isConsistent", desc := "()Z" } : Jvm.MethodName)) ∈ lw_all := lw_g (lw_at lw_m5 12 rfl) rfl
theorem q1255 : (Jvm.Cond.methodLink "CableTrayPlannerLaw" (250 : Nat) ({ cls := "CableTrayPlanner", name := "snapshot", desc := "()I" } : Jvm.MethodName)) ∈ lw_all := lw_g (lw_at lw_m5 213 rfl) rfl
theorem q1585 : (Jvm.Cond.methodLink "CableTrayPlannerLaw" (135 : Nat) ({ cls := "CableTrayPlannerLaw", name := "setSpare", desc := "(LCableTrayPlanner;I[J)I" } : Jvm.MethodName)) ∈ lw_all := lw_g (lw_at lw_m7 63 rfl) rfl
theorem q1586 : (Jvm.Cond.static ({ cls := "CableTrayPlannerLaw", name := "setSpare", desc := "(LCableTrayPlanner;I[J)I" } : Jvm.MethodName)) ∈ lw_all := lw_g (lw_at lw_m7 64 rfl) rfl
theorem q1587 : (Jvm.Cond.codeWith ({ cls := "CableTrayPlannerLaw", name := "setSpare", desc := "(LCableTrayPlanner;I[J)I" } : Jvm.MethodName) method_3_code (4 : Nat) (Option.some Jvm.ClassFile.FieldType.int) [((0 : Nat), (9 : Nat), (12 : Nat), (13 : Nat))]) ∈ lw_all := lw_g (lw_at lw_m7 65 rfl) rfl
theorem q1588 : (Jvm.Cond.classLink "CableTrayPlannerLaw" (13 : Nat) "java/lang/IllegalArgumentException") ∈ lw_all := lw_g (lw_at lw_m7 66 rfl) rfl
theorem q1589 : (Jvm.Cond.methodLink "CableTrayPlannerLaw" (7 : Nat) ({ cls := "CableTrayPlanner", name := "setSpare", desc := "(I)I" } : Jvm.MethodName)) ∈ lw_all := lw_g (lw_at lw_m7 67 rfl) rfl
theorem q1661 : (Jvm.Cond.methodLink "CableTrayPlannerLaw" (144 : Nat) ({ cls := "CableTrayPlannerLaw", name := "setTail", desc := "(LCableTrayPlanner;I[J)I" } : Jvm.MethodName)) ∈ lw_all := lw_g (lw_at lw_m7 139 rfl) rfl
theorem q1662 : (Jvm.Cond.static ({ cls := "CableTrayPlannerLaw", name := "setTail", desc := "(LCableTrayPlanner;I[J)I" } : Jvm.MethodName)) ∈ lw_all := lw_g (lw_at lw_m7 140 rfl) rfl
theorem q1663 : (Jvm.Cond.codeWith ({ cls := "CableTrayPlannerLaw", name := "setTail", desc := "(LCableTrayPlanner;I[J)I" } : Jvm.MethodName) method_4_code (4 : Nat) (Option.some Jvm.ClassFile.FieldType.int) [((0 : Nat), (9 : Nat), (12 : Nat), (13 : Nat))]) ∈ lw_all := lw_g (lw_at lw_m7 141 rfl) rfl
theorem q1664 : (Jvm.Cond.methodLink "CableTrayPlannerLaw" (15 : Nat) ({ cls := "CableTrayPlanner", name := "setTail", desc := "(I)I" } : Jvm.MethodName)) ∈ lw_all := lw_g (lw_at lw_m7 142 rfl) rfl
theorem q1669 : (Jvm.Cond.methodLink "CableTrayPlannerLaw" (147 : Nat) ({ cls := "CableTrayPlannerLaw", name := "addTray", desc := "(LCableTrayPlanner;IIIII[J)I" } : Jvm.MethodName)) ∈ lw_all := lw_g (lw_at lw_m7 147 rfl) rfl
theorem q1670 : (Jvm.Cond.static ({ cls := "CableTrayPlannerLaw", name := "addTray", desc := "(LCableTrayPlanner;IIIII[J)I" } : Jvm.MethodName)) ∈ lw_all := lw_g (lw_at lw_m7 148 rfl) rfl
theorem q1671 : (Jvm.Cond.codeWith ({ cls := "CableTrayPlannerLaw", name := "addTray", desc := "(LCableTrayPlanner;IIIII[J)I" } : Jvm.MethodName) method_5_code (8 : Nat) (Option.some Jvm.ClassFile.FieldType.int) [((0 : Nat), (16 : Nat), (19 : Nat), (22 : Nat)), ((0 : Nat), (16 : Nat), (23 : Nat), (13 : Nat)), ((0 : Nat), (16 : Nat), (27 : Nat), (24 : Nat))]) ∈ lw_all := lw_g (lw_at lw_m7 149 rfl) rfl
theorem q1672 : (Jvm.Cond.classLink "CableTrayPlannerLaw" (22 : Nat) "java/lang/IndexOutOfBoundsException") ∈ lw_all := lw_g (lw_at lw_m7 150 rfl) rfl
theorem q1691 : (Jvm.Cond.classLink "CableTrayPlannerLaw" (24 : Nat) "java/lang/IllegalStateException") ∈ lw_all := lw_g (lw_at lw_m7 169 rfl) rfl
theorem q1692 : (Jvm.Cond.methodLink "CableTrayPlannerLaw" (18 : Nat) ({ cls := "CableTrayPlanner", name := "addTray", desc := "(IIIII)I" } : Jvm.MethodName)) ∈ lw_all := lw_g (lw_at lw_m7 170 rfl) rfl
theorem q1737 : (Jvm.Cond.methodLink "CableTrayPlannerLaw" (151 : Nat) ({ cls := "CableTrayPlannerLaw", name := "dropTray", desc := "(LCableTrayPlanner;I[J)I" } : Jvm.MethodName)) ∈ lw_all := lw_g (lw_at lw_m7 215 rfl) rfl
theorem q1738 : (Jvm.Cond.static ({ cls := "CableTrayPlannerLaw", name := "dropTray", desc := "(LCableTrayPlanner;I[J)I" } : Jvm.MethodName)) ∈ lw_all := lw_g (lw_at lw_m7 216 rfl) rfl
theorem q1739 : (Jvm.Cond.codeWith ({ cls := "CableTrayPlannerLaw", name := "dropTray", desc := "(LCableTrayPlanner;I[J)I" } : Jvm.MethodName) method_6_code (4 : Nat) (Option.some Jvm.ClassFile.FieldType.int) [((0 : Nat), (9 : Nat), (12 : Nat), (22 : Nat)), ((0 : Nat), (9 : Nat), (15 : Nat), (24 : Nat))]) ∈ lw_all := lw_g (lw_at lw_m7 217 rfl) rfl
theorem q1740 : (Jvm.Cond.methodLink "CableTrayPlannerLaw" (26 : Nat) ({ cls := "CableTrayPlanner", name := "dropTray", desc := "(I)I" } : Jvm.MethodName)) ∈ lw_all := lw_g (lw_at lw_m7 218 rfl) rfl
theorem q1793 : (Jvm.Cond.methodLink "CableTrayPlannerLaw" (154 : Nat) ({ cls := "CableTrayPlannerLaw", name := "addCable", desc := "(LCableTrayPlanner;III[J)I" } : Jvm.MethodName)) ∈ lw_all := lw_g (lw_at lw_m8 31 rfl) rfl
theorem q1794 : (Jvm.Cond.static ({ cls := "CableTrayPlannerLaw", name := "addCable", desc := "(LCableTrayPlanner;III[J)I" } : Jvm.MethodName)) ∈ lw_all := lw_g (lw_at lw_m8 32 rfl) rfl
theorem q1795 : (Jvm.Cond.codeWith ({ cls := "CableTrayPlannerLaw", name := "addCable", desc := "(LCableTrayPlanner;III[J)I" } : Jvm.MethodName) method_7_code (6 : Nat) (Option.some Jvm.ClassFile.FieldType.int) [((0 : Nat), (12 : Nat), (15 : Nat), (22 : Nat)), ((0 : Nat), (12 : Nat), (19 : Nat), (13 : Nat)), ((0 : Nat), (12 : Nat), (23 : Nat), (24 : Nat))]) ∈ lw_all := lw_g (lw_at lw_m8 33 rfl) rfl
theorem q1796 : (Jvm.Cond.methodLink "CableTrayPlannerLaw" (29 : Nat) ({ cls := "CableTrayPlanner", name := "addCable", desc := "(III)I" } : Jvm.MethodName)) ∈ lw_all := lw_g (lw_at lw_m8 34 rfl) rfl
theorem q1809 : (Jvm.Cond.methodLink "CableTrayPlannerLaw" (158 : Nat) ({ cls := "CableTrayPlannerLaw", name := "addDrum", desc := "(LCableTrayPlanner;II[J)I" } : Jvm.MethodName)) ∈ lw_all := lw_g (lw_at lw_m8 47 rfl) rfl
theorem q1810 : (Jvm.Cond.static ({ cls := "CableTrayPlannerLaw", name := "addDrum", desc := "(LCableTrayPlanner;II[J)I" } : Jvm.MethodName)) ∈ lw_all := lw_g (lw_at lw_m8 48 rfl) rfl
theorem q1811 : (Jvm.Cond.codeWith ({ cls := "CableTrayPlannerLaw", name := "addDrum", desc := "(LCableTrayPlanner;II[J)I" } : Jvm.MethodName) method_8_code (5 : Nat) (Option.some Jvm.ClassFile.FieldType.int) [((0 : Nat), (10 : Nat), (13 : Nat), (22 : Nat)), ((0 : Nat), (10 : Nat), (17 : Nat), (13 : Nat)), ((0 : Nat), (10 : Nat), (21 : Nat), (24 : Nat))]) ∈ lw_all := lw_g (lw_at lw_m8 49 rfl) rfl
theorem q1812 : (Jvm.Cond.methodLink "CableTrayPlannerLaw" (33 : Nat) ({ cls := "CableTrayPlanner", name := "addDrum", desc := "(II)I" } : Jvm.MethodName)) ∈ lw_all := lw_g (lw_at lw_m8 50 rfl) rfl
theorem q1821 : (Jvm.Cond.methodLink "CableTrayPlannerLaw" (162 : Nat) ({ cls := "CableTrayPlannerLaw", name := "route", desc := "(LCableTrayPlanner;I[J)I" } : Jvm.MethodName)) ∈ lw_all := lw_g (lw_at lw_m8 59 rfl) rfl
theorem q1822 : (Jvm.Cond.static ({ cls := "CableTrayPlannerLaw", name := "route", desc := "(LCableTrayPlanner;I[J)I" } : Jvm.MethodName)) ∈ lw_all := lw_g (lw_at lw_m8 60 rfl) rfl
theorem q1823 : (Jvm.Cond.codeWith ({ cls := "CableTrayPlannerLaw", name := "route", desc := "(LCableTrayPlanner;I[J)I" } : Jvm.MethodName) method_9_code (4 : Nat) (Option.some Jvm.ClassFile.FieldType.int) [((0 : Nat), (9 : Nat), (12 : Nat), (40 : Nat))]) ∈ lw_all := lw_g (lw_at lw_m8 61 rfl) rfl
theorem q1824 : (Jvm.Cond.classLink "CableTrayPlannerLaw" (40 : Nat) "java/lang/UnsupportedOperationException") ∈ lw_all := lw_g (lw_at lw_m8 62 rfl) rfl
theorem q1825 : (Jvm.Cond.methodLink "CableTrayPlannerLaw" (37 : Nat) ({ cls := "CableTrayPlanner", name := "route", desc := "(I)I" } : Jvm.MethodName)) ∈ lw_all := lw_g (lw_at lw_m8 63 rfl) rfl
theorem q2141 : (Jvm.Cond.methodLink "CableTrayPlannerLaw" (165 : Nat) ({ cls := "CableTrayPlannerLaw", name := "free", desc := "(LCableTrayPlanner;I[J)I" } : Jvm.MethodName)) ∈ lw_all := lw_g (lw_at lw_m9 139 rfl) rfl
theorem q2142 : (Jvm.Cond.static ({ cls := "CableTrayPlannerLaw", name := "free", desc := "(LCableTrayPlanner;I[J)I" } : Jvm.MethodName)) ∈ lw_all := lw_g (lw_at lw_m9 140 rfl) rfl
theorem q2143 : (Jvm.Cond.codeWith ({ cls := "CableTrayPlannerLaw", name := "free", desc := "(LCableTrayPlanner;I[J)I" } : Jvm.MethodName) method_10_code (4 : Nat) (Option.some Jvm.ClassFile.FieldType.int) [((0 : Nat), (9 : Nat), (12 : Nat), (22 : Nat)), ((0 : Nat), (9 : Nat), (15 : Nat), (24 : Nat))]) ∈ lw_all := lw_g (lw_at lw_m9 141 rfl) rfl
theorem q2144 : (Jvm.Cond.methodLink "CableTrayPlannerLaw" (42 : Nat) ({ cls := "CableTrayPlanner", name := "free", desc := "(I)I" } : Jvm.MethodName)) ∈ lw_all := lw_g (lw_at lw_m9 142 rfl) rfl
theorem q2168 : (Jvm.Cond.methodLink "CableTrayPlannerLaw" (168 : Nat) ({ cls := "CableTrayPlannerLaw", name := "cut", desc := "(LCableTrayPlanner;I[J)I" } : Jvm.MethodName)) ∈ lw_all := lw_g (lw_at lw_m9 166 rfl) rfl
theorem q2169 : (Jvm.Cond.static ({ cls := "CableTrayPlannerLaw", name := "cut", desc := "(LCableTrayPlanner;I[J)I" } : Jvm.MethodName)) ∈ lw_all := lw_g (lw_at lw_m9 167 rfl) rfl
theorem q2170 : (Jvm.Cond.codeWith ({ cls := "CableTrayPlannerLaw", name := "cut", desc := "(LCableTrayPlanner;I[J)I" } : Jvm.MethodName) method_11_code (4 : Nat) (Option.some Jvm.ClassFile.FieldType.int) [((0 : Nat), (9 : Nat), (12 : Nat), (40 : Nat))]) ∈ lw_all := lw_g (lw_at lw_m9 168 rfl) rfl
theorem q2171 : (Jvm.Cond.methodLink "CableTrayPlannerLaw" (45 : Nat) ({ cls := "CableTrayPlanner", name := "cut", desc := "(I)I" } : Jvm.MethodName)) ∈ lw_all := lw_g (lw_at lw_m9 169 rfl) rfl
theorem q2192 : (Jvm.Cond.methodLink "CableTrayPlannerLaw" (171 : Nat) ({ cls := "CableTrayPlannerLaw", name := "scrap", desc := "(LCableTrayPlanner;I[J)I" } : Jvm.MethodName)) ∈ lw_all := lw_g (lw_at lw_m9 190 rfl) rfl
theorem q2193 : (Jvm.Cond.static ({ cls := "CableTrayPlannerLaw", name := "scrap", desc := "(LCableTrayPlanner;I[J)I" } : Jvm.MethodName)) ∈ lw_all := lw_g (lw_at lw_m9 191 rfl) rfl
theorem q2194 : (Jvm.Cond.codeWith ({ cls := "CableTrayPlannerLaw", name := "scrap", desc := "(LCableTrayPlanner;I[J)I" } : Jvm.MethodName) method_12_code (4 : Nat) (Option.some Jvm.ClassFile.FieldType.int) [((0 : Nat), (9 : Nat), (12 : Nat), (22 : Nat)), ((0 : Nat), (9 : Nat), (15 : Nat), (24 : Nat))]) ∈ lw_all := lw_g (lw_at lw_m9 192 rfl) rfl
theorem q2195 : (Jvm.Cond.methodLink "CableTrayPlannerLaw" (48 : Nat) ({ cls := "CableTrayPlanner", name := "scrap", desc := "(I)I" } : Jvm.MethodName)) ∈ lw_all := lw_g (lw_at lw_m9 193 rfl) rfl
theorem q2203 : (Jvm.Cond.methodLink "CableTrayPlannerLaw" (174 : Nat) ({ cls := "CableTrayPlannerLaw", name := "refusal", desc := "(LCableTrayPlanner;I[J)I" } : Jvm.MethodName)) ∈ lw_all := lw_g (lw_at lw_m9 201 rfl) rfl
theorem q2204 : (Jvm.Cond.static ({ cls := "CableTrayPlannerLaw", name := "refusal", desc := "(LCableTrayPlanner;I[J)I" } : Jvm.MethodName)) ∈ lw_all := lw_g (lw_at lw_m9 202 rfl) rfl
theorem q2205 : (Jvm.Cond.codeWith ({ cls := "CableTrayPlannerLaw", name := "refusal", desc := "(LCableTrayPlanner;I[J)I" } : Jvm.MethodName) method_13_code (4 : Nat) (Option.some Jvm.ClassFile.FieldType.int) [((0 : Nat), (9 : Nat), (12 : Nat), (24 : Nat)), ((0 : Nat), (9 : Nat), (15 : Nat), (54 : Nat))]) ∈ lw_all := lw_g (lw_at lw_m9 203 rfl) rfl
theorem q2206 : (Jvm.Cond.classLink "CableTrayPlannerLaw" (54 : Nat) "java/util/NoSuchElementException") ∈ lw_all := lw_g (lw_at lw_m9 204 rfl) rfl
theorem q2207 : (Jvm.Cond.methodLink "CableTrayPlannerLaw" (51 : Nat) ({ cls := "CableTrayPlanner", name := "refusal", desc := "(I)I" } : Jvm.MethodName)) ∈ lw_all := lw_g (lw_at lw_m9 205 rfl) rfl
theorem q2213 : (Jvm.Cond.methodLink "CableTrayPlannerLaw" (177 : Nat) ({ cls := "CableTrayPlannerLaw", name := "planner", desc := "(LCableTrayPlanner;I[J)I" } : Jvm.MethodName)) ∈ lw_all := lw_g (lw_at lw_m9 211 rfl) rfl
theorem q2214 : (Jvm.Cond.static ({ cls := "CableTrayPlannerLaw", name := "planner", desc := "(LCableTrayPlanner;I[J)I" } : Jvm.MethodName)) ∈ lw_all := lw_g (lw_at lw_m9 212 rfl) rfl
theorem q2215 : (Jvm.Cond.codeWith ({ cls := "CableTrayPlannerLaw", name := "planner", desc := "(LCableTrayPlanner;I[J)I" } : Jvm.MethodName) method_14_code (4 : Nat) (Option.some Jvm.ClassFile.FieldType.int) [((0 : Nat), (9 : Nat), (12 : Nat), (13 : Nat))]) ∈ lw_all := lw_g (lw_at lw_m9 213 rfl) rfl
theorem q2216 : (Jvm.Cond.methodLink "CableTrayPlannerLaw" (56 : Nat) ({ cls := "CableTrayPlanner", name := "planner", desc := "(I)I" } : Jvm.MethodName)) ∈ lw_all := lw_g (lw_at lw_m9 214 rfl) rfl
theorem q2224 : (Jvm.Cond.methodLink "CableTrayPlannerLaw" (180 : Nat) ({ cls := "CableTrayPlannerLaw", name := "type", desc := "(LCableTrayPlanner;II[J)I" } : Jvm.MethodName)) ∈ lw_all := lw_g (lw_at lw_m9 222 rfl) rfl
theorem q2225 : (Jvm.Cond.static ({ cls := "CableTrayPlannerLaw", name := "type", desc := "(LCableTrayPlanner;II[J)I" } : Jvm.MethodName)) ∈ lw_all := lw_g (lw_at lw_m9 223 rfl) rfl
theorem q2226 : (Jvm.Cond.codeWith ({ cls := "CableTrayPlannerLaw", name := "type", desc := "(LCableTrayPlanner;II[J)I" } : Jvm.MethodName) method_15_code (5 : Nat) (Option.some Jvm.ClassFile.FieldType.int) [((0 : Nat), (10 : Nat), (13 : Nat), (22 : Nat)), ((0 : Nat), (10 : Nat), (17 : Nat), (13 : Nat))]) ∈ lw_all := lw_g (lw_at lw_m9 224 rfl) rfl
theorem q2227 : (Jvm.Cond.methodLink "CableTrayPlannerLaw" (59 : Nat) ({ cls := "CableTrayPlanner", name := "type", desc := "(II)I" } : Jvm.MethodName)) ∈ lw_all := lw_g (lw_at lw_m9 225 rfl) rfl
theorem q2248 : (Jvm.Cond.methodLink "CableTrayPlannerLaw" (183 : Nat) ({ cls := "CableTrayPlannerLaw", name := "letter", desc := "(LCableTrayPlanner;II[J)I" } : Jvm.MethodName)) ∈ lw_all := lw_g (lw_at lw_m10 6 rfl) rfl
theorem q2249 : (Jvm.Cond.static ({ cls := "CableTrayPlannerLaw", name := "letter", desc := "(LCableTrayPlanner;II[J)I" } : Jvm.MethodName)) ∈ lw_all := lw_g (lw_at lw_m10 7 rfl) rfl
theorem q2250 : (Jvm.Cond.codeWith ({ cls := "CableTrayPlannerLaw", name := "letter", desc := "(LCableTrayPlanner;II[J)I" } : Jvm.MethodName) method_16_code (5 : Nat) (Option.some Jvm.ClassFile.FieldType.int) [((0 : Nat), (10 : Nat), (13 : Nat), (22 : Nat)), ((0 : Nat), (10 : Nat), (17 : Nat), (54 : Nat))]) ∈ lw_all := lw_g (lw_at lw_m10 8 rfl) rfl
theorem q2251 : (Jvm.Cond.methodLink "CableTrayPlannerLaw" (62 : Nat) ({ cls := "CableTrayPlanner", name := "letter", desc := "(II)C" } : Jvm.MethodName)) ∈ lw_all := lw_g (lw_at lw_m10 9 rfl) rfl
theorem q2273 : (Jvm.Cond.methodLink "CableTrayPlannerLaw" (190 : Nat) ({ cls := "CableTrayPlannerLaw", name := "tray", desc := "(LCableTrayPlanner;II[J)I" } : Jvm.MethodName)) ∈ lw_all := lw_g (lw_at lw_m10 31 rfl) rfl
theorem q2274 : (Jvm.Cond.static ({ cls := "CableTrayPlannerLaw", name := "tray", desc := "(LCableTrayPlanner;II[J)I" } : Jvm.MethodName)) ∈ lw_all := lw_g (lw_at lw_m10 32 rfl) rfl
theorem q2275 : (Jvm.Cond.codeWith ({ cls := "CableTrayPlannerLaw", name := "tray", desc := "(LCableTrayPlanner;II[J)I" } : Jvm.MethodName) method_17_code (5 : Nat) (Option.some Jvm.ClassFile.FieldType.int) [((0 : Nat), (10 : Nat), (13 : Nat), (22 : Nat)), ((0 : Nat), (10 : Nat), (17 : Nat), (13 : Nat))]) ∈ lw_all := lw_g (lw_at lw_m10 33 rfl) rfl
theorem q2276 : (Jvm.Cond.methodLink "CableTrayPlannerLaw" (66 : Nat) ({ cls := "CableTrayPlanner", name := "tray", desc := "(II)I" } : Jvm.MethodName)) ∈ lw_all := lw_g (lw_at lw_m10 34 rfl) rfl
theorem q2292 : (Jvm.Cond.methodLink "CableTrayPlannerLaw" (193 : Nat) ({ cls := "CableTrayPlannerLaw", name := "compartment", desc := "(LCableTrayPlanner;IIZ[J)I" } : Jvm.MethodName)) ∈ lw_all := lw_g (lw_at lw_m10 50 rfl) rfl
theorem q2293 : (Jvm.Cond.static ({ cls := "CableTrayPlannerLaw", name := "compartment", desc := "(LCableTrayPlanner;IIZ[J)I" } : Jvm.MethodName)) ∈ lw_all := lw_g (lw_at lw_m10 51 rfl) rfl
theorem q2294 : (Jvm.Cond.codeWith ({ cls := "CableTrayPlannerLaw", name := "compartment", desc := "(LCableTrayPlanner;IIZ[J)I" } : Jvm.MethodName) method_18_code (6 : Nat) (Option.some Jvm.ClassFile.FieldType.int) [((0 : Nat), (12 : Nat), (15 : Nat), (22 : Nat)), ((0 : Nat), (12 : Nat), (19 : Nat), (54 : Nat))]) ∈ lw_all := lw_g (lw_at lw_m10 52 rfl) rfl
theorem q2295 : (Jvm.Cond.methodLink "CableTrayPlannerLaw" (69 : Nat) ({ cls := "CableTrayPlanner", name := "compartment", desc := "(IIZ)I" } : Jvm.MethodName)) ∈ lw_all := lw_g (lw_at lw_m10 53 rfl) rfl
theorem q2299 : (Jvm.Cond.methodLink "CableTrayPlannerLaw" (197 : Nat) ({ cls := "CableTrayPlannerLaw", name := "fits", desc := "(LCableTrayPlanner;II[J)I" } : Jvm.MethodName)) ∈ lw_all := lw_g (lw_at lw_m10 57 rfl) rfl
theorem q2300 : (Jvm.Cond.static ({ cls := "CableTrayPlannerLaw", name := "fits", desc := "(LCableTrayPlanner;II[J)I" } : Jvm.MethodName)) ∈ lw_all := lw_g (lw_at lw_m10 58 rfl) rfl
theorem q2301 : (Jvm.Cond.codeWith ({ cls := "CableTrayPlannerLaw", name := "fits", desc := "(LCableTrayPlanner;II[J)I" } : Jvm.MethodName) method_19_code (5 : Nat) (Option.some Jvm.ClassFile.FieldType.int) [((0 : Nat), (17 : Nat), (20 : Nat), (22 : Nat))]) ∈ lw_all := lw_g (lw_at lw_m10 59 rfl) rfl
theorem q2302 : (Jvm.Cond.methodLink "CableTrayPlannerLaw" (73 : Nat) ({ cls := "CableTrayPlanner", name := "fits", desc := "(II)Z" } : Jvm.MethodName)) ∈ lw_all := lw_g (lw_at lw_m10 60 rfl) rfl
theorem q2307 : (Jvm.Cond.methodLink "CableTrayPlannerLaw" (200 : Nat) ({ cls := "CableTrayPlannerLaw", name := "cable", desc := "(LCableTrayPlanner;II[J)I" } : Jvm.MethodName)) ∈ lw_all := lw_g (lw_at lw_m10 65 rfl) rfl
theorem q2308 : (Jvm.Cond.static ({ cls := "CableTrayPlannerLaw", name := "cable", desc := "(LCableTrayPlanner;II[J)I" } : Jvm.MethodName)) ∈ lw_all := lw_g (lw_at lw_m10 66 rfl) rfl
theorem q2309 : (Jvm.Cond.codeWith ({ cls := "CableTrayPlannerLaw", name := "cable", desc := "(LCableTrayPlanner;II[J)I" } : Jvm.MethodName) method_20_code (5 : Nat) (Option.some Jvm.ClassFile.FieldType.int) [((0 : Nat), (10 : Nat), (13 : Nat), (22 : Nat)), ((0 : Nat), (10 : Nat), (17 : Nat), (13 : Nat))]) ∈ lw_all := lw_g (lw_at lw_m10 67 rfl) rfl
theorem q2310 : (Jvm.Cond.methodLink "CableTrayPlannerLaw" (77 : Nat) ({ cls := "CableTrayPlanner", name := "cable", desc := "(II)I" } : Jvm.MethodName)) ∈ lw_all := lw_g (lw_at lw_m10 68 rfl) rfl
theorem q2317 : (Jvm.Cond.methodLink "CableTrayPlannerLaw" (203 : Nat) ({ cls := "CableTrayPlannerLaw", name := "step", desc := "(LCableTrayPlanner;IIZ[J)I" } : Jvm.MethodName)) ∈ lw_all := lw_g (lw_at lw_m10 75 rfl) rfl
theorem q2318 : (Jvm.Cond.static ({ cls := "CableTrayPlannerLaw", name := "step", desc := "(LCableTrayPlanner;IIZ[J)I" } : Jvm.MethodName)) ∈ lw_all := lw_g (lw_at lw_m10 76 rfl) rfl
theorem q2319 : (Jvm.Cond.codeWith ({ cls := "CableTrayPlannerLaw", name := "step", desc := "(LCableTrayPlanner;IIZ[J)I" } : Jvm.MethodName) method_21_code (6 : Nat) (Option.some Jvm.ClassFile.FieldType.int) [((0 : Nat), (12 : Nat), (15 : Nat), (22 : Nat)), ((0 : Nat), (12 : Nat), (19 : Nat), (54 : Nat))]) ∈ lw_all := lw_g (lw_at lw_m10 77 rfl) rfl
theorem q2320 : (Jvm.Cond.methodLink "CableTrayPlannerLaw" (80 : Nat) ({ cls := "CableTrayPlanner", name := "step", desc := "(IIZ)I" } : Jvm.MethodName)) ∈ lw_all := lw_g (lw_at lw_m10 78 rfl) rfl
theorem q2326 : (Jvm.Cond.methodLink "CableTrayPlannerLaw" (206 : Nat) ({ cls := "CableTrayPlannerLaw", name := "shortest", desc := "(LCableTrayPlanner;III[J)I" } : Jvm.MethodName)) ∈ lw_all := lw_g (lw_at lw_m10 84 rfl) rfl
theorem q2327 : (Jvm.Cond.static ({ cls := "CableTrayPlannerLaw", name := "shortest", desc := "(LCableTrayPlanner;III[J)I" } : Jvm.MethodName)) ∈ lw_all := lw_g (lw_at lw_m10 85 rfl) rfl
theorem q2328 : (Jvm.Cond.codeWith ({ cls := "CableTrayPlannerLaw", name := "shortest", desc := "(LCableTrayPlanner;III[J)I" } : Jvm.MethodName) method_22_code (6 : Nat) (Option.some Jvm.ClassFile.FieldType.int) [((0 : Nat), (12 : Nat), (15 : Nat), (22 : Nat))]) ∈ lw_all := lw_g (lw_at lw_m10 86 rfl) rfl
theorem q2329 : (Jvm.Cond.methodLink "CableTrayPlannerLaw" (83 : Nat) ({ cls := "CableTrayPlanner", name := "shortest", desc := "(III)I" } : Jvm.MethodName)) ∈ lw_all := lw_g (lw_at lw_m10 87 rfl) rfl
theorem q2338 : (Jvm.Cond.methodLink "CableTrayPlannerLaw" (209 : Nat) ({ cls := "CableTrayPlannerLaw", name := "drum", desc := "(LCableTrayPlanner;II[J)I" } : Jvm.MethodName)) ∈ lw_all := lw_g (lw_at lw_m10 96 rfl) rfl
theorem q2339 : (Jvm.Cond.static ({ cls := "CableTrayPlannerLaw", name := "drum", desc := "(LCableTrayPlanner;II[J)I" } : Jvm.MethodName)) ∈ lw_all := lw_g (lw_at lw_m10 97 rfl) rfl
theorem q2340 : (Jvm.Cond.codeWith ({ cls := "CableTrayPlannerLaw", name := "drum", desc := "(LCableTrayPlanner;II[J)I" } : Jvm.MethodName) method_23_code (5 : Nat) (Option.some Jvm.ClassFile.FieldType.int) [((0 : Nat), (10 : Nat), (13 : Nat), (22 : Nat)), ((0 : Nat), (10 : Nat), (17 : Nat), (13 : Nat))]) ∈ lw_all := lw_g (lw_at lw_m10 98 rfl) rfl
theorem q2341 : (Jvm.Cond.methodLink "CableTrayPlannerLaw" (86 : Nat) ({ cls := "CableTrayPlanner", name := "drum", desc := "(II)I" } : Jvm.MethodName)) ∈ lw_all := lw_g (lw_at lw_m10 99 rfl) rfl
theorem q2353 : (Jvm.Cond.methodLink "CableTrayPlannerLaw" (212 : Nat) ({ cls := "CableTrayPlannerLaw", name := "fewestDrums", desc := "(LCableTrayPlanner;I[J)I" } : Jvm.MethodName)) ∈ lw_all := lw_g (lw_at lw_m10 111 rfl) rfl
theorem q2354 : (Jvm.Cond.static ({ cls := "CableTrayPlannerLaw", name := "fewestDrums", desc := "(LCableTrayPlanner;I[J)I" } : Jvm.MethodName)) ∈ lw_all := lw_g (lw_at lw_m10 112 rfl) rfl
theorem q2355 : (Jvm.Cond.codeWith ({ cls := "CableTrayPlannerLaw", name := "fewestDrums", desc := "(LCableTrayPlanner;I[J)I" } : Jvm.MethodName) method_24_code (4 : Nat) (Option.some Jvm.ClassFile.FieldType.int) [((0 : Nat), (9 : Nat), (12 : Nat), (22 : Nat)), ((0 : Nat), (9 : Nat), (15 : Nat), (54 : Nat))]) ∈ lw_all := lw_g (lw_at lw_m10 113 rfl) rfl
theorem q2356 : (Jvm.Cond.methodLink "CableTrayPlannerLaw" (89 : Nat) ({ cls := "CableTrayPlanner", name := "fewestDrums", desc := "(I)I" } : Jvm.MethodName)) ∈ lw_all := lw_g (lw_at lw_m10 114 rfl) rfl
theorem q2398 : (Jvm.Cond.methodLink "CableTrayPlannerLaw" (215 : Nat) ({ cls := "CableTrayPlannerLaw", name := "cablesIn", desc := "(LCableTrayPlanner;I[J)I" } : Jvm.MethodName)) ∈ lw_all := lw_g (lw_at lw_m10 156 rfl) rfl
theorem q2399 : (Jvm.Cond.static ({ cls := "CableTrayPlannerLaw", name := "cablesIn", desc := "(LCableTrayPlanner;I[J)I" } : Jvm.MethodName)) ∈ lw_all := lw_g (lw_at lw_m10 157 rfl) rfl
theorem q2400 : (Jvm.Cond.codeWith ({ cls := "CableTrayPlannerLaw", name := "cablesIn", desc := "(LCableTrayPlanner;I[J)I" } : Jvm.MethodName) method_25_code (4 : Nat) (Option.some Jvm.ClassFile.FieldType.int) [((0 : Nat), (9 : Nat), (12 : Nat), (22 : Nat))]) ∈ lw_all := lw_g (lw_at lw_m10 158 rfl) rfl
theorem q2401 : (Jvm.Cond.methodLink "CableTrayPlannerLaw" (92 : Nat) ({ cls := "CableTrayPlanner", name := "cablesIn", desc := "(I)I" } : Jvm.MethodName)) ∈ lw_all := lw_g (lw_at lw_m10 159 rfl) rfl
theorem q2406 : (Jvm.Cond.methodLink "CableTrayPlannerLaw" (218 : Nat) ({ cls := "CableTrayPlannerLaw", name := "fullest", desc := "(LCableTrayPlanner;[J)I" } : Jvm.MethodName)) ∈ lw_all := lw_g (lw_at lw_m10 164 rfl) rfl
theorem q2407 : (Jvm.Cond.static ({ cls := "CableTrayPlannerLaw", name := "fullest", desc := "(LCableTrayPlanner;[J)I" } : Jvm.MethodName)) ∈ lw_all := lw_g (lw_at lw_m10 165 rfl) rfl
theorem q2408 : (Jvm.Cond.codeWith ({ cls := "CableTrayPlannerLaw", name := "fullest", desc := "(LCableTrayPlanner;[J)I" } : Jvm.MethodName) method_26_code (3 : Nat) (Option.some Jvm.ClassFile.FieldType.int) [((0 : Nat), (8 : Nat), (11 : Nat), (54 : Nat))]) ∈ lw_all := lw_g (lw_at lw_m10 166 rfl) rfl
theorem q2409 : (Jvm.Cond.methodLink "CableTrayPlannerLaw" (95 : Nat) ({ cls := "CableTrayPlanner", name := "fullest", desc := "()I" } : Jvm.MethodName)) ∈ lw_all := lw_g (lw_at lw_m10 167 rfl) rfl
theorem q2415 : (Jvm.Cond.methodLink "CableTrayPlannerLaw" (222 : Nat) ({ cls := "CableTrayPlannerLaw", name := "fill", desc := "(LCableTrayPlanner;I[D)I" } : Jvm.MethodName)) ∈ lw_all := lw_g (lw_at lw_m10 173 rfl) rfl
theorem q2416 : (Jvm.Cond.static ({ cls := "CableTrayPlannerLaw", name := "fill", desc := "(LCableTrayPlanner;I[D)I" } : Jvm.MethodName)) ∈ lw_all := lw_g (lw_at lw_m10 174 rfl) rfl
theorem q2417 : (Jvm.Cond.codeWith ({ cls := "CableTrayPlannerLaw", name := "fill", desc := "(LCableTrayPlanner;I[D)I" } : Jvm.MethodName) method_27_code (4 : Nat) (Option.some Jvm.ClassFile.FieldType.int) [((0 : Nat), (9 : Nat), (12 : Nat), (22 : Nat))]) ∈ lw_all := lw_g (lw_at lw_m10 175 rfl) rfl
theorem q2418 : (Jvm.Cond.methodLink "CableTrayPlannerLaw" (99 : Nat) ({ cls := "CableTrayPlanner", name := "fill", desc := "(I)F" } : Jvm.MethodName)) ∈ lw_all := lw_g (lw_at lw_m10 176 rfl) rfl
theorem q2422 : (Jvm.Cond.methodLink "CableTrayPlannerLaw" (226 : Nat) ({ cls := "CableTrayPlannerLaw", name := "meanLength", desc := "(LCableTrayPlanner;[D)I" } : Jvm.MethodName)) ∈ lw_all := lw_g (lw_at lw_m10 180 rfl) rfl
theorem q2423 : (Jvm.Cond.static ({ cls := "CableTrayPlannerLaw", name := "meanLength", desc := "(LCableTrayPlanner;[D)I" } : Jvm.MethodName)) ∈ lw_all := lw_g (lw_at lw_m10 181 rfl) rfl
theorem q2424 : (Jvm.Cond.codeWith ({ cls := "CableTrayPlannerLaw", name := "meanLength", desc := "(LCableTrayPlanner;[D)I" } : Jvm.MethodName) method_28_code (3 : Nat) (Option.some Jvm.ClassFile.FieldType.int) [((0 : Nat), (7 : Nat), (10 : Nat), (107 : Nat))]) ∈ lw_all := lw_g (lw_at lw_m10 182 rfl) rfl
theorem q2425 : (Jvm.Cond.classLink "CableTrayPlannerLaw" (107 : Nat) "java/lang/ArithmeticException") ∈ lw_all := lw_g (lw_at lw_m10 183 rfl) rfl
theorem q2439 : (Jvm.Cond.methodLink "CableTrayPlannerLaw" (103 : Nat) ({ cls := "CableTrayPlanner", name := "meanLength", desc := "()D" } : Jvm.MethodName)) ∈ lw_all := lw_g (lw_at lw_m10 197 rfl) rfl
theorem q2451 : (Jvm.Cond.methodLink "CableTrayPlannerLaw" (235 : Nat) ({ cls := "CableTrayPlannerLaw", name := "append", desc := "(LCableTrayPlanner;I[J)I" } : Jvm.MethodName)) ∈ lw_all := lw_g (lw_at lw_m10 209 rfl) rfl
theorem q2452 : (Jvm.Cond.static ({ cls := "CableTrayPlannerLaw", name := "append", desc := "(LCableTrayPlanner;I[J)I" } : Jvm.MethodName)) ∈ lw_all := lw_g (lw_at lw_m10 210 rfl) rfl
theorem q2453 : (Jvm.Cond.codeWith ({ cls := "CableTrayPlannerLaw", name := "append", desc := "(LCableTrayPlanner;I[J)I" } : Jvm.MethodName) method_29_code (4 : Nat) (Option.some Jvm.ClassFile.FieldType.int) [((0 : Nat), (9 : Nat), (12 : Nat), (13 : Nat)), ((0 : Nat), (9 : Nat), (15 : Nat), (24 : Nat))]) ∈ lw_all := lw_g (lw_at lw_m10 211 rfl) rfl
theorem q2454 : (Jvm.Cond.methodLink "CableTrayPlannerLaw" (109 : Nat) ({ cls := "CableTrayPlanner", name := "append", desc := "(I)I" } : Jvm.MethodName)) ∈ lw_all := lw_g (lw_at lw_m10 212 rfl) rfl
theorem q2473 : (Jvm.Cond.methodLink "CableTrayPlannerLaw" (238 : Nat) ({ cls := "CableTrayPlannerLaw", name := "read", desc := "(LCableTrayPlanner;[J)I" } : Jvm.MethodName)) ∈ lw_all := lw_g (lw_at lw_m10 231 rfl) rfl
theorem q2474 : (Jvm.Cond.static ({ cls := "CableTrayPlannerLaw", name := "read", desc := "(LCableTrayPlanner;[J)I" } : Jvm.MethodName)) ∈ lw_all := lw_g (lw_at lw_m10 232 rfl) rfl
theorem q2475 : (Jvm.Cond.codeWith ({ cls := "CableTrayPlannerLaw", name := "read", desc := "(LCableTrayPlanner;[J)I" } : Jvm.MethodName) method_30_code (3 : Nat) (Option.some Jvm.ClassFile.FieldType.int) [((0 : Nat), (8 : Nat), (11 : Nat), (13 : Nat)), ((0 : Nat), (8 : Nat), (14 : Nat), (40 : Nat))]) ∈ lw_all := lw_g (lw_at lw_m10 233 rfl) rfl
theorem q2476 : (Jvm.Cond.methodLink "CableTrayPlannerLaw" (112 : Nat) ({ cls := "CableTrayPlanner", name := "read", desc := "()I" } : Jvm.MethodName)) ∈ lw_all := lw_g (lw_at lw_m10 234 rfl) rfl
theorem q2728 : (Jvm.Cond.methodLink "CableTrayPlannerLaw" (241 : Nat) ({ cls := "CableTrayPlannerLaw", name := "errorPosition", desc := "(LCableTrayPlanner;[J)I" } : Jvm.MethodName)) ∈ lw_all := lw_g (lw_at lw_m12 6 rfl) rfl
theorem q2729 : (Jvm.Cond.static ({ cls := "CableTrayPlannerLaw", name := "errorPosition", desc := "(LCableTrayPlanner;[J)I" } : Jvm.MethodName)) ∈ lw_all := lw_g (lw_at lw_m12 7 rfl) rfl
theorem q2730 : (Jvm.Cond.codeWith ({ cls := "CableTrayPlannerLaw", name := "errorPosition", desc := "(LCableTrayPlanner;[J)I" } : Jvm.MethodName) method_31_code (3 : Nat) (Option.some Jvm.ClassFile.FieldType.int) [((0 : Nat), (8 : Nat), (11 : Nat), (54 : Nat))]) ∈ lw_all := lw_g (lw_at lw_m12 8 rfl) rfl
theorem q2731 : (Jvm.Cond.methodLink "CableTrayPlannerLaw" (115 : Nat) ({ cls := "CableTrayPlanner", name := "errorPosition", desc := "()I" } : Jvm.MethodName)) ∈ lw_all := lw_g (lw_at lw_m12 9 rfl) rfl
theorem q2735 : (Jvm.Cond.methodLink "CableTrayPlannerLaw" (244 : Nat) ({ cls := "CableTrayPlannerLaw", name := "refusedItem", desc := "(LCableTrayPlanner;[J)I" } : Jvm.MethodName)) ∈ lw_all := lw_g (lw_at lw_m12 13 rfl) rfl
theorem q2736 : (Jvm.Cond.static ({ cls := "CableTrayPlannerLaw", name := "refusedItem", desc := "(LCableTrayPlanner;[J)I" } : Jvm.MethodName)) ∈ lw_all := lw_g (lw_at lw_m12 14 rfl) rfl
theorem q2737 : (Jvm.Cond.codeWith ({ cls := "CableTrayPlannerLaw", name := "refusedItem", desc := "(LCableTrayPlanner;[J)I" } : Jvm.MethodName) method_32_code (3 : Nat) (Option.some Jvm.ClassFile.FieldType.int) [((0 : Nat), (8 : Nat), (11 : Nat), (54 : Nat))]) ∈ lw_all := lw_g (lw_at lw_m12 15 rfl) rfl
theorem q2738 : (Jvm.Cond.methodLink "CableTrayPlannerLaw" (118 : Nat) ({ cls := "CableTrayPlanner", name := "refusedItem", desc := "()I" } : Jvm.MethodName)) ∈ lw_all := lw_g (lw_at lw_m12 16 rfl) rfl
theorem q2742 : (Jvm.Cond.methodLink "CableTrayPlannerLaw" (247 : Nat) ({ cls := "CableTrayPlannerLaw", name := "undo", desc := "(LCableTrayPlanner;[J)I" } : Jvm.MethodName)) ∈ lw_all := lw_g (lw_at lw_m12 20 rfl) rfl
theorem q2743 : (Jvm.Cond.static ({ cls := "CableTrayPlannerLaw", name := "undo", desc := "(LCableTrayPlanner;[J)I" } : Jvm.MethodName)) ∈ lw_all := lw_g (lw_at lw_m12 21 rfl) rfl
theorem q2744 : (Jvm.Cond.codeWith ({ cls := "CableTrayPlannerLaw", name := "undo", desc := "(LCableTrayPlanner;[J)I" } : Jvm.MethodName) method_33_code (3 : Nat) (Option.some Jvm.ClassFile.FieldType.int) [((0 : Nat), (8 : Nat), (11 : Nat), (24 : Nat))]) ∈ lw_all := lw_g (lw_at lw_m12 22 rfl) rfl
theorem q2745 : (Jvm.Cond.methodLink "CableTrayPlannerLaw" (121 : Nat) ({ cls := "CableTrayPlanner", name := "undo", desc := "()I" } : Jvm.MethodName)) ∈ lw_all := lw_g (lw_at lw_m12 23 rfl) rfl
theorem q2764 : (Jvm.Cond.methodLink "CableTrayPlannerLaw" (254 : Nat) ({ cls := "CableTrayPlannerLaw", name := "restore", desc := "(LCableTrayPlanner;[J)I" } : Jvm.MethodName)) ∈ lw_all := lw_g (lw_at lw_m12 42 rfl) rfl
theorem q2765 : (Jvm.Cond.static ({ cls := "CableTrayPlannerLaw", name := "restore", desc := "(LCableTrayPlanner;[J)I" } : Jvm.MethodName)) ∈ lw_all := lw_g (lw_at lw_m12 43 rfl) rfl
theorem q2766 : (Jvm.Cond.codeWith ({ cls := "CableTrayPlannerLaw", name := "restore", desc := "(LCableTrayPlanner;[J)I" } : Jvm.MethodName) method_34_code (3 : Nat) (Option.some Jvm.ClassFile.FieldType.int) [((0 : Nat), (8 : Nat), (11 : Nat), (24 : Nat))]) ∈ lw_all := lw_g (lw_at lw_m12 44 rfl) rfl
theorem q2767 : (Jvm.Cond.methodLink "CableTrayPlannerLaw" (124 : Nat) ({ cls := "CableTrayPlanner", name := "restore", desc := "()I" } : Jvm.MethodName)) ∈ lw_all := lw_g (lw_at lw_m12 45 rfl) rfl
theorem q2771 : (Jvm.Cond.classLink "CableTrayPlannerLaw" (128 : Nat) "CableTrayPlannerModel") ∈ lw_all := lw_g (lw_at lw_m12 49 rfl) rfl
theorem q2773 : (Jvm.Cond.methodLink "CableTrayPlannerLaw" (130 : Nat) ({ cls := "CableTrayPlannerModel", name := "<init>", desc := "()V" } : Jvm.MethodName)) ∈ lw_all := lw_g (lw_at lw_m12 51 rfl) rfl
theorem q2864 : (Jvm.Cond.methodLink "CableTrayPlannerLaw" (141 : Nat) ({ cls := "CableTrayPlannerModel", name := "thrown", desc := "()I" } : Jvm.MethodName)) ∈ lw_all := lw_g (lw_at lw_m12 142 rfl) rfl
theorem q2868 : (Jvm.Cond.methodLink "CableTrayPlannerLaw" (134 : Nat) ({ cls := "CableTrayPlannerModel", name := "clear", desc := "()I" } : Jvm.MethodName)) ∈ lw_all := lw_g (lw_at lw_m12 146 rfl) rfl
theorem q2872 : (Jvm.Cond.methodLink "CableTrayPlannerLaw" (249 : Nat) ({ cls := "CableTrayPlannerModel", name := "undo", desc := "()I" } : Jvm.MethodName)) ∈ lw_all := lw_g (lw_at lw_m12 150 rfl) rfl
theorem q2879 : (Jvm.Cond.methodLink "CableTrayPlannerLaw" (253 : Nat) ({ cls := "CableTrayPlannerModel", name := "snapshot", desc := "()I" } : Jvm.MethodName)) ∈ lw_all := lw_g (lw_at lw_m12 157 rfl) rfl
theorem q2883 : (Jvm.Cond.methodLink "CableTrayPlannerLaw" (256 : Nat) ({ cls := "CableTrayPlannerModel", name := "restore", desc := "()I" } : Jvm.MethodName)) ∈ lw_all := lw_g (lw_at lw_m12 161 rfl) rfl
theorem q2887 : (Jvm.Cond.methodLink "CableTrayPlannerLaw" (140 : Nat) ({ cls := "CableTrayPlannerModel", name := "setSpare", desc := "(I)I" } : Jvm.MethodName)) ∈ lw_all := lw_g (lw_at lw_m12 165 rfl) rfl
theorem q2906 : (Jvm.Cond.methodLink "CableTrayPlannerLaw" (146 : Nat) ({ cls := "CableTrayPlannerModel", name := "setTail", desc := "(I)I" } : Jvm.MethodName)) ∈ lw_all := lw_g (lw_at lw_m12 184 rfl) rfl
theorem q2910 : (Jvm.Cond.methodLink "CableTrayPlannerLaw" (150 : Nat) ({ cls := "CableTrayPlannerModel", name := "addTray", desc := "(IIIII)I" } : Jvm.MethodName)) ∈ lw_all := lw_g (lw_at lw_m12 188 rfl) rfl
theorem q2917 : (Jvm.Cond.methodLink "CableTrayPlannerLaw" (153 : Nat) ({ cls := "CableTrayPlannerModel", name := "dropTray", desc := "(I)I" } : Jvm.MethodName)) ∈ lw_all := lw_g (lw_at lw_m12 195 rfl) rfl
theorem q2940 : (Jvm.Cond.methodLink "CableTrayPlannerLaw" (157 : Nat) ({ cls := "CableTrayPlannerModel", name := "addCable", desc := "(III)I" } : Jvm.MethodName)) ∈ lw_all := lw_g (lw_at lw_m12 218 rfl) rfl
theorem q2948 : (Jvm.Cond.methodLink "CableTrayPlannerLaw" (161 : Nat) ({ cls := "CableTrayPlannerModel", name := "addDrum", desc := "(II)I" } : Jvm.MethodName)) ∈ lw_all := lw_g (lw_at lw_m12 226 rfl) rfl
theorem q2952 : (Jvm.Cond.methodLink "CableTrayPlannerLaw" (199 : Nat) ({ cls := "CableTrayPlannerModel", name := "fits", desc := "(II)Z" } : Jvm.MethodName)) ∈ lw_all := lw_g (lw_at lw_m12 230 rfl) rfl
theorem q2988 : (Jvm.Cond.methodLink "CableTrayPlannerLaw" (192 : Nat) ({ cls := "CableTrayPlannerModel", name := "tray", desc := "(II)I" } : Jvm.MethodName)) ∈ lw_all := lw_g (lw_at lw_m13 26 rfl) rfl
theorem q2995 : (Jvm.Cond.methodLink "CableTrayPlannerLaw" (196 : Nat) ({ cls := "CableTrayPlannerModel", name := "compartment", desc := "(IIZ)I" } : Jvm.MethodName)) ∈ lw_all := lw_g (lw_at lw_m13 33 rfl) rfl
theorem q2999 : (Jvm.Cond.methodLink "CableTrayPlannerLaw" (217 : Nat) ({ cls := "CableTrayPlannerModel", name := "cablesIn", desc := "(I)I" } : Jvm.MethodName)) ∈ lw_all := lw_g (lw_at lw_m13 37 rfl) rfl
theorem q3003 : (Jvm.Cond.methodLink "CableTrayPlannerLaw" (221 : Nat) ({ cls := "CableTrayPlannerModel", name := "fullest", desc := "()I" } : Jvm.MethodName)) ∈ lw_all := lw_g (lw_at lw_m13 41 rfl) rfl
theorem q3011 : (Jvm.Cond.methodLink "CableTrayPlannerLaw" (225 : Nat) ({ cls := "CableTrayPlannerModel", name := "fill", desc := "(I)F" } : Jvm.MethodName)) ∈ lw_all := lw_g (lw_at lw_m13 49 rfl) rfl
theorem q3015 : (Jvm.Cond.methodLink "CableTrayPlannerLaw" (208 : Nat) ({ cls := "CableTrayPlannerModel", name := "shortest", desc := "(III)I" } : Jvm.MethodName)) ∈ lw_all := lw_g (lw_at lw_m13 53 rfl) rfl
theorem q3035 : (Jvm.Cond.methodLink "CableTrayPlannerLaw" (164 : Nat) ({ cls := "CableTrayPlannerModel", name := "route", desc := "(I)I" } : Jvm.MethodName)) ∈ lw_all := lw_g (lw_at lw_m13 73 rfl) rfl
theorem q3063 : (Jvm.Cond.methodLink "CableTrayPlannerLaw" (167 : Nat) ({ cls := "CableTrayPlannerModel", name := "free", desc := "(I)I" } : Jvm.MethodName)) ∈ lw_all := lw_g (lw_at lw_m13 101 rfl) rfl
theorem q3071 : (Jvm.Cond.methodLink "CableTrayPlannerLaw" (170 : Nat) ({ cls := "CableTrayPlannerModel", name := "cut", desc := "(I)I" } : Jvm.MethodName)) ∈ lw_all := lw_g (lw_at lw_m13 109 rfl) rfl
theorem q3079 : (Jvm.Cond.methodLink "CableTrayPlannerLaw" (173 : Nat) ({ cls := "CableTrayPlannerModel", name := "scrap", desc := "(I)I" } : Jvm.MethodName)) ∈ lw_all := lw_g (lw_at lw_m13 117 rfl) rfl
theorem q3083 : (Jvm.Cond.methodLink "CableTrayPlannerLaw" (176 : Nat) ({ cls := "CableTrayPlannerModel", name := "refusal", desc := "(I)I" } : Jvm.MethodName)) ∈ lw_all := lw_g (lw_at lw_m13 121 rfl) rfl
theorem q3087 : (Jvm.Cond.methodLink "CableTrayPlannerLaw" (202 : Nat) ({ cls := "CableTrayPlannerModel", name := "cable", desc := "(II)I" } : Jvm.MethodName)) ∈ lw_all := lw_g (lw_at lw_m13 125 rfl) rfl
theorem q3095 : (Jvm.Cond.methodLink "CableTrayPlannerLaw" (205 : Nat) ({ cls := "CableTrayPlannerModel", name := "step", desc := "(IIZ)I" } : Jvm.MethodName)) ∈ lw_all := lw_g (lw_at lw_m13 133 rfl) rfl
theorem q3099 : (Jvm.Cond.methodLink "CableTrayPlannerLaw" (179 : Nat) ({ cls := "CableTrayPlannerModel", name := "planner", desc := "(I)I" } : Jvm.MethodName)) ∈ lw_all := lw_g (lw_at lw_m13 137 rfl) rfl
theorem q3111 : (Jvm.Cond.methodLink "CableTrayPlannerLaw" (182 : Nat) ({ cls := "CableTrayPlannerModel", name := "type", desc := "(II)I" } : Jvm.MethodName)) ∈ lw_all := lw_g (lw_at lw_m13 149 rfl) rfl
theorem q3115 : (Jvm.Cond.methodLink "CableTrayPlannerLaw" (185 : Nat) ({ cls := "CableTrayPlannerModel", name := "letter", desc := "(II)C" } : Jvm.MethodName)) ∈ lw_all := lw_g (lw_at lw_m13 153 rfl) rfl
theorem q3119 : (Jvm.Cond.methodLink "CableTrayPlannerLaw" (211 : Nat) ({ cls := "CableTrayPlannerModel", name := "drum", desc := "(II)I" } : Jvm.MethodName)) ∈ lw_all := lw_g (lw_at lw_m13 157 rfl) rfl
theorem q3127 : (Jvm.Cond.methodLink "CableTrayPlannerLaw" (214 : Nat) ({ cls := "CableTrayPlannerModel", name := "fewestDrums", desc := "(I)I" } : Jvm.MethodName)) ∈ lw_all := lw_g (lw_at lw_m13 165 rfl) rfl
theorem q3135 : (Jvm.Cond.methodLink "CableTrayPlannerLaw" (229 : Nat) ({ cls := "CableTrayPlannerModel", name := "meanLength", desc := "()D" } : Jvm.MethodName)) ∈ lw_all := lw_g (lw_at lw_m13 173 rfl) rfl
theorem q3139 : (Jvm.Cond.methodLink "CableTrayPlannerLaw" (234 : Nat) ({ cls := "CableTrayPlannerModel", name := "isConsistent", desc := "()Z" } : Jvm.MethodName)) ∈ lw_all := lw_g (lw_at lw_m13 177 rfl) rfl
theorem q3147 : (Jvm.Cond.methodLink "CableTrayPlannerLaw" (237 : Nat) ({ cls := "CableTrayPlannerModel", name := "append", desc := "(I)I" } : Jvm.MethodName)) ∈ lw_all := lw_g (lw_at lw_m13 185 rfl) rfl
theorem q3151 : (Jvm.Cond.methodLink "CableTrayPlannerLaw" (189 : Nat) ({ cls := "CableTrayPlannerModel", name := "typeNamed", desc := "()I" } : Jvm.MethodName)) ∈ lw_all := lw_g (lw_at lw_m13 189 rfl) rfl
theorem q3159 : (Jvm.Cond.methodLink "CableTrayPlannerLaw" (240 : Nat) ({ cls := "CableTrayPlannerModel", name := "read", desc := "()I" } : Jvm.MethodName)) ∈ lw_all := lw_g (lw_at lw_m13 197 rfl) rfl
theorem q3202 : (Jvm.Cond.methodLink "CableTrayPlannerLaw" (243 : Nat) ({ cls := "CableTrayPlannerModel", name := "errorPosition", desc := "()I" } : Jvm.MethodName)) ∈ lw_all := lw_g (lw_at lw_m14 0 rfl) rfl
theorem q3206 : (Jvm.Cond.methodLink "CableTrayPlannerLaw" (246 : Nat) ({ cls := "CableTrayPlannerModel", name := "refusedItem", desc := "()I" } : Jvm.MethodName)) ∈ lw_all := lw_g (lw_at lw_m14 4 rfl) rfl

/-! java/util/AbstractCollection -/
set_option maxRecDepth 100000
def RJ0 : String := "java/util/AbstractCollection"
abbrev cJ0_init : ByteArray := prog_51_method_1_code
def yJ0_init : MethodName := ⟨RJ0, "<init>", "()V"⟩
theorem q85 : (Jvm.Cond.initialized "java/util/AbstractCollection") ∈ lw_all := lw_g (lw_at lw_m1 3 rfl) rfl
theorem q164 : (Jvm.Cond.instanceMethod ({ cls := "java/util/AbstractCollection", name := "<init>", desc := "()V" } : Jvm.MethodName)) ∈ lw_all := lw_g (lw_at lw_m1 82 rfl) rfl
theorem q165 : (Jvm.Cond.code ({ cls := "java/util/AbstractCollection", name := "<init>", desc := "()V" } : Jvm.MethodName) prog_51_method_1_code (1 : Nat) (Option.none : Option Jvm.ClassFile.FieldType)) ∈ lw_all := lw_g (lw_at lw_m1 83 rfl) rfl
theorem q166 : (Jvm.Cond.methodLink "java/util/AbstractCollection" (1 : Nat) ({ cls := "java/lang/Object", name := "<init>", desc := "()V" } : Jvm.MethodName)) ∈ lw_all := lw_g (lw_at lw_m1 84 rfl) rfl

/-! java/util/AbstractList -/
set_option maxRecDepth 100000
def RJ1 : String := "java/util/AbstractList"
abbrev cJ1_init : ByteArray := prog_52_method_1_code
def yJ1_init : MethodName := ⟨RJ1, "<init>", "()V"⟩
theorem q86 : (Jvm.Cond.initialized "java/util/AbstractList") ∈ lw_all := lw_g (lw_at lw_m1 4 rfl) rfl
theorem q161 : (Jvm.Cond.instanceMethod ({ cls := "java/util/AbstractList", name := "<init>", desc := "()V" } : Jvm.MethodName)) ∈ lw_all := lw_g (lw_at lw_m1 79 rfl) rfl
theorem q162 : (Jvm.Cond.code ({ cls := "java/util/AbstractList", name := "<init>", desc := "()V" } : Jvm.MethodName) prog_52_method_1_code (1 : Nat) (Option.none : Option Jvm.ClassFile.FieldType)) ∈ lw_all := lw_g (lw_at lw_m1 80 rfl) rfl
theorem q163 : (Jvm.Cond.methodLink "java/util/AbstractList" (1 : Nat) ({ cls := "java/util/AbstractCollection", name := "<init>", desc := "()V" } : Jvm.MethodName)) ∈ lw_all := lw_g (lw_at lw_m1 81 rfl) rfl
theorem q173 : (Jvm.Cond.fieldLink "java/util/AbstractList" (7 : Nat) "java/util/AbstractList" "modCount" "I") ∈ lw_all := lw_g (lw_at lw_m1 91 rfl) rfl
theorem q182 : (Jvm.Cond.soleField "java/util/AbstractList" "modCount") ∈ lw_all := lw_g (lw_at lw_m1 100 rfl) rfl

/-! java/util/AbstractMap -/
set_option maxRecDepth 100000
def RJ3 : String := "java/util/AbstractMap"
abbrev cJ3_init : ByteArray := prog_53_method_1_code
def yJ3_init : MethodName := ⟨RJ3, "<init>", "()V"⟩
theorem q88 : (Jvm.Cond.initialized "java/util/AbstractMap") ∈ lw_all := lw_g (lw_at lw_m1 6 rfl) rfl
theorem q190 : (Jvm.Cond.instanceMethod ({ cls := "java/util/AbstractMap", name := "<init>", desc := "()V" } : Jvm.MethodName)) ∈ lw_all := lw_g (lw_at lw_m1 108 rfl) rfl
theorem q191 : (Jvm.Cond.code ({ cls := "java/util/AbstractMap", name := "<init>", desc := "()V" } : Jvm.MethodName) prog_53_method_1_code (1 : Nat) (Option.none : Option Jvm.ClassFile.FieldType)) ∈ lw_all := lw_g (lw_at lw_m1 109 rfl) rfl
theorem q192 : (Jvm.Cond.methodLink "java/util/AbstractMap" (1 : Nat) ({ cls := "java/lang/Object", name := "<init>", desc := "()V" } : Jvm.MethodName)) ∈ lw_all := lw_g (lw_at lw_m1 110 rfl) rfl
theorem q212 : (Jvm.Cond.soleField "java/util/AbstractMap" "keySet") ∈ lw_all := lw_g (lw_at lw_m1 130 rfl) rfl
theorem q214 : (Jvm.Cond.soleField "java/util/AbstractMap" "values") ∈ lw_all := lw_g (lw_at lw_m1 132 rfl) rfl

/-! java/lang/AbstractStringBuilder -/
set_option maxRecDepth 100000
def RJ6 : String := "java/lang/AbstractStringBuilder"
abbrev cJ6_init : ByteArray := prog_23_method_2_code
def yJ6_init : MethodName := ⟨RJ6, "<init>", "(I)V"⟩
abbrev cJ6_getValue : ByteArray := prog_23_method_64_code
def yJ6_getValue : MethodName := ⟨RJ6, "getValue", "()[B"⟩
abbrev cJ6_length : ByteArray := prog_23_method_6_code
def yJ6_length : MethodName := ⟨RJ6, "length", "()I"⟩
abbrev cJ6_isLatin1 : ByteArray := prog_23_method_68_code
def yJ6_isLatin1 : MethodName := ⟨RJ6, "isLatin1", "()Z"⟩
abbrev cJ6_append : ByteArray := prog_23_method_32_code
def yJ6_append : MethodName := ⟨RJ6, "append", "(I)Ljava/lang/AbstractStringBuilder;"⟩
abbrev cJ6_ensureCapacityInternal : ByteArray := prog_23_method_9_code
def yJ6_ensureCapacityInternal : MethodName := ⟨RJ6, "ensureCapacityInternal", "(I)V"⟩
abbrev cJ6_newCapacity : ByteArray := prog_23_method_10_code
def yJ6_newCapacity : MethodName := ⟨RJ6, "newCapacity", "(I)I"⟩
abbrev cJ6_append_2 : ByteArray := prog_23_method_22_code
def yJ6_append_2 : MethodName := ⟨RJ6, "append", "(Ljava/lang/String;)Ljava/lang/AbstractStringBuilder;"⟩
abbrev cJ6_appendNull : ByteArray := prog_23_method_26_code
def yJ6_appendNull : MethodName := ⟨RJ6, "appendNull", "()Ljava/lang/AbstractStringBuilder;"⟩
abbrev cJ6_putStringAt : ByteArray := prog_23_method_73_code
def yJ6_putStringAt : MethodName := ⟨RJ6, "putStringAt", "(ILjava/lang/String;)V"⟩
abbrev cJ6_inflateIfNeededFor : ByteArray := prog_23_method_71_code
def yJ6_inflateIfNeededFor : MethodName := ⟨RJ6, "inflateIfNeededFor", "(Ljava/lang/String;)V"⟩
abbrev cJ6_inflate : ByteArray := prog_23_method_11_code
def yJ6_inflate : MethodName := ⟨RJ6, "inflate", "()V"⟩
abbrev cJ6_compareTo : ByteArray := prog_23_method_5_code
def yJ6_compareTo : MethodName := ⟨RJ6, "compareTo", "(Ljava/lang/AbstractStringBuilder;)I"⟩
abbrev cJ6_append_3 : ByteArray := prog_23_method_31_code
def yJ6_append_3 : MethodName := ⟨RJ6, "append", "(C)Ljava/lang/AbstractStringBuilder;"⟩
abbrev cJ6_charAt : ByteArray := prog_23_method_14_code
def yJ6_charAt : MethodName := ⟨RJ6, "charAt", "(I)C"⟩
abbrev cJ6_subSequence : ByteArray := prog_23_method_41_code
def yJ6_subSequence : MethodName := ⟨RJ6, "subSequence", "(II)Ljava/lang/CharSequence;"⟩
abbrev cJ6_substring : ByteArray := prog_23_method_42_code
def yJ6_substring : MethodName := ⟨RJ6, "substring", "(II)Ljava/lang/String;"⟩
theorem q91 : (Jvm.Cond.initialized "java/lang/AbstractStringBuilder") ∈ lw_all := lw_g (lw_at lw_m1 9 rfl) rfl
theorem q277 : (Jvm.Cond.instanceMethod ({ cls := "java/lang/AbstractStringBuilder", name := "<init>", desc := "(I)V" } : Jvm.MethodName)) ∈ lw_all := lw_g (lw_at lw_m1 195 rfl) rfl
theorem q278 : (Jvm.Cond.code ({ cls := "java/lang/AbstractStringBuilder", name := "<init>", desc := "(I)V" } : Jvm.MethodName) prog_23_method_2_code (2 : Nat) (Option.none : Option Jvm.ClassFile.FieldType)) ∈ lw_all := lw_g (lw_at lw_m1 196 rfl) rfl
theorem q279 : (Jvm.Cond.methodLink "java/lang/AbstractStringBuilder" (3 : Nat) ({ cls := "java/lang/Object", name := "<init>", desc := "()V" } : Jvm.MethodName)) ∈ lw_all := lw_g (lw_at lw_m1 197 rfl) rfl
theorem q280 : (Jvm.Cond.fieldLink "java/lang/AbstractStringBuilder" (18 : Nat) "java/lang/String" "COMPACT_STRINGS" "Z") ∈ lw_all := lw_g (lw_at lw_m1 198 rfl) rfl
theorem q282 : (Jvm.Cond.methodLink "java/lang/AbstractStringBuilder" (26 : Nat) ({ cls := "java/lang/StringUTF16", name := "newBytesFor", desc := "(I)[B" } : Jvm.MethodName)) ∈ lw_all := lw_g (lw_at lw_m1 200 rfl) rfl
theorem q289 : (Jvm.Cond.fieldLink "java/lang/AbstractStringBuilder" (15 : Nat) "java/lang/AbstractStringBuilder" "value" "[B") ∈ lw_all := lw_g (lw_at lw_m1 207 rfl) rfl
theorem q290 : (Jvm.Cond.fieldLink "java/lang/AbstractStringBuilder" (22 : Nat) "java/lang/AbstractStringBuilder" "coder" "B") ∈ lw_all := lw_g (lw_at lw_m1 208 rfl) rfl
theorem q292 : (Jvm.Cond.fieldLink "java/lang/AbstractStringBuilder" (79 : Nat) "java/lang/AbstractStringBuilder" "count" "I") ∈ lw_all := lw_g (lw_at lw_m1 210 rfl) rfl
theorem q294 : (Jvm.Cond.soleField "java/lang/AbstractStringBuilder" "value") ∈ lw_all := lw_g (lw_at lw_m1 212 rfl) rfl
theorem q296 : (Jvm.Cond.soleField "java/lang/AbstractStringBuilder" "coder") ∈ lw_all := lw_g (lw_at lw_m1 214 rfl) rfl
theorem q298 : (Jvm.Cond.soleField "java/lang/AbstractStringBuilder" "maybeLatin1") ∈ lw_all := lw_g (lw_at lw_m1 216 rfl) rfl
theorem q300 : (Jvm.Cond.soleField "java/lang/AbstractStringBuilder" "count") ∈ lw_all := lw_g (lw_at lw_m1 218 rfl) rfl
theorem q360 : (Jvm.Cond.instanceMethod ({ cls := "java/lang/AbstractStringBuilder", name := "getValue", desc := "()[B" } : Jvm.MethodName)) ∈ lw_all := lw_g (lw_at lw_m2 38 rfl) rfl
theorem q361 : (Jvm.Cond.sameMethod "java/lang/AbstractStringBuilder" "java/lang/AbstractStringBuilder" "getValue" "()[B") ∈ lw_all := lw_g (lw_at lw_m2 39 rfl) rfl
theorem q363 : (Jvm.Cond.code ({ cls := "java/lang/AbstractStringBuilder", name := "getValue", desc := "()[B" } : Jvm.MethodName) prog_23_method_64_code (1 : Nat) (Option.some (Jvm.ClassFile.FieldType.array Jvm.ClassFile.FieldType.byte))) ∈ lw_all := lw_g (lw_at lw_m2 41 rfl) rfl
theorem q365 : (Jvm.Cond.instanceMethod ({ cls := "java/lang/AbstractStringBuilder", name := "length", desc := "()I" } : Jvm.MethodName)) ∈ lw_all := lw_g (lw_at lw_m2 43 rfl) rfl
theorem q366 : (Jvm.Cond.sameMethod "java/lang/AbstractStringBuilder" "java/lang/AbstractStringBuilder" "length" "()I") ∈ lw_all := lw_g (lw_at lw_m2 44 rfl) rfl
theorem q371 : (Jvm.Cond.code ({ cls := "java/lang/AbstractStringBuilder", name := "length", desc := "()I" } : Jvm.MethodName) prog_23_method_6_code (1 : Nat) (Option.some Jvm.ClassFile.FieldType.int)) ∈ lw_all := lw_g (lw_at lw_m2 49 rfl) rfl
theorem q373 : (Jvm.Cond.instanceMethod ({ cls := "java/lang/AbstractStringBuilder", name := "isLatin1", desc := "()Z" } : Jvm.MethodName)) ∈ lw_all := lw_g (lw_at lw_m2 51 rfl) rfl
theorem q374 : (Jvm.Cond.sameMethod "java/lang/AbstractStringBuilder" "java/lang/AbstractStringBuilder" "isLatin1" "()Z") ∈ lw_all := lw_g (lw_at lw_m2 52 rfl) rfl
theorem q376 : (Jvm.Cond.code ({ cls := "java/lang/AbstractStringBuilder", name := "isLatin1", desc := "()Z" } : Jvm.MethodName) prog_23_method_68_code (1 : Nat) (Option.some Jvm.ClassFile.FieldType.boolean)) ∈ lw_all := lw_g (lw_at lw_m2 54 rfl) rfl
theorem q442 : (Jvm.Cond.instanceMethod ({ cls := "java/lang/AbstractStringBuilder", name := "append", desc := "(I)Ljava/lang/AbstractStringBuilder;" } : Jvm.MethodName)) ∈ lw_all := lw_g (lw_at lw_m2 120 rfl) rfl
theorem q443 : (Jvm.Cond.code ({ cls := "java/lang/AbstractStringBuilder", name := "append", desc := "(I)Ljava/lang/AbstractStringBuilder;" } : Jvm.MethodName) prog_23_method_32_code (4 : Nat) (Option.some (Jvm.ClassFile.FieldType.object "java/lang/AbstractStringBuilder"))) ∈ lw_all := lw_g (lw_at lw_m2 121 rfl) rfl
theorem q444 : (Jvm.Cond.methodLink "java/lang/AbstractStringBuilder" (245 : Nat) ({ cls := "java/lang/Integer", name := "stringSize", desc := "(I)I" } : Jvm.MethodName)) ∈ lw_all := lw_g (lw_at lw_m2 122 rfl) rfl
theorem q447 : (Jvm.Cond.methodLink "java/lang/AbstractStringBuilder" (100 : Nat) ({ cls := "java/lang/AbstractStringBuilder", name := "ensureCapacityInternal", desc := "(I)V" } : Jvm.MethodName)) ∈ lw_all := lw_g (lw_at lw_m2 125 rfl) rfl
theorem q448 : (Jvm.Cond.privateMethod ({ cls := "java/lang/AbstractStringBuilder", name := "ensureCapacityInternal", desc := "(I)V" } : Jvm.MethodName)) ∈ lw_tbl := lw_at lw_m2 126 rfl
theorem q449 : (Jvm.Cond.instanceMethod ({ cls := "java/lang/AbstractStringBuilder", name := "ensureCapacityInternal", desc := "(I)V" } : Jvm.MethodName)) ∈ lw_all := lw_g (lw_at lw_m2 127 rfl) rfl
theorem q450 : (Jvm.Cond.code ({ cls := "java/lang/AbstractStringBuilder", name := "ensureCapacityInternal", desc := "(I)V" } : Jvm.MethodName) prog_23_method_9_code (3 : Nat) (Option.none : Option Jvm.ClassFile.FieldType)) ∈ lw_all := lw_g (lw_at lw_m2 128 rfl) rfl
theorem q451 : (Jvm.Cond.methodLink "java/lang/AbstractStringBuilder" (104 : Nat) ({ cls := "java/lang/AbstractStringBuilder", name := "newCapacity", desc := "(I)I" } : Jvm.MethodName)) ∈ lw_all := lw_g (lw_at lw_m2 129 rfl) rfl
theorem q452 : (Jvm.Cond.privateMethod ({ cls := "java/lang/AbstractStringBuilder", name := "newCapacity", desc := "(I)I" } : Jvm.MethodName)) ∈ lw_tbl := lw_at lw_m2 130 rfl
theorem q453 : (Jvm.Cond.instanceMethod ({ cls := "java/lang/AbstractStringBuilder", name := "newCapacity", desc := "(I)I" } : Jvm.MethodName)) ∈ lw_all := lw_g (lw_at lw_m2 131 rfl) rfl
theorem q454 : (Jvm.Cond.code ({ cls := "java/lang/AbstractStringBuilder", name := "newCapacity", desc := "(I)I" } : Jvm.MethodName) prog_23_method_10_code (6 : Nat) (Option.some Jvm.ClassFile.FieldType.int)) ∈ lw_all := lw_g (lw_at lw_m2 132 rfl) rfl
theorem q455 : (Jvm.Cond.methodLink "java/lang/AbstractStringBuilder" (114 : Nat) ({ cls := "jdk/internal/util/ArraysSupport", name := "newLength", desc := "(III)I" } : Jvm.MethodName)) ∈ lw_all := lw_g (lw_at lw_m2 133 rfl) rfl
theorem q465 : (Jvm.Cond.constant "java/lang/AbstractStringBuilder" (39 : Nat) (2147483647 : Int32)) ∈ lw_all := lw_g (lw_at lw_m2 143 rfl) rfl
theorem q466 : (Jvm.Cond.methodLink "java/lang/AbstractStringBuilder" (108 : Nat) ({ cls := "java/util/Arrays", name := "copyOf", desc := "([BI)[B" } : Jvm.MethodName)) ∈ lw_all := lw_g (lw_at lw_m2 144 rfl) rfl
theorem q482 : (Jvm.Cond.methodLink "java/lang/AbstractStringBuilder" (83 : Nat) ({ cls := "java/lang/AbstractStringBuilder", name := "isLatin1", desc := "()Z" } : Jvm.MethodName)) ∈ lw_all := lw_g (lw_at lw_m2 160 rfl) rfl
theorem q483 : (Jvm.Cond.methodLink "java/lang/AbstractStringBuilder" (248 : Nat) ({ cls := "java/lang/Integer", name := "getChars", desc := "(II[B)I" } : Jvm.MethodName)) ∈ lw_all := lw_g (lw_at lw_m2 161 rfl) rfl
theorem q490 : (Jvm.Cond.methodLink "java/lang/AbstractStringBuilder" (251 : Nat) ({ cls := "java/lang/StringUTF16", name := "getChars", desc := "(III[B)I" } : Jvm.MethodName)) ∈ lw_all := lw_g (lw_at lw_m2 168 rfl) rfl
theorem q527 : (Jvm.Cond.instanceMethod ({ cls := "java/lang/AbstractStringBuilder", name := "append", desc := "(Ljava/lang/String;)Ljava/lang/AbstractStringBuilder;" } : Jvm.MethodName)) ∈ lw_all := lw_g (lw_at lw_m2 205 rfl) rfl
theorem q528 : (Jvm.Cond.code ({ cls := "java/lang/AbstractStringBuilder", name := "append", desc := "(Ljava/lang/String;)Ljava/lang/AbstractStringBuilder;" } : Jvm.MethodName) prog_23_method_22_code (3 : Nat) (Option.some (Jvm.ClassFile.FieldType.object "java/lang/AbstractStringBuilder"))) ∈ lw_all := lw_g (lw_at lw_m2 206 rfl) rfl
theorem q529 : (Jvm.Cond.methodLink "java/lang/AbstractStringBuilder" (204 : Nat) ({ cls := "java/lang/AbstractStringBuilder", name := "appendNull", desc := "()Ljava/lang/AbstractStringBuilder;" } : Jvm.MethodName)) ∈ lw_all := lw_g (lw_at lw_m2 207 rfl) rfl
theorem q530 : (Jvm.Cond.privateMethod ({ cls := "java/lang/AbstractStringBuilder", name := "appendNull", desc := "()Ljava/lang/AbstractStringBuilder;" } : Jvm.MethodName)) ∈ lw_tbl := lw_at lw_m2 208 rfl
theorem q531 : (Jvm.Cond.instanceMethod ({ cls := "java/lang/AbstractStringBuilder", name := "appendNull", desc := "()Ljava/lang/AbstractStringBuilder;" } : Jvm.MethodName)) ∈ lw_all := lw_g (lw_at lw_m2 209 rfl) rfl
theorem q532 : (Jvm.Cond.code ({ cls := "java/lang/AbstractStringBuilder", name := "appendNull", desc := "()Ljava/lang/AbstractStringBuilder;" } : Jvm.MethodName) prog_23_method_26_code (3 : Nat) (Option.some (Jvm.ClassFile.FieldType.object "java/lang/AbstractStringBuilder"))) ∈ lw_all := lw_g (lw_at lw_m2 210 rfl) rfl
theorem q533 : (Jvm.Cond.methodLink "java/lang/AbstractStringBuilder" (226 : Nat) ({ cls := "java/lang/StringUTF16", name := "putCharsAt", desc := "([BICCCC)I" } : Jvm.MethodName)) ∈ lw_all := lw_g (lw_at lw_m2 211 rfl) rfl
theorem q536 : (Jvm.Cond.methodLink "java/lang/AbstractStringBuilder" (32 : Nat) ({ cls := "java/lang/String", name := "length", desc := "()I" } : Jvm.MethodName)) ∈ lw_all := lw_g (lw_at lw_m2 214 rfl) rfl
theorem q545 : (Jvm.Cond.methodLink "java/lang/AbstractStringBuilder" (208 : Nat) ({ cls := "java/lang/AbstractStringBuilder", name := "putStringAt", desc := "(ILjava/lang/String;)V" } : Jvm.MethodName)) ∈ lw_all := lw_g (lw_at lw_m2 223 rfl) rfl
theorem q546 : (Jvm.Cond.privateMethod ({ cls := "java/lang/AbstractStringBuilder", name := "putStringAt", desc := "(ILjava/lang/String;)V" } : Jvm.MethodName)) ∈ lw_tbl := lw_at lw_m2 224 rfl
theorem q547 : (Jvm.Cond.instanceMethod ({ cls := "java/lang/AbstractStringBuilder", name := "putStringAt", desc := "(ILjava/lang/String;)V" } : Jvm.MethodName)) ∈ lw_all := lw_g (lw_at lw_m2 225 rfl) rfl
theorem q548 : (Jvm.Cond.code ({ cls := "java/lang/AbstractStringBuilder", name := "putStringAt", desc := "(ILjava/lang/String;)V" } : Jvm.MethodName) prog_23_method_73_code (3 : Nat) (Option.none : Option Jvm.ClassFile.FieldType)) ∈ lw_all := lw_g (lw_at lw_m2 226 rfl) rfl
theorem q549 : (Jvm.Cond.methodLink "java/lang/AbstractStringBuilder" (397 : Nat) ({ cls := "java/lang/AbstractStringBuilder", name := "inflateIfNeededFor", desc := "(Ljava/lang/String;)V" } : Jvm.MethodName)) ∈ lw_all := lw_g (lw_at lw_m2 227 rfl) rfl
theorem q550 : (Jvm.Cond.privateMethod ({ cls := "java/lang/AbstractStringBuilder", name := "inflateIfNeededFor", desc := "(Ljava/lang/String;)V" } : Jvm.MethodName)) ∈ lw_tbl := lw_at lw_m2 228 rfl
theorem q551 : (Jvm.Cond.instanceMethod ({ cls := "java/lang/AbstractStringBuilder", name := "inflateIfNeededFor", desc := "(Ljava/lang/String;)V" } : Jvm.MethodName)) ∈ lw_all := lw_g (lw_at lw_m2 229 rfl) rfl
theorem q552 : (Jvm.Cond.code ({ cls := "java/lang/AbstractStringBuilder", name := "inflateIfNeededFor", desc := "(Ljava/lang/String;)V" } : Jvm.MethodName) prog_23_method_71_code (2 : Nat) (Option.none : Option Jvm.ClassFile.FieldType)) ∈ lw_all := lw_g (lw_at lw_m2 230 rfl) rfl
theorem q553 : (Jvm.Cond.methodLink "java/lang/AbstractStringBuilder" (40 : Nat) ({ cls := "java/lang/String", name := "coder", desc := "()B" } : Jvm.MethodName)) ∈ lw_all := lw_g (lw_at lw_m2 231 rfl) rfl
theorem q554 : (Jvm.Cond.methodLink "java/lang/AbstractStringBuilder" (195 : Nat) ({ cls := "java/lang/AbstractStringBuilder", name := "inflate", desc := "()V" } : Jvm.MethodName)) ∈ lw_all := lw_g (lw_at lw_m2 232 rfl) rfl
theorem q555 : (Jvm.Cond.privateMethod ({ cls := "java/lang/AbstractStringBuilder", name := "inflate", desc := "()V" } : Jvm.MethodName)) ∈ lw_tbl := lw_at lw_m2 233 rfl
theorem q556 : (Jvm.Cond.instanceMethod ({ cls := "java/lang/AbstractStringBuilder", name := "inflate", desc := "()V" } : Jvm.MethodName)) ∈ lw_all := lw_g (lw_at lw_m2 234 rfl) rfl
theorem q557 : (Jvm.Cond.code ({ cls := "java/lang/AbstractStringBuilder", name := "inflate", desc := "()V" } : Jvm.MethodName) prog_23_method_11_code (2 : Nat) (Option.none : Option Jvm.ClassFile.FieldType)) ∈ lw_all := lw_g (lw_at lw_m2 235 rfl) rfl
theorem q558 : (Jvm.Cond.methodLink "java/lang/AbstractStringBuilder" (125 : Nat) ({ cls := "java/lang/StringLatin1", name := "inflate", desc := "([BI[BII)V" } : Jvm.MethodName)) ∈ lw_all := lw_g (lw_at lw_m2 236 rfl) rfl
theorem q573 : (Jvm.Cond.methodLink "java/lang/AbstractStringBuilder" (399 : Nat) ({ cls := "java/lang/String", name := "getBytes", desc := "([BIB)V" } : Jvm.MethodName)) ∈ lw_all := lw_g (lw_at lw_m3 11 rfl) rfl
theorem q1032 : (Jvm.Cond.instanceMethod ({ cls := "java/lang/AbstractStringBuilder", name := "compareTo", desc := "(Ljava/lang/AbstractStringBuilder;)I" } : Jvm.MethodName)) ∈ lw_all := lw_g (lw_at lw_m4 230 rfl) rfl
theorem q1033 : (Jvm.Cond.code ({ cls := "java/lang/AbstractStringBuilder", name := "compareTo", desc := "(Ljava/lang/AbstractStringBuilder;)I" } : Jvm.MethodName) prog_23_method_5_code (6 : Nat) (Option.some Jvm.ClassFile.FieldType.int)) ∈ lw_all := lw_g (lw_at lw_m4 231 rfl) rfl
theorem q1034 : (Jvm.Cond.methodLink "java/lang/AbstractStringBuilder" (87 : Nat) ({ cls := "java/lang/StringLatin1", name := "compareTo", desc := "([B[BII)I" } : Jvm.MethodName)) ∈ lw_all := lw_g (lw_at lw_m4 232 rfl) rfl
theorem q1035 : (Jvm.Cond.methodLink "java/lang/AbstractStringBuilder" (93 : Nat) ({ cls := "java/lang/StringUTF16", name := "compareTo", desc := "([B[BII)I" } : Jvm.MethodName)) ∈ lw_all := lw_g (lw_at lw_m4 233 rfl) rfl
theorem q1044 : (Jvm.Cond.methodLink "java/lang/AbstractStringBuilder" (94 : Nat) ({ cls := "java/lang/StringLatin1", name := "compareToUTF16", desc := "([B[BII)I" } : Jvm.MethodName)) ∈ lw_all := lw_g (lw_at lw_m5 2 rfl) rfl
theorem q1048 : (Jvm.Cond.methodLink "java/lang/AbstractStringBuilder" (97 : Nat) ({ cls := "java/lang/StringUTF16", name := "compareToLatin1", desc := "([B[BII)I" } : Jvm.MethodName)) ∈ lw_all := lw_g (lw_at lw_m5 6 rfl) rfl
theorem q2465 : (Jvm.Cond.instanceMethod ({ cls := "java/lang/AbstractStringBuilder", name := "append", desc := "(C)Ljava/lang/AbstractStringBuilder;" } : Jvm.MethodName)) ∈ lw_all := lw_g (lw_at lw_m10 223 rfl) rfl
theorem q2466 : (Jvm.Cond.code ({ cls := "java/lang/AbstractStringBuilder", name := "append", desc := "(C)Ljava/lang/AbstractStringBuilder;" } : Jvm.MethodName) prog_23_method_31_code (2 : Nat) (Option.some (Jvm.ClassFile.FieldType.object "java/lang/AbstractStringBuilder"))) ∈ lw_all := lw_g (lw_at lw_m10 224 rfl) rfl
theorem q2467 : (Jvm.Cond.methodLink "java/lang/AbstractStringBuilder" (191 : Nat) ({ cls := "java/lang/StringLatin1", name := "canEncode", desc := "(C)Z" } : Jvm.MethodName)) ∈ lw_all := lw_g (lw_at lw_m10 225 rfl) rfl
theorem q2470 : (Jvm.Cond.methodLink "java/lang/AbstractStringBuilder" (197 : Nat) ({ cls := "java/lang/StringUTF16", name := "putCharSB", desc := "([BII)V" } : Jvm.MethodName)) ∈ lw_all := lw_g (lw_at lw_m10 228 rfl) rfl
theorem q2534 : (Jvm.Cond.instanceMethod ({ cls := "java/lang/AbstractStringBuilder", name := "charAt", desc := "(I)C" } : Jvm.MethodName)) ∈ lw_all := lw_g (lw_at lw_m11 52 rfl) rfl
theorem q2535 : (Jvm.Cond.code ({ cls := "java/lang/AbstractStringBuilder", name := "charAt", desc := "(I)C" } : Jvm.MethodName) prog_23_method_14_code (5 : Nat) (Option.some Jvm.ClassFile.FieldType.char)) ∈ lw_all := lw_g (lw_at lw_m11 53 rfl) rfl
theorem q2536 : (Jvm.Cond.methodLink "java/lang/AbstractStringBuilder" (138 : Nat) ({ cls := "java/lang/Math", name := "min", desc := "(II)I" } : Jvm.MethodName)) ∈ lw_all := lw_g (lw_at lw_m11 54 rfl) rfl
theorem q2537 : (Jvm.Cond.methodLink "java/lang/AbstractStringBuilder" (144 : Nat) ({ cls := "java/lang/String", name := "checkIndex", desc := "(II)V" } : Jvm.MethodName)) ∈ lw_all := lw_g (lw_at lw_m11 55 rfl) rfl
theorem q2538 : (Jvm.Cond.methodLink "java/lang/AbstractStringBuilder" (148 : Nat) ({ cls := "java/lang/StringUTF16", name := "getChar", desc := "([BI)C" } : Jvm.MethodName)) ∈ lw_all := lw_g (lw_at lw_m11 56 rfl) rfl
theorem q2606 : (Jvm.Cond.instanceMethod ({ cls := "java/lang/AbstractStringBuilder", name := "subSequence", desc := "(II)Ljava/lang/CharSequence;" } : Jvm.MethodName)) ∈ lw_all := lw_g (lw_at lw_m11 124 rfl) rfl
theorem q2607 : (Jvm.Cond.code ({ cls := "java/lang/AbstractStringBuilder", name := "subSequence", desc := "(II)Ljava/lang/CharSequence;" } : Jvm.MethodName) prog_23_method_41_code (3 : Nat) (Option.some (Jvm.ClassFile.FieldType.object "java/lang/CharSequence"))) ∈ lw_all := lw_g (lw_at lw_m11 125 rfl) rfl
theorem q2608 : (Jvm.Cond.methodLink "java/lang/AbstractStringBuilder" (300 : Nat) ({ cls := "java/lang/AbstractStringBuilder", name := "substring", desc := "(II)Ljava/lang/String;" } : Jvm.MethodName)) ∈ lw_all := lw_g (lw_at lw_m11 126 rfl) rfl
theorem q2609 : (Jvm.Cond.instanceMethod ({ cls := "java/lang/AbstractStringBuilder", name := "substring", desc := "(II)Ljava/lang/String;" } : Jvm.MethodName)) ∈ lw_all := lw_g (lw_at lw_m11 127 rfl) rfl
theorem q2610 : (Jvm.Cond.sameMethod "java/lang/AbstractStringBuilder" "java/lang/AbstractStringBuilder" "substring" "(II)Ljava/lang/String;") ∈ lw_all := lw_g (lw_at lw_m11 128 rfl) rfl
theorem q2615 : (Jvm.Cond.code ({ cls := "java/lang/AbstractStringBuilder", name := "substring", desc := "(II)Ljava/lang/String;" } : Jvm.MethodName) prog_23_method_42_code (3 : Nat) (Option.some (Jvm.ClassFile.FieldType.object "java/lang/String"))) ∈ lw_all := lw_g (lw_at lw_m11 133 rfl) rfl
theorem q2616 : (Jvm.Cond.fieldLink "java/lang/AbstractStringBuilder" (179 : Nat) "jdk/internal/util/Preconditions" "SIOOBE_FORMATTER" "Ljava/util/function/BiFunction;") ∈ lw_all := lw_g (lw_at lw_m11 134 rfl) rfl
theorem q2617 : (Jvm.Cond.methodLink "java/lang/AbstractStringBuilder" (161 : Nat) ({ cls := "jdk/internal/util/Preconditions", name := "checkFromToIndex", desc := "(IIILjava/util/function/BiFunction;)I" } : Jvm.MethodName)) ∈ lw_all := lw_g (lw_at lw_m11 135 rfl) rfl
theorem q2618 : (Jvm.Cond.methodLink "java/lang/AbstractStringBuilder" (304 : Nat) ({ cls := "java/lang/StringLatin1", name := "newString", desc := "([BII)Ljava/lang/String;" } : Jvm.MethodName)) ∈ lw_all := lw_g (lw_at lw_m11 136 rfl) rfl
theorem q2619 : (Jvm.Cond.methodLink "java/lang/AbstractStringBuilder" (308 : Nat) ({ cls := "java/lang/StringUTF16", name := "newString", desc := "([BII)Ljava/lang/String;" } : Jvm.MethodName)) ∈ lw_all := lw_g (lw_at lw_m11 137 rfl) rfl
theorem q3213 : (Jvm.Cond.sameMethod "java/lang/AbstractStringBuilder" "java/lang/AbstractStringBuilder" "append" "(I)Ljava/lang/AbstractStringBuilder;") ∈ lw_all := lw_g (lw_at lw_m14 11 rfl) rfl
theorem q3214 : (Jvm.Cond.sameMethod "java/lang/AbstractStringBuilder" "java/lang/AbstractStringBuilder" "ensureCapacityInternal" "(I)V") ∈ lw_all := lw_g (lw_at lw_m14 12 rfl) rfl
theorem q3215 : (Jvm.Cond.sameMethod "java/lang/AbstractStringBuilder" "java/lang/AbstractStringBuilder" "newCapacity" "(I)I") ∈ lw_all := lw_g (lw_at lw_m14 13 rfl) rfl
theorem q3216 : (Jvm.Cond.sameMethod "java/lang/AbstractStringBuilder" "java/lang/AbstractStringBuilder" "append" "(Ljava/lang/String;)Ljava/lang/AbstractStringBuilder;") ∈ lw_all := lw_g (lw_at lw_m14 14 rfl) rfl
theorem q3217 : (Jvm.Cond.sameMethod "java/lang/AbstractStringBuilder" "java/lang/AbstractStringBuilder" "appendNull" "()Ljava/lang/AbstractStringBuilder;") ∈ lw_all := lw_g (lw_at lw_m14 15 rfl) rfl
theorem q3218 : (Jvm.Cond.sameMethod "java/lang/AbstractStringBuilder" "java/lang/AbstractStringBuilder" "putStringAt" "(ILjava/lang/String;)V") ∈ lw_all := lw_g (lw_at lw_m14 16 rfl) rfl
theorem q3219 : (Jvm.Cond.sameMethod "java/lang/AbstractStringBuilder" "java/lang/AbstractStringBuilder" "inflateIfNeededFor" "(Ljava/lang/String;)V") ∈ lw_all := lw_g (lw_at lw_m14 17 rfl) rfl
theorem q3220 : (Jvm.Cond.sameMethod "java/lang/AbstractStringBuilder" "java/lang/AbstractStringBuilder" "inflate" "()V") ∈ lw_all := lw_g (lw_at lw_m14 18 rfl) rfl
theorem q3221 : (Jvm.Cond.sameMethod "java/lang/AbstractStringBuilder" "java/lang/AbstractStringBuilder" "compareTo" "(Ljava/lang/AbstractStringBuilder;)I") ∈ lw_all := lw_g (lw_at lw_m14 19 rfl) rfl
theorem q3224 : (Jvm.Cond.sameMethod "java/lang/AbstractStringBuilder" "java/lang/AbstractStringBuilder" "append" "(C)Ljava/lang/AbstractStringBuilder;") ∈ lw_all := lw_g (lw_at lw_m14 22 rfl) rfl
theorem q3225 : (Jvm.Cond.sameMethod "java/lang/AbstractStringBuilder" "java/lang/AbstractStringBuilder" "charAt" "(I)C") ∈ lw_all := lw_g (lw_at lw_m14 23 rfl) rfl
theorem q3226 : (Jvm.Cond.sameMethod "java/lang/AbstractStringBuilder" "java/lang/AbstractStringBuilder" "subSequence" "(II)Ljava/lang/CharSequence;") ∈ lw_all := lw_g (lw_at lw_m14 24 rfl) rfl

/-! java/lang/Throwable -/
set_option maxRecDepth 100000
def RJ10 : String := "java/lang/Throwable"
def TJ10 : u_T := fun k => match k with
  | 0 => ("java/lang/Throwable", "cause", "Ljava/lang/Throwable;", false)
  | 1 => ("java/lang/Throwable", "stackTrace", "[Ljava/lang/StackTraceElement;", false)
  | 2 => ("java/lang/Throwable", "suppressedExceptions", "Ljava/util/List;", false)
  | 3 => ("java/lang/Throwable", "detailMessage", "Ljava/lang/String;", false)
  | _ => ("java/lang/Throwable", "backtrace", "Ljava/lang/Object;", false)
def tyJ10 : Nat → FieldType := fun k => match k with
  | 0 => .object "java/lang/Throwable"
  | 1 => .array (.object "java/lang/StackTraceElement")
  | 2 => .object "java/util/List"
  | 3 => .object "java/lang/String"
  | _ => .object "java/lang/Object"
abbrev wsJ100 : List Cond := u_ws RJ10 TJ10 5
theorem nmJ10 : ∀ a, a < 5 → ∀ b, b < 5 → a ≠ b → (TJ10 a).2.1 ≠ (TJ10 b).2.1 := by decide +kernel
theorem tyJ10_ok : ∀ k, k < 5 → parseFieldDescriptor (TJ10 k).2.2.1 = some (tyJ10 k) := by decide +kernel
abbrev cJ10_init : ByteArray := prog_47_method_1_code
def yJ10_init : MethodName := ⟨RJ10, "<init>", "()V"⟩
abbrev cJ10_init_2 : ByteArray := prog_47_method_2_code
def yJ10_init_2 : MethodName := ⟨RJ10, "<init>", "(Ljava/lang/String;)V"⟩
abbrev cJ10_init_3 : ByteArray := prog_47_method_5_code
def yJ10_init_3 : MethodName := ⟨RJ10, "<init>", "(Ljava/lang/String;Ljava/lang/Throwable;ZZ)V"⟩
theorem q96 : (Jvm.Cond.initialized "java/lang/Throwable") ∈ lw_all := lw_g (lw_at lw_m1 14 rfl) rfl
theorem q393 : (Jvm.Cond.declares ({ cls := "java/lang/Throwable", name := "<init>", desc := "()V" } : Jvm.MethodName)) ∈ lw_tbl := lw_at lw_m2 71 rfl
theorem q394 : (Jvm.Cond.declares ({ cls := "java/lang/Throwable", name := "<init>", desc := "(Ljava/lang/String;)V" } : Jvm.MethodName)) ∈ lw_tbl := lw_at lw_m2 72 rfl
theorem q398 : (Jvm.Cond.lays "java/lang/Throwable" "java/lang/Throwable" "cause" "Ljava/lang/Throwable;") ∈ lw_all := lw_g (lw_at lw_m2 76 rfl) rfl
theorem q400 : (Jvm.Cond.lays "java/lang/Throwable" "java/lang/Throwable" "stackTrace" "[Ljava/lang/StackTraceElement;") ∈ lw_all := lw_g (lw_at lw_m2 78 rfl) rfl
theorem q402 : (Jvm.Cond.lays "java/lang/Throwable" "java/lang/Throwable" "suppressedExceptions" "Ljava/util/List;") ∈ lw_all := lw_g (lw_at lw_m2 80 rfl) rfl
theorem q404 : (Jvm.Cond.lays "java/lang/Throwable" "java/lang/Throwable" "detailMessage" "Ljava/lang/String;") ∈ lw_all := lw_g (lw_at lw_m2 82 rfl) rfl
theorem q406 : (Jvm.Cond.lays "java/lang/Throwable" "java/lang/Throwable" "backtrace" "Ljava/lang/Object;") ∈ lw_all := lw_g (lw_at lw_m2 84 rfl) rfl
theorem q407 : (Jvm.Cond.fieldLink "java/lang/Throwable" (198 : Nat) "java/lang/Throwable" "backtrace" "Ljava/lang/Object;") ∈ lw_all := lw_g (lw_at lw_m2 85 rfl) rfl
theorem q408 : (Jvm.Cond.superclass "java/lang/Throwable" "java/lang/Object") ∈ lw_all := lw_g (lw_at lw_m2 86 rfl) rfl
theorem q409 : (Jvm.Cond.instanceMethod ({ cls := "java/lang/Throwable", name := "<init>", desc := "()V" } : Jvm.MethodName)) ∈ lw_all := lw_g (lw_at lw_m2 87 rfl) rfl
theorem q410 : (Jvm.Cond.code ({ cls := "java/lang/Throwable", name := "<init>", desc := "()V" } : Jvm.MethodName) prog_47_method_1_code (1 : Nat) (Option.none : Option Jvm.ClassFile.FieldType)) ∈ lw_all := lw_g (lw_at lw_m2 88 rfl) rfl
theorem q411 : (Jvm.Cond.methodLink "java/lang/Throwable" (1 : Nat) ({ cls := "java/lang/Object", name := "<init>", desc := "()V" } : Jvm.MethodName)) ∈ lw_all := lw_g (lw_at lw_m2 89 rfl) rfl
theorem q412 : (Jvm.Cond.fieldLink "java/lang/Throwable" (13 : Nat) "java/lang/Throwable" "UNASSIGNED_STACK" "[Ljava/lang/StackTraceElement;") ∈ lw_all := lw_g (lw_at lw_m2 90 rfl) rfl
theorem q413 : (Jvm.Cond.laysStatic "java/lang/Throwable" "UNASSIGNED_STACK" "[Ljava/lang/StackTraceElement;") ∈ lw_tbl := lw_at lw_m2 91 rfl
theorem q414 : (Jvm.Cond.fieldLink "java/lang/Throwable" (20 : Nat) "java/lang/Throwable" "SUPPRESSED_SENTINEL" "Ljava/util/List;") ∈ lw_all := lw_g (lw_at lw_m2 92 rfl) rfl
theorem q415 : (Jvm.Cond.laysStatic "java/lang/Throwable" "SUPPRESSED_SENTINEL" "Ljava/util/List;") ∈ lw_tbl := lw_at lw_m2 93 rfl
theorem q416 : (Jvm.Cond.methodLink "java/lang/Throwable" (27 : Nat) ({ cls := "java/lang/Throwable", name := "fillInStackTrace", desc := "()Ljava/lang/Throwable;" } : Jvm.MethodName)) ∈ lw_all := lw_g (lw_at lw_m2 94 rfl) rfl
theorem q417 : (Jvm.Cond.instanceMethod ({ cls := "java/lang/Throwable", name := "fillInStackTrace", desc := "()Ljava/lang/Throwable;" } : Jvm.MethodName)) ∈ lw_all := lw_g (lw_at lw_m2 95 rfl) rfl
theorem q418 : (Jvm.Cond.sameMethod "java/lang/Throwable" "java/lang/Throwable" "fillInStackTrace" "()Ljava/lang/Throwable;") ∈ lw_all := lw_g (lw_at lw_m2 96 rfl) rfl
theorem q429 : (Jvm.Cond.codeSync ({ cls := "java/lang/Throwable", name := "fillInStackTrace", desc := "()Ljava/lang/Throwable;" } : Jvm.MethodName) prog_47_method_18_code (1 : Nat) (Option.some (Jvm.ClassFile.FieldType.object "java/lang/Throwable"))) ∈ lw_all := lw_g (lw_at lw_m2 107 rfl) rfl
theorem q430 : (Jvm.Cond.methodLink "java/lang/Throwable" (202 : Nat) ({ cls := "java/lang/Throwable", name := "fillInStackTrace", desc := "(I)Ljava/lang/Throwable;" } : Jvm.MethodName)) ∈ lw_all := lw_g (lw_at lw_m2 108 rfl) rfl
theorem q431 : (Jvm.Cond.privateMethod ({ cls := "java/lang/Throwable", name := "fillInStackTrace", desc := "(I)Ljava/lang/Throwable;" } : Jvm.MethodName)) ∈ lw_tbl := lw_at lw_m2 109 rfl
theorem q432 : (Jvm.Cond.instanceMethod ({ cls := "java/lang/Throwable", name := "fillInStackTrace", desc := "(I)Ljava/lang/Throwable;" } : Jvm.MethodName)) ∈ lw_all := lw_g (lw_at lw_m2 110 rfl) rfl
theorem q433 : (Jvm.Cond.instantiable "java/lang/Throwable" (6 : Nat)) ∈ lw_all := lw_g (lw_at lw_m2 111 rfl) rfl
theorem q434 : (Jvm.Cond.native ({ cls := "java/lang/Throwable", name := "fillInStackTrace", desc := "(I)Ljava/lang/Throwable;" } : Jvm.MethodName)) ∈ lw_all := lw_g (lw_at lw_m2 112 rfl) rfl
theorem q590 : (Jvm.Cond.instanceMethod ({ cls := "java/lang/Throwable", name := "<init>", desc := "(Ljava/lang/String;)V" } : Jvm.MethodName)) ∈ lw_all := lw_g (lw_at lw_m3 28 rfl) rfl
theorem q591 : (Jvm.Cond.code ({ cls := "java/lang/Throwable", name := "<init>", desc := "(Ljava/lang/String;)V" } : Jvm.MethodName) prog_47_method_2_code (2 : Nat) (Option.none : Option Jvm.ClassFile.FieldType)) ∈ lw_all := lw_g (lw_at lw_m3 29 rfl) rfl
theorem q592 : (Jvm.Cond.fieldLink "java/lang/Throwable" (198 : Nat) "java/lang/Throwable" "backtrace" "Ljava/lang/Object;") ∈ lw_all := lw_g (lw_at lw_m3 30 rfl) rfl
theorem q593 : (Jvm.Cond.fieldLink "java/lang/Throwable" (31 : Nat) "java/lang/Throwable" "detailMessage" "Ljava/lang/String;") ∈ lw_all := lw_g (lw_at lw_m3 31 rfl) rfl
theorem q594 : (Jvm.Cond.fieldLink "java/lang/Throwable" (7 : Nat) "java/lang/Throwable" "cause" "Ljava/lang/Throwable;") ∈ lw_all := lw_g (lw_at lw_m3 32 rfl) rfl
theorem q595 : (Jvm.Cond.fieldLink "java/lang/Throwable" (17 : Nat) "java/lang/Throwable" "stackTrace" "[Ljava/lang/StackTraceElement;") ∈ lw_all := lw_g (lw_at lw_m3 33 rfl) rfl
theorem q596 : (Jvm.Cond.fieldLink "java/lang/Throwable" (24 : Nat) "java/lang/Throwable" "suppressedExceptions" "Ljava/util/List;") ∈ lw_all := lw_g (lw_at lw_m3 34 rfl) rfl
theorem q597 : (Jvm.Cond.soleField "java/lang/Throwable" "backtrace") ∈ lw_all := lw_g (lw_at lw_m3 35 rfl) rfl
theorem q598 : (Jvm.Cond.soleField "java/lang/Throwable" "detailMessage") ∈ lw_all := lw_g (lw_at lw_m3 36 rfl) rfl
theorem q599 : (Jvm.Cond.soleField "java/lang/Throwable" "cause") ∈ lw_all := lw_g (lw_at lw_m3 37 rfl) rfl
theorem q600 : (Jvm.Cond.soleField "java/lang/Throwable" "stackTrace") ∈ lw_all := lw_g (lw_at lw_m3 38 rfl) rfl
theorem q602 : (Jvm.Cond.soleField "java/lang/Throwable" "depth") ∈ lw_all := lw_g (lw_at lw_m3 40 rfl) rfl
theorem q603 : (Jvm.Cond.soleField "java/lang/Throwable" "suppressedExceptions") ∈ lw_all := lw_g (lw_at lw_m3 41 rfl) rfl
theorem q1890 : (Jvm.Cond.instanceMethod ({ cls := "java/lang/Throwable", name := "<init>", desc := "(Ljava/lang/String;Ljava/lang/Throwable;ZZ)V" } : Jvm.MethodName)) ∈ lw_all := lw_g (lw_at lw_m8 128 rfl) rfl
theorem q1891 : (Jvm.Cond.code ({ cls := "java/lang/Throwable", name := "<init>", desc := "(Ljava/lang/String;Ljava/lang/Throwable;ZZ)V" } : Jvm.MethodName) prog_47_method_5_code (5 : Nat) (Option.none : Option Jvm.ClassFile.FieldType)) ∈ lw_all := lw_g (lw_at lw_m8 129 rfl) rfl
theorem q2112 : (Jvm.Cond.instanceMethod ({ cls := "java/lang/Throwable", name := "getCause", desc := "()Ljava/lang/Throwable;" } : Jvm.MethodName)) ∈ lw_all := lw_g (lw_at lw_m9 110 rfl) rfl
theorem q2113 : (Jvm.Cond.sameMethod "java/lang/Throwable" "java/lang/Throwable" "getCause" "()Ljava/lang/Throwable;") ∈ lw_all := lw_g (lw_at lw_m9 111 rfl) rfl
theorem q2125 : (Jvm.Cond.codeSync ({ cls := "java/lang/Throwable", name := "getCause", desc := "()Ljava/lang/Throwable;" } : Jvm.MethodName) prog_47_method_8_code (1 : Nat) (Option.some (Jvm.ClassFile.FieldType.object "java/lang/Throwable"))) ∈ lw_all := lw_g (lw_at lw_m9 123 rfl) rfl
theorem q3212 : (Jvm.Cond.sameMethod "java/lang/Throwable" "java/lang/Throwable" "fillInStackTrace" "(I)Ljava/lang/Throwable;") ∈ lw_all := lw_g (lw_at lw_m14 10 rfl) rfl
theorem q3268 : (Jvm.Cond.castable "java/lang/Throwable" "java/lang/Object") ∈ lw_tbl := lw_at lw_m14 66 rfl
theorem in_J10 : ∀ w ∈ wsJ100, w ∈ lw_all := lw_in wsJ100 [398, 400, 402, 404, 406] (by decide +kernel) (by decide +kernel)

/-! java/lang/Exception -/
set_option maxRecDepth 100000
def RJ11 : String := "java/lang/Exception"
abbrev cJ11_init : ByteArray := prog_30_method_2_code
def yJ11_init : MethodName := ⟨RJ11, "<init>", "(Ljava/lang/String;)V"⟩
abbrev cJ11_init_2 : ByteArray := prog_30_method_1_code
def yJ11_init_2 : MethodName := ⟨RJ11, "<init>", "()V"⟩
abbrev cJ11_init_3 : ByteArray := prog_30_method_5_code
def yJ11_init_3 : MethodName := ⟨RJ11, "<init>", "(Ljava/lang/String;Ljava/lang/Throwable;ZZ)V"⟩
theorem q97 : (Jvm.Cond.initialized "java/lang/Exception") ∈ lw_all := lw_g (lw_at lw_m1 15 rfl) rfl
theorem q391 : (Jvm.Cond.declares ({ cls := "java/lang/Exception", name := "<init>", desc := "()V" } : Jvm.MethodName)) ∈ lw_tbl := lw_at lw_m2 69 rfl
theorem q392 : (Jvm.Cond.declares ({ cls := "java/lang/Exception", name := "<init>", desc := "(Ljava/lang/String;)V" } : Jvm.MethodName)) ∈ lw_tbl := lw_at lw_m2 70 rfl
theorem q587 : (Jvm.Cond.instanceMethod ({ cls := "java/lang/Exception", name := "<init>", desc := "(Ljava/lang/String;)V" } : Jvm.MethodName)) ∈ lw_all := lw_g (lw_at lw_m3 25 rfl) rfl
theorem q588 : (Jvm.Cond.code ({ cls := "java/lang/Exception", name := "<init>", desc := "(Ljava/lang/String;)V" } : Jvm.MethodName) prog_30_method_2_code (2 : Nat) (Option.none : Option Jvm.ClassFile.FieldType)) ∈ lw_all := lw_g (lw_at lw_m3 26 rfl) rfl
theorem q589 : (Jvm.Cond.methodLink "java/lang/Exception" (7 : Nat) ({ cls := "java/lang/Throwable", name := "<init>", desc := "(Ljava/lang/String;)V" } : Jvm.MethodName)) ∈ lw_all := lw_g (lw_at lw_m3 27 rfl) rfl
theorem q1145 : (Jvm.Cond.instanceMethod ({ cls := "java/lang/Exception", name := "<init>", desc := "()V" } : Jvm.MethodName)) ∈ lw_all := lw_g (lw_at lw_m5 103 rfl) rfl
theorem q1146 : (Jvm.Cond.code ({ cls := "java/lang/Exception", name := "<init>", desc := "()V" } : Jvm.MethodName) prog_30_method_1_code (1 : Nat) (Option.none : Option Jvm.ClassFile.FieldType)) ∈ lw_all := lw_g (lw_at lw_m5 104 rfl) rfl
theorem q1147 : (Jvm.Cond.methodLink "java/lang/Exception" (1 : Nat) ({ cls := "java/lang/Throwable", name := "<init>", desc := "()V" } : Jvm.MethodName)) ∈ lw_all := lw_g (lw_at lw_m5 105 rfl) rfl
theorem q1887 : (Jvm.Cond.instanceMethod ({ cls := "java/lang/Exception", name := "<init>", desc := "(Ljava/lang/String;Ljava/lang/Throwable;ZZ)V" } : Jvm.MethodName)) ∈ lw_all := lw_g (lw_at lw_m8 125 rfl) rfl
theorem q1888 : (Jvm.Cond.code ({ cls := "java/lang/Exception", name := "<init>", desc := "(Ljava/lang/String;Ljava/lang/Throwable;ZZ)V" } : Jvm.MethodName) prog_30_method_5_code (5 : Nat) (Option.none : Option Jvm.ClassFile.FieldType)) ∈ lw_all := lw_g (lw_at lw_m8 126 rfl) rfl
theorem q1889 : (Jvm.Cond.methodLink "java/lang/Exception" (16 : Nat) ({ cls := "java/lang/Throwable", name := "<init>", desc := "(Ljava/lang/String;Ljava/lang/Throwable;ZZ)V" } : Jvm.MethodName)) ∈ lw_all := lw_g (lw_at lw_m8 127 rfl) rfl

/-! java/lang/RuntimeException -/
set_option maxRecDepth 100000
def RJ12 : String := "java/lang/RuntimeException"
abbrev cJ12_init : ByteArray := prog_40_method_2_code
def yJ12_init : MethodName := ⟨RJ12, "<init>", "(Ljava/lang/String;)V"⟩
abbrev cJ12_init_2 : ByteArray := prog_40_method_1_code
def yJ12_init_2 : MethodName := ⟨RJ12, "<init>", "()V"⟩
theorem q98 : (Jvm.Cond.initialized "java/lang/RuntimeException") ∈ lw_all := lw_g (lw_at lw_m1 16 rfl) rfl
theorem q389 : (Jvm.Cond.declares ({ cls := "java/lang/RuntimeException", name := "<init>", desc := "()V" } : Jvm.MethodName)) ∈ lw_tbl := lw_at lw_m2 67 rfl
theorem q390 : (Jvm.Cond.declares ({ cls := "java/lang/RuntimeException", name := "<init>", desc := "(Ljava/lang/String;)V" } : Jvm.MethodName)) ∈ lw_tbl := lw_at lw_m2 68 rfl
theorem q584 : (Jvm.Cond.instanceMethod ({ cls := "java/lang/RuntimeException", name := "<init>", desc := "(Ljava/lang/String;)V" } : Jvm.MethodName)) ∈ lw_all := lw_g (lw_at lw_m3 22 rfl) rfl
theorem q585 : (Jvm.Cond.code ({ cls := "java/lang/RuntimeException", name := "<init>", desc := "(Ljava/lang/String;)V" } : Jvm.MethodName) prog_40_method_2_code (2 : Nat) (Option.none : Option Jvm.ClassFile.FieldType)) ∈ lw_all := lw_g (lw_at lw_m3 23 rfl) rfl
theorem q586 : (Jvm.Cond.methodLink "java/lang/RuntimeException" (7 : Nat) ({ cls := "java/lang/Exception", name := "<init>", desc := "(Ljava/lang/String;)V" } : Jvm.MethodName)) ∈ lw_all := lw_g (lw_at lw_m3 24 rfl) rfl
theorem q1142 : (Jvm.Cond.instanceMethod ({ cls := "java/lang/RuntimeException", name := "<init>", desc := "()V" } : Jvm.MethodName)) ∈ lw_all := lw_g (lw_at lw_m5 100 rfl) rfl
theorem q1143 : (Jvm.Cond.code ({ cls := "java/lang/RuntimeException", name := "<init>", desc := "()V" } : Jvm.MethodName) prog_40_method_1_code (1 : Nat) (Option.none : Option Jvm.ClassFile.FieldType)) ∈ lw_all := lw_g (lw_at lw_m5 101 rfl) rfl
theorem q1144 : (Jvm.Cond.methodLink "java/lang/RuntimeException" (1 : Nat) ({ cls := "java/lang/Exception", name := "<init>", desc := "()V" } : Jvm.MethodName)) ∈ lw_all := lw_g (lw_at lw_m5 102 rfl) rfl

/-! java/lang/IllegalArgumentException -/
set_option maxRecDepth 100000
def RJ13 : String := "java/lang/IllegalArgumentException"
def TJ13 : u_T := fun k => match k with
  | 0 => ("java/lang/Throwable", "cause", "Ljava/lang/Throwable;", false)
  | 1 => ("java/lang/Throwable", "stackTrace", "[Ljava/lang/StackTraceElement;", false)
  | 2 => ("java/lang/Throwable", "suppressedExceptions", "Ljava/util/List;", false)
  | 3 => ("java/lang/Throwable", "detailMessage", "Ljava/lang/String;", false)
  | 4 => ("java/lang/Throwable", "backtrace", "Ljava/lang/Object;", false)
  | _ => ("java/lang/Throwable", "depth", "I", false)
def tyJ13 : Nat → FieldType := fun k => match k with
  | 0 => .object "java/lang/Throwable"
  | 1 => .array (.object "java/lang/StackTraceElement")
  | 2 => .object "java/util/List"
  | 3 => .object "java/lang/String"
  | 4 => .object "java/lang/Object"
  | _ => .int
abbrev wsJ130 : List Cond := u_ws RJ13 TJ13 6
theorem nmJ13 : ∀ a, a < 6 → ∀ b, b < 6 → a ≠ b → (TJ13 a).2.1 ≠ (TJ13 b).2.1 := by decide +kernel
theorem tyJ13_ok : ∀ k, k < 6 → parseFieldDescriptor (TJ13 k).2.2.1 = some (tyJ13 k) := by decide +kernel
abbrev cJ13_init : ByteArray := prog_31_method_2_code
def yJ13_init : MethodName := ⟨RJ13, "<init>", "(Ljava/lang/String;)V"⟩
abbrev cJ13_init_2 : ByteArray := prog_31_method_1_code
def yJ13_init_2 : MethodName := ⟨RJ13, "<init>", "()V"⟩
theorem q99 : (Jvm.Cond.initialized "java/lang/IllegalArgumentException") ∈ lw_all := lw_g (lw_at lw_m1 17 rfl) rfl
theorem q387 : (Jvm.Cond.instantiable "java/lang/IllegalArgumentException" (6 : Nat)) ∈ lw_all := lw_g (lw_at lw_m2 65 rfl) rfl
theorem q388 : (Jvm.Cond.castable "java/lang/IllegalArgumentException" "java/lang/IllegalArgumentException") ∈ lw_tbl := lw_at lw_m2 66 rfl
theorem q395 : (Jvm.Cond.selects "java/lang/IllegalArgumentException" ({ cls := "java/lang/Throwable", name := "fillInStackTrace", desc := "(I)Ljava/lang/Throwable;" } : Jvm.MethodName) ({ cls := "java/lang/Throwable", name := "fillInStackTrace", desc := "(I)Ljava/lang/Throwable;" } : Jvm.MethodName)) ∈ lw_all := lw_g (lw_at lw_m2 73 rfl) rfl
theorem q396 : (Jvm.Cond.selects "java/lang/IllegalArgumentException" ({ cls := "java/lang/Throwable", name := "fillInStackTrace", desc := "()Ljava/lang/Throwable;" } : Jvm.MethodName) ({ cls := "java/lang/Throwable", name := "fillInStackTrace", desc := "()Ljava/lang/Throwable;" } : Jvm.MethodName)) ∈ lw_all := lw_g (lw_at lw_m2 74 rfl) rfl
theorem q397 : (Jvm.Cond.lays "java/lang/IllegalArgumentException" "java/lang/Throwable" "cause" "Ljava/lang/Throwable;") ∈ lw_all := lw_g (lw_at lw_m2 75 rfl) rfl
theorem q399 : (Jvm.Cond.lays "java/lang/IllegalArgumentException" "java/lang/Throwable" "stackTrace" "[Ljava/lang/StackTraceElement;") ∈ lw_all := lw_g (lw_at lw_m2 77 rfl) rfl
theorem q401 : (Jvm.Cond.lays "java/lang/IllegalArgumentException" "java/lang/Throwable" "suppressedExceptions" "Ljava/util/List;") ∈ lw_all := lw_g (lw_at lw_m2 79 rfl) rfl
theorem q403 : (Jvm.Cond.lays "java/lang/IllegalArgumentException" "java/lang/Throwable" "detailMessage" "Ljava/lang/String;") ∈ lw_all := lw_g (lw_at lw_m2 81 rfl) rfl
theorem q405 : (Jvm.Cond.lays "java/lang/IllegalArgumentException" "java/lang/Throwable" "backtrace" "Ljava/lang/Object;") ∈ lw_all := lw_g (lw_at lw_m2 83 rfl) rfl
theorem q581 : (Jvm.Cond.instanceMethod ({ cls := "java/lang/IllegalArgumentException", name := "<init>", desc := "(Ljava/lang/String;)V" } : Jvm.MethodName)) ∈ lw_all := lw_g (lw_at lw_m3 19 rfl) rfl
theorem q582 : (Jvm.Cond.code ({ cls := "java/lang/IllegalArgumentException", name := "<init>", desc := "(Ljava/lang/String;)V" } : Jvm.MethodName) prog_31_method_2_code (2 : Nat) (Option.none : Option Jvm.ClassFile.FieldType)) ∈ lw_all := lw_g (lw_at lw_m3 20 rfl) rfl
theorem q583 : (Jvm.Cond.methodLink "java/lang/IllegalArgumentException" (7 : Nat) ({ cls := "java/lang/RuntimeException", name := "<init>", desc := "(Ljava/lang/String;)V" } : Jvm.MethodName)) ∈ lw_all := lw_g (lw_at lw_m3 21 rfl) rfl
theorem q601 : (Jvm.Cond.lays "java/lang/IllegalArgumentException" "java/lang/Throwable" "depth" "I") ∈ lw_all := lw_g (lw_at lw_m3 39 rfl) rfl
theorem q604 : (Jvm.Cond.superclass "java/lang/IllegalArgumentException" "java/lang/RuntimeException") ∈ lw_all := lw_g (lw_at lw_m3 42 rfl) rfl
theorem q671 : (Jvm.Cond.selects "java/lang/IllegalArgumentException" ({ cls := "java/lang/Object", name := "hashCode", desc := "()I" } : Jvm.MethodName) ({ cls := "java/lang/Object", name := "hashCode", desc := "()I" } : Jvm.MethodName)) ∈ lw_all := lw_g (lw_at lw_m3 109 rfl) rfl
theorem q770 : (Jvm.Cond.selects "java/lang/IllegalArgumentException" ({ cls := "java/lang/Object", name := "equals", desc := "(Ljava/lang/Object;)Z" } : Jvm.MethodName) ({ cls := "java/lang/Object", name := "equals", desc := "(Ljava/lang/Object;)Z" } : Jvm.MethodName)) ∈ lw_all := lw_g (lw_at lw_m3 208 rfl) rfl
theorem q835 : (Jvm.Cond.selects "java/lang/IllegalArgumentException" ({ cls := "java/lang/Object", name := "getClass", desc := "()Ljava/lang/Class;" } : Jvm.MethodName) ({ cls := "java/lang/Object", name := "getClass", desc := "()Ljava/lang/Class;" } : Jvm.MethodName)) ∈ lw_all := lw_g (lw_at lw_m4 33 rfl) rfl
theorem q1602 : (Jvm.Cond.instanceMethod ({ cls := "java/lang/IllegalArgumentException", name := "<init>", desc := "()V" } : Jvm.MethodName)) ∈ lw_all := lw_g (lw_at lw_m7 80 rfl) rfl
theorem q1603 : (Jvm.Cond.code ({ cls := "java/lang/IllegalArgumentException", name := "<init>", desc := "()V" } : Jvm.MethodName) prog_31_method_1_code (1 : Nat) (Option.none : Option Jvm.ClassFile.FieldType)) ∈ lw_all := lw_g (lw_at lw_m7 81 rfl) rfl
theorem q1604 : (Jvm.Cond.methodLink "java/lang/IllegalArgumentException" (1 : Nat) ({ cls := "java/lang/RuntimeException", name := "<init>", desc := "()V" } : Jvm.MethodName)) ∈ lw_all := lw_g (lw_at lw_m7 82 rfl) rfl
theorem q2120 : (Jvm.Cond.selects "java/lang/IllegalArgumentException" ({ cls := "java/lang/Throwable", name := "getCause", desc := "()Ljava/lang/Throwable;" } : Jvm.MethodName) ({ cls := "java/lang/Throwable", name := "getCause", desc := "()Ljava/lang/Throwable;" } : Jvm.MethodName)) ∈ lw_all := lw_g (lw_at lw_m9 118 rfl) rfl
theorem q3238 : (Jvm.Cond.castable "java/lang/IllegalArgumentException" "java/lang/Object") ∈ lw_tbl := lw_at lw_m14 36 rfl
theorem in_J13 : ∀ w ∈ wsJ130, w ∈ lw_all := lw_in wsJ130 [397, 399, 401, 403, 405, 601] (by decide +kernel) (by decide +kernel)

/-! java/util/NoSuchElementException -/
set_option maxRecDepth 100000
def RJ15 : String := "java/util/NoSuchElementException"
def TJ15 : u_T := fun k => match k with
  | 0 => ("java/lang/Throwable", "cause", "Ljava/lang/Throwable;", false)
  | 1 => ("java/lang/Throwable", "stackTrace", "[Ljava/lang/StackTraceElement;", false)
  | 2 => ("java/lang/Throwable", "suppressedExceptions", "Ljava/util/List;", false)
  | 3 => ("java/lang/Throwable", "detailMessage", "Ljava/lang/String;", false)
  | 4 => ("java/lang/Throwable", "backtrace", "Ljava/lang/Object;", false)
  | _ => ("java/lang/Throwable", "depth", "I", false)
def tyJ15 : Nat → FieldType := fun k => match k with
  | 0 => .object "java/lang/Throwable"
  | 1 => .array (.object "java/lang/StackTraceElement")
  | 2 => .object "java/util/List"
  | 3 => .object "java/lang/String"
  | 4 => .object "java/lang/Object"
  | _ => .int
abbrev wsJ150 : List Cond := u_ws RJ15 TJ15 6
theorem nmJ15 : ∀ a, a < 6 → ∀ b, b < 6 → a ≠ b → (TJ15 a).2.1 ≠ (TJ15 b).2.1 := by decide +kernel
theorem tyJ15_ok : ∀ k, k < 6 → parseFieldDescriptor (TJ15 k).2.2.1 = some (tyJ15 k) := by decide +kernel
abbrev cJ15_init : ByteArray := prog_69_method_1_code
def yJ15_init : MethodName := ⟨RJ15, "<init>", "()V"⟩
theorem q101 : (Jvm.Cond.initialized "java/util/NoSuchElementException") ∈ lw_all := lw_g (lw_at lw_m1 19 rfl) rfl
theorem q428 : (Jvm.Cond.selects "java/util/NoSuchElementException" ({ cls := "java/lang/Throwable", name := "fillInStackTrace", desc := "()Ljava/lang/Throwable;" } : Jvm.MethodName) ({ cls := "java/lang/Throwable", name := "fillInStackTrace", desc := "()Ljava/lang/Throwable;" } : Jvm.MethodName)) ∈ lw_all := lw_g (lw_at lw_m2 106 rfl) rfl
theorem q850 : (Jvm.Cond.selects "java/util/NoSuchElementException" ({ cls := "java/lang/Object", name := "getClass", desc := "()Ljava/lang/Class;" } : Jvm.MethodName) ({ cls := "java/lang/Object", name := "getClass", desc := "()Ljava/lang/Class;" } : Jvm.MethodName)) ∈ lw_all := lw_g (lw_at lw_m4 48 rfl) rfl
theorem q1130 : (Jvm.Cond.instantiable "java/util/NoSuchElementException" (6 : Nat)) ∈ lw_all := lw_g (lw_at lw_m5 88 rfl) rfl
theorem q1131 : (Jvm.Cond.castable "java/util/NoSuchElementException" "java/util/NoSuchElementException") ∈ lw_tbl := lw_at lw_m5 89 rfl
theorem q1132 : (Jvm.Cond.selects "java/util/NoSuchElementException" ({ cls := "java/lang/Throwable", name := "fillInStackTrace", desc := "(I)Ljava/lang/Throwable;" } : Jvm.MethodName) ({ cls := "java/lang/Throwable", name := "fillInStackTrace", desc := "(I)Ljava/lang/Throwable;" } : Jvm.MethodName)) ∈ lw_all := lw_g (lw_at lw_m5 90 rfl) rfl
theorem q1133 : (Jvm.Cond.lays "java/util/NoSuchElementException" "java/lang/Throwable" "cause" "Ljava/lang/Throwable;") ∈ lw_all := lw_g (lw_at lw_m5 91 rfl) rfl
theorem q1134 : (Jvm.Cond.lays "java/util/NoSuchElementException" "java/lang/Throwable" "stackTrace" "[Ljava/lang/StackTraceElement;") ∈ lw_all := lw_g (lw_at lw_m5 92 rfl) rfl
theorem q1135 : (Jvm.Cond.lays "java/util/NoSuchElementException" "java/lang/Throwable" "suppressedExceptions" "Ljava/util/List;") ∈ lw_all := lw_g (lw_at lw_m5 93 rfl) rfl
theorem q1136 : (Jvm.Cond.lays "java/util/NoSuchElementException" "java/lang/Throwable" "detailMessage" "Ljava/lang/String;") ∈ lw_all := lw_g (lw_at lw_m5 94 rfl) rfl
theorem q1137 : (Jvm.Cond.lays "java/util/NoSuchElementException" "java/lang/Throwable" "backtrace" "Ljava/lang/Object;") ∈ lw_all := lw_g (lw_at lw_m5 95 rfl) rfl
theorem q1139 : (Jvm.Cond.instanceMethod ({ cls := "java/util/NoSuchElementException", name := "<init>", desc := "()V" } : Jvm.MethodName)) ∈ lw_all := lw_g (lw_at lw_m5 97 rfl) rfl
theorem q1140 : (Jvm.Cond.code ({ cls := "java/util/NoSuchElementException", name := "<init>", desc := "()V" } : Jvm.MethodName) prog_69_method_1_code (1 : Nat) (Option.none : Option Jvm.ClassFile.FieldType)) ∈ lw_all := lw_g (lw_at lw_m5 98 rfl) rfl
theorem q1141 : (Jvm.Cond.methodLink "java/util/NoSuchElementException" (1 : Nat) ({ cls := "java/lang/RuntimeException", name := "<init>", desc := "()V" } : Jvm.MethodName)) ∈ lw_all := lw_g (lw_at lw_m5 99 rfl) rfl
theorem q1148 : (Jvm.Cond.lays "java/util/NoSuchElementException" "java/lang/Throwable" "depth" "I") ∈ lw_all := lw_g (lw_at lw_m5 106 rfl) rfl
theorem q1149 : (Jvm.Cond.superclass "java/util/NoSuchElementException" "java/lang/RuntimeException") ∈ lw_all := lw_g (lw_at lw_m5 107 rfl) rfl
theorem q2124 : (Jvm.Cond.selects "java/util/NoSuchElementException" ({ cls := "java/lang/Throwable", name := "getCause", desc := "()Ljava/lang/Throwable;" } : Jvm.MethodName) ({ cls := "java/lang/Throwable", name := "getCause", desc := "()Ljava/lang/Throwable;" } : Jvm.MethodName)) ∈ lw_all := lw_g (lw_at lw_m9 122 rfl) rfl
theorem q3240 : (Jvm.Cond.castable "java/util/NoSuchElementException" "java/lang/Object") ∈ lw_tbl := lw_at lw_m14 38 rfl
theorem in_J15 : ∀ w ∈ wsJ150, w ∈ lw_all := lw_in wsJ150 [1133, 1134, 1135, 1136, 1137, 1148] (by decide +kernel) (by decide +kernel)

/-! java/util/Objects -/
set_option maxRecDepth 100000
def RJ16 : String := "java/util/Objects"
abbrev cJ16_checkIndex : ByteArray := prog_70_method_17_code
def yJ16_checkIndex : MethodName := ⟨RJ16, "checkIndex", "(II)I"⟩
theorem q102 : (Jvm.Cond.initialized "java/util/Objects") ∈ lw_all := lw_g (lw_at lw_m1 20 rfl) rfl
theorem q1160 : (Jvm.Cond.static ({ cls := "java/util/Objects", name := "checkIndex", desc := "(II)I" } : Jvm.MethodName)) ∈ lw_all := lw_g (lw_at lw_m5 118 rfl) rfl
theorem q1161 : (Jvm.Cond.code ({ cls := "java/util/Objects", name := "checkIndex", desc := "(II)I" } : Jvm.MethodName) prog_70_method_17_code (2 : Nat) (Option.some Jvm.ClassFile.FieldType.int)) ∈ lw_all := lw_g (lw_at lw_m5 119 rfl) rfl
theorem q1162 : (Jvm.Cond.methodLink "java/util/Objects" (105 : Nat) ({ cls := "jdk/internal/util/Preconditions", name := "checkIndex", desc := "(IILjava/util/function/BiFunction;)I" } : Jvm.MethodName)) ∈ lw_all := lw_g (lw_at lw_m5 120 rfl) rfl

/-! jdk/internal/util/Preconditions -/
set_option maxRecDepth 100000
def RJ17 : String := "jdk/internal/util/Preconditions"
abbrev cJ17_checkFromToIndex : ByteArray := prog_78_method_12_code
def yJ17_checkFromToIndex : MethodName := ⟨RJ17, "checkFromToIndex", "(IIILjava/util/function/BiFunction;)I"⟩
abbrev cJ17_checkFromIndexSize : ByteArray := prog_78_method_13_code
def yJ17_checkFromIndexSize : MethodName := ⟨RJ17, "checkFromIndexSize", "(IIILjava/util/function/BiFunction;)I"⟩
abbrev cJ17_checkIndex : ByteArray := prog_78_method_11_code
def yJ17_checkIndex : MethodName := ⟨RJ17, "checkIndex", "(IILjava/util/function/BiFunction;)I"⟩
theorem q103 : (Jvm.Cond.initialized "jdk/internal/util/Preconditions") ∈ lw_all := lw_g (lw_at lw_m1 21 rfl) rfl
theorem q503 : (Jvm.Cond.laysStatic "jdk/internal/util/Preconditions" "SIOOBE_FORMATTER" "Ljava/util/function/BiFunction;") ∈ lw_tbl := lw_at lw_m2 181 rfl
theorem q505 : (Jvm.Cond.static ({ cls := "jdk/internal/util/Preconditions", name := "checkFromToIndex", desc := "(IIILjava/util/function/BiFunction;)I" } : Jvm.MethodName)) ∈ lw_all := lw_g (lw_at lw_m2 183 rfl) rfl
theorem q506 : (Jvm.Cond.code ({ cls := "jdk/internal/util/Preconditions", name := "checkFromToIndex", desc := "(IIILjava/util/function/BiFunction;)I" } : Jvm.MethodName) prog_78_method_12_code (4 : Nat) (Option.some Jvm.ClassFile.FieldType.int)) ∈ lw_all := lw_g (lw_at lw_m2 184 rfl) rfl
theorem q571 : (Jvm.Cond.static ({ cls := "jdk/internal/util/Preconditions", name := "checkFromIndexSize", desc := "(IIILjava/util/function/BiFunction;)I" } : Jvm.MethodName)) ∈ lw_all := lw_g (lw_at lw_m3 9 rfl) rfl
theorem q572 : (Jvm.Cond.code ({ cls := "jdk/internal/util/Preconditions", name := "checkFromIndexSize", desc := "(IIILjava/util/function/BiFunction;)I" } : Jvm.MethodName) prog_78_method_13_code (4 : Nat) (Option.some Jvm.ClassFile.FieldType.int)) ∈ lw_all := lw_g (lw_at lw_m3 10 rfl) rfl
theorem q1163 : (Jvm.Cond.static ({ cls := "jdk/internal/util/Preconditions", name := "checkIndex", desc := "(IILjava/util/function/BiFunction;)I" } : Jvm.MethodName)) ∈ lw_all := lw_g (lw_at lw_m5 121 rfl) rfl
theorem q1164 : (Jvm.Cond.code ({ cls := "jdk/internal/util/Preconditions", name := "checkIndex", desc := "(IILjava/util/function/BiFunction;)I" } : Jvm.MethodName) prog_78_method_11_code (3 : Nat) (Option.some Jvm.ClassFile.FieldType.int)) ∈ lw_all := lw_g (lw_at lw_m5 122 rfl) rfl

/-! java/lang/Number -/
set_option maxRecDepth 100000
def RJ18 : String := "java/lang/Number"
abbrev cJ18_init : ByteArray := prog_39_method_1_code
def yJ18_init : MethodName := ⟨RJ18, "<init>", "()V"⟩
theorem q104 : (Jvm.Cond.initialized "java/lang/Number") ∈ lw_all := lw_g (lw_at lw_m1 22 rfl) rfl
theorem q1186 : (Jvm.Cond.instanceMethod ({ cls := "java/lang/Number", name := "<init>", desc := "()V" } : Jvm.MethodName)) ∈ lw_all := lw_g (lw_at lw_m5 144 rfl) rfl
theorem q1187 : (Jvm.Cond.code ({ cls := "java/lang/Number", name := "<init>", desc := "()V" } : Jvm.MethodName) prog_39_method_1_code (1 : Nat) (Option.none : Option Jvm.ClassFile.FieldType)) ∈ lw_all := lw_g (lw_at lw_m5 145 rfl) rfl
theorem q1188 : (Jvm.Cond.methodLink "java/lang/Number" (1 : Nat) ({ cls := "java/lang/Object", name := "<init>", desc := "()V" } : Jvm.MethodName)) ∈ lw_all := lw_g (lw_at lw_m5 146 rfl) rfl

/-! java/lang/StringLatin1 -/
set_option maxRecDepth 100000
def RJ20 : String := "java/lang/StringLatin1"
abbrev cJ20_inflate : ByteArray := prog_43_method_50_code
def yJ20_inflate : MethodName := ⟨RJ20, "inflate", "([BI[BII)V"⟩
abbrev cJ20_hashCode : ByteArray := prog_43_method_21_code
def yJ20_hashCode : MethodName := ⟨RJ20, "hashCode", "([B)I"⟩
abbrev cJ20_equals : ByteArray := prog_43_method_13_code
def yJ20_equals : MethodName := ⟨RJ20, "equals", "([B[B)Z"⟩
abbrev cJ20_compareTo : ByteArray := prog_43_method_14_code
def yJ20_compareTo : MethodName := ⟨RJ20, "compareTo", "([B[B)I"⟩
abbrev cJ20_compareTo_2 : ByteArray := prog_43_method_15_code
def yJ20_compareTo_2 : MethodName := ⟨RJ20, "compareTo", "([B[BII)I"⟩
abbrev cJ20_getChar : ByteArray := prog_43_method_44_code
def yJ20_getChar : MethodName := ⟨RJ20, "getChar", "([BI)C"⟩
abbrev cJ20_compareToUTF16 : ByteArray := prog_43_method_16_code
def yJ20_compareToUTF16 : MethodName := ⟨RJ20, "compareToUTF16", "([B[B)I"⟩
abbrev cJ20_length : ByteArray := prog_43_method_5_code
def yJ20_length : MethodName := ⟨RJ20, "length", "([B)I"⟩
abbrev cJ20_compareToUTF16Values : ByteArray := prog_43_method_18_code
def yJ20_compareToUTF16Values : MethodName := ⟨RJ20, "compareToUTF16Values", "([B[BII)I"⟩
abbrev cJ20_compareToUTF16_2 : ByteArray := prog_43_method_17_code
def yJ20_compareToUTF16_2 : MethodName := ⟨RJ20, "compareToUTF16", "([B[BII)I"⟩
abbrev cJ20_charAt : ByteArray := prog_43_method_2_code
def yJ20_charAt : MethodName := ⟨RJ20, "charAt", "([BI)C"⟩
abbrev cJ20_canEncode : ByteArray := prog_43_method_3_code
def yJ20_canEncode : MethodName := ⟨RJ20, "canEncode", "(C)Z"⟩
abbrev cJ20_newString : ByteArray := prog_43_method_47_code
def yJ20_newString : MethodName := ⟨RJ20, "newString", "([BII)Ljava/lang/String;"⟩
theorem q107 : (Jvm.Cond.initialized "java/lang/StringLatin1") ∈ lw_all := lw_g (lw_at lw_m1 25 rfl) rfl
theorem q559 : (Jvm.Cond.static ({ cls := "java/lang/StringLatin1", name := "inflate", desc := "([BI[BII)V" } : Jvm.MethodName)) ∈ lw_all := lw_g (lw_at lw_m2 237 rfl) rfl
theorem q560 : (Jvm.Cond.code ({ cls := "java/lang/StringLatin1", name := "inflate", desc := "([BI[BII)V" } : Jvm.MethodName) prog_43_method_50_code (5 : Nat) (Option.none : Option Jvm.ClassFile.FieldType)) ∈ lw_all := lw_g (lw_at lw_m2 238 rfl) rfl
theorem q561 : (Jvm.Cond.methodLink "java/lang/StringLatin1" (240 : Nat) ({ cls := "java/lang/StringUTF16", name := "inflate", desc := "([BI[BII)V" } : Jvm.MethodName)) ∈ lw_all := lw_g (lw_at lw_m2 239 rfl) rfl
theorem q688 : (Jvm.Cond.static ({ cls := "java/lang/StringLatin1", name := "hashCode", desc := "([B)I" } : Jvm.MethodName)) ∈ lw_all := lw_g (lw_at lw_m3 126 rfl) rfl
theorem q689 : (Jvm.Cond.code ({ cls := "java/lang/StringLatin1", name := "hashCode", desc := "([B)I" } : Jvm.MethodName) prog_43_method_21_code (1 : Nat) (Option.some Jvm.ClassFile.FieldType.int)) ∈ lw_all := lw_g (lw_at lw_m3 127 rfl) rfl
theorem q690 : (Jvm.Cond.methodLink "java/lang/StringLatin1" (84 : Nat) ({ cls := "jdk/internal/util/ArraysSupport", name := "vectorizedHashCode", desc := "(Ljava/lang/Object;IIII)I" } : Jvm.MethodName)) ∈ lw_all := lw_g (lw_at lw_m3 128 rfl) rfl
theorem q786 : (Jvm.Cond.static ({ cls := "java/lang/StringLatin1", name := "equals", desc := "([B[B)Z" } : Jvm.MethodName)) ∈ lw_all := lw_g (lw_at lw_m3 224 rfl) rfl
theorem q787 : (Jvm.Cond.code ({ cls := "java/lang/StringLatin1", name := "equals", desc := "([B[B)Z" } : Jvm.MethodName) prog_43_method_13_code (3 : Nat) (Option.some Jvm.ClassFile.FieldType.boolean)) ∈ lw_all := lw_g (lw_at lw_m3 225 rfl) rfl
theorem q885 : (Jvm.Cond.static ({ cls := "java/lang/StringLatin1", name := "compareTo", desc := "([B[B)I" } : Jvm.MethodName)) ∈ lw_all := lw_g (lw_at lw_m4 83 rfl) rfl
theorem q886 : (Jvm.Cond.code ({ cls := "java/lang/StringLatin1", name := "compareTo", desc := "([B[B)I" } : Jvm.MethodName) prog_43_method_14_code (4 : Nat) (Option.some Jvm.ClassFile.FieldType.int)) ∈ lw_all := lw_g (lw_at lw_m4 84 rfl) rfl
theorem q887 : (Jvm.Cond.methodLink "java/lang/StringLatin1" (34 : Nat) ({ cls := "java/lang/StringLatin1", name := "compareTo", desc := "([B[BII)I" } : Jvm.MethodName)) ∈ lw_all := lw_g (lw_at lw_m4 85 rfl) rfl
theorem q888 : (Jvm.Cond.static ({ cls := "java/lang/StringLatin1", name := "compareTo", desc := "([B[BII)I" } : Jvm.MethodName)) ∈ lw_all := lw_g (lw_at lw_m4 86 rfl) rfl
theorem q889 : (Jvm.Cond.code ({ cls := "java/lang/StringLatin1", name := "compareTo", desc := "([B[BII)I" } : Jvm.MethodName) prog_43_method_15_code (6 : Nat) (Option.some Jvm.ClassFile.FieldType.int)) ∈ lw_all := lw_g (lw_at lw_m4 87 rfl) rfl
theorem q890 : (Jvm.Cond.methodLink "java/lang/StringLatin1" (38 : Nat) ({ cls := "java/lang/Math", name := "min", desc := "(II)I" } : Jvm.MethodName)) ∈ lw_all := lw_g (lw_at lw_m4 88 rfl) rfl
theorem q891 : (Jvm.Cond.methodLink "java/lang/StringLatin1" (44 : Nat) ({ cls := "jdk/internal/util/ArraysSupport", name := "mismatch", desc := "([B[BI)I" } : Jvm.MethodName)) ∈ lw_all := lw_g (lw_at lw_m4 89 rfl) rfl
theorem q995 : (Jvm.Cond.methodLink "java/lang/StringLatin1" (50 : Nat) ({ cls := "java/lang/StringLatin1", name := "getChar", desc := "([BI)C" } : Jvm.MethodName)) ∈ lw_all := lw_g (lw_at lw_m4 193 rfl) rfl
theorem q996 : (Jvm.Cond.static ({ cls := "java/lang/StringLatin1", name := "getChar", desc := "([BI)C" } : Jvm.MethodName)) ∈ lw_all := lw_g (lw_at lw_m4 194 rfl) rfl
theorem q997 : (Jvm.Cond.code ({ cls := "java/lang/StringLatin1", name := "getChar", desc := "([BI)C" } : Jvm.MethodName) prog_43_method_44_code (2 : Nat) (Option.some Jvm.ClassFile.FieldType.char)) ∈ lw_all := lw_g (lw_at lw_m4 195 rfl) rfl
theorem q1006 : (Jvm.Cond.static ({ cls := "java/lang/StringLatin1", name := "compareToUTF16", desc := "([B[B)I" } : Jvm.MethodName)) ∈ lw_all := lw_g (lw_at lw_m4 204 rfl) rfl
theorem q1007 : (Jvm.Cond.code ({ cls := "java/lang/StringLatin1", name := "compareToUTF16", desc := "([B[B)I" } : Jvm.MethodName) prog_43_method_16_code (4 : Nat) (Option.some Jvm.ClassFile.FieldType.int)) ∈ lw_all := lw_g (lw_at lw_m4 205 rfl) rfl
theorem q1008 : (Jvm.Cond.methodLink "java/lang/StringLatin1" (54 : Nat) ({ cls := "java/lang/StringLatin1", name := "length", desc := "([B)I" } : Jvm.MethodName)) ∈ lw_all := lw_g (lw_at lw_m4 206 rfl) rfl
theorem q1009 : (Jvm.Cond.static ({ cls := "java/lang/StringLatin1", name := "length", desc := "([B)I" } : Jvm.MethodName)) ∈ lw_all := lw_g (lw_at lw_m4 207 rfl) rfl
theorem q1010 : (Jvm.Cond.code ({ cls := "java/lang/StringLatin1", name := "length", desc := "([B)I" } : Jvm.MethodName) prog_43_method_5_code (1 : Nat) (Option.some Jvm.ClassFile.FieldType.int)) ∈ lw_all := lw_g (lw_at lw_m4 208 rfl) rfl
theorem q1011 : (Jvm.Cond.methodLink "java/lang/StringLatin1" (58 : Nat) ({ cls := "java/lang/StringUTF16", name := "length", desc := "([B)I" } : Jvm.MethodName)) ∈ lw_all := lw_g (lw_at lw_m4 209 rfl) rfl
theorem q1012 : (Jvm.Cond.methodLink "java/lang/StringLatin1" (59 : Nat) ({ cls := "java/lang/StringLatin1", name := "compareToUTF16Values", desc := "([B[BII)I" } : Jvm.MethodName)) ∈ lw_all := lw_g (lw_at lw_m4 210 rfl) rfl
theorem q1013 : (Jvm.Cond.static ({ cls := "java/lang/StringLatin1", name := "compareToUTF16Values", desc := "([B[BII)I" } : Jvm.MethodName)) ∈ lw_all := lw_g (lw_at lw_m4 211 rfl) rfl
theorem q1014 : (Jvm.Cond.code ({ cls := "java/lang/StringLatin1", name := "compareToUTF16Values", desc := "([B[BII)I" } : Jvm.MethodName) prog_43_method_18_code (8 : Nat) (Option.some Jvm.ClassFile.FieldType.int)) ∈ lw_all := lw_g (lw_at lw_m4 212 rfl) rfl
theorem q1015 : (Jvm.Cond.methodLink "java/lang/StringLatin1" (65 : Nat) ({ cls := "java/lang/StringUTF16", name := "getChar", desc := "([BI)C" } : Jvm.MethodName)) ∈ lw_all := lw_g (lw_at lw_m4 213 rfl) rfl
theorem q1045 : (Jvm.Cond.static ({ cls := "java/lang/StringLatin1", name := "compareToUTF16", desc := "([B[BII)I" } : Jvm.MethodName)) ∈ lw_all := lw_g (lw_at lw_m5 3 rfl) rfl
theorem q1046 : (Jvm.Cond.code ({ cls := "java/lang/StringLatin1", name := "compareToUTF16", desc := "([B[BII)I" } : Jvm.MethodName) prog_43_method_17_code (4 : Nat) (Option.some Jvm.ClassFile.FieldType.int)) ∈ lw_all := lw_g (lw_at lw_m5 4 rfl) rfl
theorem q1047 : (Jvm.Cond.methodLink "java/lang/StringLatin1" (62 : Nat) ({ cls := "java/lang/String", name := "checkOffset", desc := "(II)V" } : Jvm.MethodName)) ∈ lw_all := lw_g (lw_at lw_m5 5 rfl) rfl
theorem q2260 : (Jvm.Cond.static ({ cls := "java/lang/StringLatin1", name := "charAt", desc := "([BI)C" } : Jvm.MethodName)) ∈ lw_all := lw_g (lw_at lw_m10 18 rfl) rfl
theorem q2261 : (Jvm.Cond.code ({ cls := "java/lang/StringLatin1", name := "charAt", desc := "([BI)C" } : Jvm.MethodName) prog_43_method_2_code (2 : Nat) (Option.some Jvm.ClassFile.FieldType.char)) ∈ lw_all := lw_g (lw_at lw_m10 19 rfl) rfl
theorem q2262 : (Jvm.Cond.methodLink "java/lang/StringLatin1" (9 : Nat) ({ cls := "java/lang/String", name := "checkIndex", desc := "(II)V" } : Jvm.MethodName)) ∈ lw_all := lw_g (lw_at lw_m10 20 rfl) rfl
theorem q2468 : (Jvm.Cond.static ({ cls := "java/lang/StringLatin1", name := "canEncode", desc := "(C)Z" } : Jvm.MethodName)) ∈ lw_all := lw_g (lw_at lw_m10 226 rfl) rfl
theorem q2469 : (Jvm.Cond.code ({ cls := "java/lang/StringLatin1", name := "canEncode", desc := "(C)Z" } : Jvm.MethodName) prog_43_method_3_code (1 : Nat) (Option.some Jvm.ClassFile.FieldType.boolean)) ∈ lw_all := lw_g (lw_at lw_m10 227 rfl) rfl
theorem q2583 : (Jvm.Cond.static ({ cls := "java/lang/StringLatin1", name := "newString", desc := "([BII)Ljava/lang/String;" } : Jvm.MethodName)) ∈ lw_all := lw_g (lw_at lw_m11 101 rfl) rfl
theorem q2584 : (Jvm.Cond.code ({ cls := "java/lang/StringLatin1", name := "newString", desc := "([BII)Ljava/lang/String;" } : Jvm.MethodName) prog_43_method_47_code (3 : Nat) (Option.some (Jvm.ClassFile.FieldType.object "java/lang/String"))) ∈ lw_all := lw_g (lw_at lw_m11 102 rfl) rfl
theorem q2585 : (Jvm.Cond.stringRef "java/lang/StringLatin1" (151 : Nat) "") ∈ lw_tbl := lw_at lw_m11 103 rfl
theorem q2586 : (Jvm.Cond.classLink "java/lang/StringLatin1" (1 : Nat) "java/lang/String") ∈ lw_all := lw_g (lw_at lw_m11 104 rfl) rfl
theorem q2587 : (Jvm.Cond.methodLink "java/lang/StringLatin1" (232 : Nat) ({ cls := "java/util/Arrays", name := "copyOfRange", desc := "([BII)[B" } : Jvm.MethodName)) ∈ lw_all := lw_g (lw_at lw_m11 105 rfl) rfl
theorem q2588 : (Jvm.Cond.methodLink "java/lang/StringLatin1" (112 : Nat) ({ cls := "java/lang/String", name := "<init>", desc := "([BB)V" } : Jvm.MethodName)) ∈ lw_all := lw_g (lw_at lw_m11 106 rfl) rfl

/-! jdk/internal/util/ArraysSupport -/
set_option maxRecDepth 100000
def RJ21 : String := "jdk/internal/util/ArraysSupport"
abbrev cJ21_newLength : ByteArray := prog_77_method_27_code
def yJ21_newLength : MethodName := ⟨RJ21, "newLength", "(III)I"⟩
abbrev cJ21_hugeLength : ByteArray := prog_77_method_28_code
def yJ21_hugeLength : MethodName := ⟨RJ21, "hugeLength", "(II)I"⟩
abbrev cJ21_vectorizedHashCode : ByteArray := prog_77_method_4_code
def yJ21_vectorizedHashCode : MethodName := ⟨RJ21, "vectorizedHashCode", "(Ljava/lang/Object;IIII)I"⟩
abbrev cJ21_signedHashCode : ByteArray := prog_77_method_5_code
def yJ21_signedHashCode : MethodName := ⟨RJ21, "signedHashCode", "(I[BII)I"⟩
abbrev cJ21_utf16hashCode : ByteArray := prog_77_method_10_code
def yJ21_utf16hashCode : MethodName := ⟨RJ21, "utf16hashCode", "(I[BII)I"⟩
abbrev cJ21_hashCode : ByteArray := prog_77_method_7_code
def yJ21_hashCode : MethodName := ⟨RJ21, "hashCode", "(I[CII)I"⟩
abbrev cJ21_hashCode_2 : ByteArray := prog_77_method_6_code
def yJ21_hashCode_2 : MethodName := ⟨RJ21, "hashCode", "(I[BII)I"⟩
abbrev cJ21_hashCode_3 : ByteArray := prog_77_method_8_code
def yJ21_hashCode_3 : MethodName := ⟨RJ21, "hashCode", "(I[SII)I"⟩
abbrev cJ21_hashCode_4 : ByteArray := prog_77_method_9_code
def yJ21_hashCode_4 : MethodName := ⟨RJ21, "hashCode", "(I[III)I"⟩
abbrev cJ21_mismatch : ByteArray := prog_77_method_13_code
def yJ21_mismatch : MethodName := ⟨RJ21, "mismatch", "([B[BI)I"⟩
abbrev cJ21_vectorizedMismatch : ByteArray := prog_77_method_3_code
def yJ21_vectorizedMismatch : MethodName := ⟨RJ21, "vectorizedMismatch", "(Ljava/lang/Object;JLjava/lang/Object;JII)I"⟩
theorem q108 : (Jvm.Cond.initialized "jdk/internal/util/ArraysSupport") ∈ lw_all := lw_g (lw_at lw_m1 26 rfl) rfl
theorem q456 : (Jvm.Cond.static ({ cls := "jdk/internal/util/ArraysSupport", name := "newLength", desc := "(III)I" } : Jvm.MethodName)) ∈ lw_all := lw_g (lw_at lw_m2 134 rfl) rfl
theorem q457 : (Jvm.Cond.code ({ cls := "jdk/internal/util/ArraysSupport", name := "newLength", desc := "(III)I" } : Jvm.MethodName) prog_77_method_27_code (4 : Nat) (Option.some Jvm.ClassFile.FieldType.int)) ∈ lw_all := lw_g (lw_at lw_m2 135 rfl) rfl
theorem q458 : (Jvm.Cond.methodLink "jdk/internal/util/ArraysSupport" (194 : Nat) ({ cls := "java/lang/Math", name := "max", desc := "(II)I" } : Jvm.MethodName)) ∈ lw_all := lw_g (lw_at lw_m2 136 rfl) rfl
theorem q461 : (Jvm.Cond.constant "jdk/internal/util/ArraysSupport" (200 : Nat) (2147483639 : Int32)) ∈ lw_all := lw_g (lw_at lw_m2 139 rfl) rfl
theorem q462 : (Jvm.Cond.methodLink "jdk/internal/util/ArraysSupport" (201 : Nat) ({ cls := "jdk/internal/util/ArraysSupport", name := "hugeLength", desc := "(II)I" } : Jvm.MethodName)) ∈ lw_all := lw_g (lw_at lw_m2 140 rfl) rfl
theorem q463 : (Jvm.Cond.static ({ cls := "jdk/internal/util/ArraysSupport", name := "hugeLength", desc := "(II)I" } : Jvm.MethodName)) ∈ lw_all := lw_g (lw_at lw_m2 141 rfl) rfl
theorem q464 : (Jvm.Cond.code ({ cls := "jdk/internal/util/ArraysSupport", name := "hugeLength", desc := "(II)I" } : Jvm.MethodName) prog_77_method_28_code (3 : Nat) (Option.some Jvm.ClassFile.FieldType.int)) ∈ lw_all := lw_g (lw_at lw_m2 142 rfl) rfl
theorem q691 : (Jvm.Cond.static ({ cls := "jdk/internal/util/ArraysSupport", name := "vectorizedHashCode", desc := "(Ljava/lang/Object;IIII)I" } : Jvm.MethodName)) ∈ lw_all := lw_g (lw_at lw_m3 129 rfl) rfl
theorem q692 : (Jvm.Cond.code ({ cls := "jdk/internal/util/ArraysSupport", name := "vectorizedHashCode", desc := "(Ljava/lang/Object;IIII)I" } : Jvm.MethodName) prog_77_method_4_code (5 : Nat) (Option.some Jvm.ClassFile.FieldType.int)) ∈ lw_all := lw_g (lw_at lw_m3 130 rfl) rfl
theorem q693 : (Jvm.Cond.classLink "jdk/internal/util/ArraysSupport" (60 : Nat) "[B") ∈ lw_all := lw_g (lw_at lw_m3 131 rfl) rfl
theorem q694 : (Jvm.Cond.methodLink "jdk/internal/util/ArraysSupport" (62 : Nat) ({ cls := "jdk/internal/util/ArraysSupport", name := "signedHashCode", desc := "(I[BII)I" } : Jvm.MethodName)) ∈ lw_all := lw_g (lw_at lw_m3 132 rfl) rfl
theorem q695 : (Jvm.Cond.static ({ cls := "jdk/internal/util/ArraysSupport", name := "signedHashCode", desc := "(I[BII)I" } : Jvm.MethodName)) ∈ lw_all := lw_g (lw_at lw_m3 133 rfl) rfl
theorem q696 : (Jvm.Cond.code ({ cls := "jdk/internal/util/ArraysSupport", name := "signedHashCode", desc := "(I[BII)I" } : Jvm.MethodName) prog_77_method_5_code (6 : Nat) (Option.some Jvm.ClassFile.FieldType.int)) ∈ lw_all := lw_g (lw_at lw_m3 134 rfl) rfl
theorem q697 : (Jvm.Cond.methodLink "jdk/internal/util/ArraysSupport" (66 : Nat) ({ cls := "jdk/internal/util/ArraysSupport", name := "utf16hashCode", desc := "(I[BII)I" } : Jvm.MethodName)) ∈ lw_all := lw_g (lw_at lw_m3 135 rfl) rfl
theorem q698 : (Jvm.Cond.static ({ cls := "jdk/internal/util/ArraysSupport", name := "utf16hashCode", desc := "(I[BII)I" } : Jvm.MethodName)) ∈ lw_all := lw_g (lw_at lw_m3 136 rfl) rfl
theorem q699 : (Jvm.Cond.code ({ cls := "jdk/internal/util/ArraysSupport", name := "utf16hashCode", desc := "(I[BII)I" } : Jvm.MethodName) prog_77_method_10_code (6 : Nat) (Option.some Jvm.ClassFile.FieldType.int)) ∈ lw_all := lw_g (lw_at lw_m3 137 rfl) rfl
theorem q700 : (Jvm.Cond.fieldLink "jdk/internal/util/ArraysSupport" (106 : Nat) "jdk/internal/util/ArraysSupport" "JLA" "Ljdk/internal/access/JavaLangAccess;") ∈ lw_all := lw_g (lw_at lw_m3 138 rfl) rfl
theorem q701 : (Jvm.Cond.laysStatic "jdk/internal/util/ArraysSupport" "JLA" "Ljdk/internal/access/JavaLangAccess;") ∈ lw_tbl := lw_at lw_m3 139 rfl
theorem q702 : (Jvm.Cond.interfaceEntry "jdk/internal/util/ArraysSupport" (110 : Nat)) ∈ lw_tbl := lw_at lw_m3 140 rfl
theorem q703 : (Jvm.Cond.methodLink "jdk/internal/util/ArraysSupport" (110 : Nat) ({ cls := "jdk/internal/access/JavaLangAccess", name := "getUTF16Char", desc := "([BI)C" } : Jvm.MethodName)) ∈ lw_all := lw_g (lw_at lw_m3 141 rfl) rfl
theorem q713 : (Jvm.Cond.classLink "jdk/internal/util/ArraysSupport" (69 : Nat) "[C") ∈ lw_all := lw_g (lw_at lw_m3 151 rfl) rfl
theorem q714 : (Jvm.Cond.methodLink "jdk/internal/util/ArraysSupport" (71 : Nat) ({ cls := "jdk/internal/util/ArraysSupport", name := "hashCode", desc := "(I[CII)I" } : Jvm.MethodName)) ∈ lw_all := lw_g (lw_at lw_m3 152 rfl) rfl
theorem q715 : (Jvm.Cond.static ({ cls := "jdk/internal/util/ArraysSupport", name := "hashCode", desc := "(I[CII)I" } : Jvm.MethodName)) ∈ lw_all := lw_g (lw_at lw_m3 153 rfl) rfl
theorem q716 : (Jvm.Cond.code ({ cls := "jdk/internal/util/ArraysSupport", name := "hashCode", desc := "(I[CII)I" } : Jvm.MethodName) prog_77_method_7_code (6 : Nat) (Option.some Jvm.ClassFile.FieldType.int)) ∈ lw_all := lw_g (lw_at lw_m3 154 rfl) rfl
theorem q717 : (Jvm.Cond.methodLink "jdk/internal/util/ArraysSupport" (75 : Nat) ({ cls := "jdk/internal/util/ArraysSupport", name := "hashCode", desc := "(I[BII)I" } : Jvm.MethodName)) ∈ lw_all := lw_g (lw_at lw_m3 155 rfl) rfl
theorem q718 : (Jvm.Cond.static ({ cls := "jdk/internal/util/ArraysSupport", name := "hashCode", desc := "(I[BII)I" } : Jvm.MethodName)) ∈ lw_all := lw_g (lw_at lw_m3 156 rfl) rfl
theorem q719 : (Jvm.Cond.code ({ cls := "jdk/internal/util/ArraysSupport", name := "hashCode", desc := "(I[BII)I" } : Jvm.MethodName) prog_77_method_6_code (6 : Nat) (Option.some Jvm.ClassFile.FieldType.int)) ∈ lw_all := lw_g (lw_at lw_m3 157 rfl) rfl
theorem q720 : (Jvm.Cond.classLink "jdk/internal/util/ArraysSupport" (77 : Nat) "[S") ∈ lw_all := lw_g (lw_at lw_m3 158 rfl) rfl
theorem q721 : (Jvm.Cond.methodLink "jdk/internal/util/ArraysSupport" (79 : Nat) ({ cls := "jdk/internal/util/ArraysSupport", name := "hashCode", desc := "(I[SII)I" } : Jvm.MethodName)) ∈ lw_all := lw_g (lw_at lw_m3 159 rfl) rfl
theorem q722 : (Jvm.Cond.static ({ cls := "jdk/internal/util/ArraysSupport", name := "hashCode", desc := "(I[SII)I" } : Jvm.MethodName)) ∈ lw_all := lw_g (lw_at lw_m3 160 rfl) rfl
theorem q723 : (Jvm.Cond.code ({ cls := "jdk/internal/util/ArraysSupport", name := "hashCode", desc := "(I[SII)I" } : Jvm.MethodName) prog_77_method_8_code (6 : Nat) (Option.some Jvm.ClassFile.FieldType.int)) ∈ lw_all := lw_g (lw_at lw_m3 161 rfl) rfl
theorem q724 : (Jvm.Cond.classLink "jdk/internal/util/ArraysSupport" (82 : Nat) "[I") ∈ lw_all := lw_g (lw_at lw_m3 162 rfl) rfl
theorem q725 : (Jvm.Cond.methodLink "jdk/internal/util/ArraysSupport" (84 : Nat) ({ cls := "jdk/internal/util/ArraysSupport", name := "hashCode", desc := "(I[III)I" } : Jvm.MethodName)) ∈ lw_all := lw_g (lw_at lw_m3 163 rfl) rfl
theorem q726 : (Jvm.Cond.static ({ cls := "jdk/internal/util/ArraysSupport", name := "hashCode", desc := "(I[III)I" } : Jvm.MethodName)) ∈ lw_all := lw_g (lw_at lw_m3 164 rfl) rfl
theorem q727 : (Jvm.Cond.code ({ cls := "jdk/internal/util/ArraysSupport", name := "hashCode", desc := "(I[III)I" } : Jvm.MethodName) prog_77_method_9_code (6 : Nat) (Option.some Jvm.ClassFile.FieldType.int)) ∈ lw_all := lw_g (lw_at lw_m3 165 rfl) rfl
theorem q728 : (Jvm.Cond.classLink "jdk/internal/util/ArraysSupport" (87 : Nat) "java/lang/IllegalArgumentException") ∈ lw_all := lw_g (lw_at lw_m3 166 rfl) rfl
theorem q729 : (Jvm.Cond.classLink "jdk/internal/util/ArraysSupport" (89 : Nat) "java/lang/StringBuilder") ∈ lw_all := lw_g (lw_at lw_m3 167 rfl) rfl
theorem q730 : (Jvm.Cond.methodLink "jdk/internal/util/ArraysSupport" (91 : Nat) ({ cls := "java/lang/StringBuilder", name := "<init>", desc := "()V" } : Jvm.MethodName)) ∈ lw_all := lw_g (lw_at lw_m3 168 rfl) rfl
theorem q731 : (Jvm.Cond.stringRef "jdk/internal/util/ArraysSupport" (92 : Nat) "unrecognized basic type: ") ∈ lw_tbl := lw_at lw_m3 169 rfl
theorem q732 : (Jvm.Cond.methodLink "jdk/internal/util/ArraysSupport" (94 : Nat) ({ cls := "java/lang/StringBuilder", name := "append", desc := "(Ljava/lang/String;)Ljava/lang/StringBuilder;" } : Jvm.MethodName)) ∈ lw_all := lw_g (lw_at lw_m3 170 rfl) rfl
theorem q733 : (Jvm.Cond.methodLink "jdk/internal/util/ArraysSupport" (98 : Nat) ({ cls := "java/lang/StringBuilder", name := "append", desc := "(I)Ljava/lang/StringBuilder;" } : Jvm.MethodName)) ∈ lw_all := lw_g (lw_at lw_m3 171 rfl) rfl
theorem q734 : (Jvm.Cond.methodLink "jdk/internal/util/ArraysSupport" (101 : Nat) ({ cls := "java/lang/StringBuilder", name := "toString", desc := "()Ljava/lang/String;" } : Jvm.MethodName)) ∈ lw_all := lw_g (lw_at lw_m3 172 rfl) rfl
theorem q735 : (Jvm.Cond.methodLink "jdk/internal/util/ArraysSupport" (105 : Nat) ({ cls := "java/lang/IllegalArgumentException", name := "<init>", desc := "(Ljava/lang/String;)V" } : Jvm.MethodName)) ∈ lw_all := lw_g (lw_at lw_m3 173 rfl) rfl
theorem q892 : (Jvm.Cond.static ({ cls := "jdk/internal/util/ArraysSupport", name := "mismatch", desc := "([B[BI)I" } : Jvm.MethodName)) ∈ lw_all := lw_g (lw_at lw_m4 90 rfl) rfl
theorem q893 : (Jvm.Cond.code ({ cls := "jdk/internal/util/ArraysSupport", name := "mismatch", desc := "([B[BI)I" } : Jvm.MethodName) prog_77_method_13_code (4 : Nat) (Option.some Jvm.ClassFile.FieldType.int)) ∈ lw_all := lw_g (lw_at lw_m4 91 rfl) rfl
theorem q894 : (Jvm.Cond.fieldLink "jdk/internal/util/ArraysSupport" (126 : Nat) "jdk/internal/misc/Unsafe" "ARRAY_BYTE_BASE_OFFSET" "I") ∈ lw_all := lw_g (lw_at lw_m4 92 rfl) rfl
theorem q896 : (Jvm.Cond.fieldLink "jdk/internal/util/ArraysSupport" (129 : Nat) "jdk/internal/util/ArraysSupport" "LOG2_ARRAY_BYTE_INDEX_SCALE" "I") ∈ lw_all := lw_g (lw_at lw_m4 94 rfl) rfl
theorem q897 : (Jvm.Cond.laysStatic "jdk/internal/util/ArraysSupport" "LOG2_ARRAY_BYTE_INDEX_SCALE" "I") ∈ lw_tbl := lw_at lw_m4 95 rfl
theorem q898 : (Jvm.Cond.methodLink "jdk/internal/util/ArraysSupport" (122 : Nat) ({ cls := "jdk/internal/util/ArraysSupport", name := "vectorizedMismatch", desc := "(Ljava/lang/Object;JLjava/lang/Object;JII)I" } : Jvm.MethodName)) ∈ lw_all := lw_g (lw_at lw_m4 96 rfl) rfl
theorem q899 : (Jvm.Cond.static ({ cls := "jdk/internal/util/ArraysSupport", name := "vectorizedMismatch", desc := "(Ljava/lang/Object;JLjava/lang/Object;JII)I" } : Jvm.MethodName)) ∈ lw_all := lw_g (lw_at lw_m4 97 rfl) rfl
theorem q900 : (Jvm.Cond.code ({ cls := "jdk/internal/util/ArraysSupport", name := "vectorizedMismatch", desc := "(Ljava/lang/Object;JLjava/lang/Object;JII)I" } : Jvm.MethodName) prog_77_method_3_code (19 : Nat) (Option.some Jvm.ClassFile.FieldType.int)) ∈ lw_all := lw_g (lw_at lw_m4 98 rfl) rfl
theorem q901 : (Jvm.Cond.fieldLink "jdk/internal/util/ArraysSupport" (20 : Nat) "jdk/internal/util/ArraysSupport" "LOG2_ARRAY_LONG_INDEX_SCALE" "I") ∈ lw_all := lw_g (lw_at lw_m4 99 rfl) rfl
theorem q902 : (Jvm.Cond.laysStatic "jdk/internal/util/ArraysSupport" "LOG2_ARRAY_LONG_INDEX_SCALE" "I") ∈ lw_tbl := lw_at lw_m4 100 rfl
theorem q903 : (Jvm.Cond.fieldLink "jdk/internal/util/ArraysSupport" (26 : Nat) "jdk/internal/util/ArraysSupport" "U" "Ljdk/internal/misc/Unsafe;") ∈ lw_all := lw_g (lw_at lw_m4 101 rfl) rfl
theorem q904 : (Jvm.Cond.laysStatic "jdk/internal/util/ArraysSupport" "U" "Ljdk/internal/misc/Unsafe;") ∈ lw_tbl := lw_at lw_m4 102 rfl
theorem q905 : (Jvm.Cond.methodLink "jdk/internal/util/ArraysSupport" (30 : Nat) ({ cls := "jdk/internal/misc/Unsafe", name := "getLongUnaligned", desc := "(Ljava/lang/Object;J)J" } : Jvm.MethodName)) ∈ lw_all := lw_g (lw_at lw_m4 103 rfl) rfl
theorem q957 : (Jvm.Cond.fieldLink "jdk/internal/util/ArraysSupport" (36 : Nat) "jdk/internal/util/ArraysSupport" "BIG_ENDIAN" "Z") ∈ lw_all := lw_g (lw_at lw_m4 155 rfl) rfl
theorem q958 : (Jvm.Cond.laysStatic "jdk/internal/util/ArraysSupport" "BIG_ENDIAN" "Z") ∈ lw_tbl := lw_at lw_m4 156 rfl
theorem q959 : (Jvm.Cond.methodLink "jdk/internal/util/ArraysSupport" (40 : Nat) ({ cls := "java/lang/Long", name := "numberOfLeadingZeros", desc := "(J)I" } : Jvm.MethodName)) ∈ lw_all := lw_g (lw_at lw_m4 157 rfl) rfl
theorem q966 : (Jvm.Cond.fieldLink "jdk/internal/util/ArraysSupport" (46 : Nat) "jdk/internal/util/ArraysSupport" "LOG2_BYTE_BIT_SIZE" "I") ∈ lw_all := lw_g (lw_at lw_m4 164 rfl) rfl
theorem q967 : (Jvm.Cond.laysStatic "jdk/internal/util/ArraysSupport" "LOG2_BYTE_BIT_SIZE" "I") ∈ lw_tbl := lw_at lw_m4 165 rfl
theorem q968 : (Jvm.Cond.methodLink "jdk/internal/util/ArraysSupport" (49 : Nat) ({ cls := "java/lang/Long", name := "numberOfTrailingZeros", desc := "(J)I" } : Jvm.MethodName)) ∈ lw_all := lw_g (lw_at lw_m4 166 rfl) rfl
theorem q974 : (Jvm.Cond.fieldLink "jdk/internal/util/ArraysSupport" (51 : Nat) "jdk/internal/util/ArraysSupport" "LOG2_ARRAY_INT_INDEX_SCALE" "I") ∈ lw_all := lw_g (lw_at lw_m4 172 rfl) rfl
theorem q975 : (Jvm.Cond.laysStatic "jdk/internal/util/ArraysSupport" "LOG2_ARRAY_INT_INDEX_SCALE" "I") ∈ lw_tbl := lw_at lw_m4 173 rfl
theorem q976 : (Jvm.Cond.methodLink "jdk/internal/util/ArraysSupport" (54 : Nat) ({ cls := "jdk/internal/misc/Unsafe", name := "getIntUnaligned", desc := "(Ljava/lang/Object;J)I" } : Jvm.MethodName)) ∈ lw_all := lw_g (lw_at lw_m4 174 rfl) rfl
theorem q993 : (Jvm.Cond.methodLink "jdk/internal/util/ArraysSupport" (58 : Nat) ({ cls := "java/lang/Integer", name := "numberOfLeadingZeros", desc := "(I)I" } : Jvm.MethodName)) ∈ lw_all := lw_g (lw_at lw_m4 191 rfl) rfl
theorem q994 : (Jvm.Cond.methodLink "jdk/internal/util/ArraysSupport" (11 : Nat) ({ cls := "java/lang/Integer", name := "numberOfTrailingZeros", desc := "(I)I" } : Jvm.MethodName)) ∈ lw_all := lw_g (lw_at lw_m4 192 rfl) rfl

/-! java/lang/Math -/
set_option maxRecDepth 100000
def RJ22 : String := "java/lang/Math"
abbrev cJ22_max : ByteArray := prog_38_method_65_code
def yJ22_max : MethodName := ⟨RJ22, "max", "(II)I"⟩
abbrev cJ22_min : ByteArray := prog_38_method_69_code
def yJ22_min : MethodName := ⟨RJ22, "min", "(II)I"⟩
theorem q109 : (Jvm.Cond.initialized "java/lang/Math") ∈ lw_all := lw_g (lw_at lw_m1 27 rfl) rfl
theorem q459 : (Jvm.Cond.static ({ cls := "java/lang/Math", name := "max", desc := "(II)I" } : Jvm.MethodName)) ∈ lw_all := lw_g (lw_at lw_m2 137 rfl) rfl
theorem q460 : (Jvm.Cond.code ({ cls := "java/lang/Math", name := "max", desc := "(II)I" } : Jvm.MethodName) prog_38_method_65_code (2 : Nat) (Option.some Jvm.ClassFile.FieldType.int)) ∈ lw_all := lw_g (lw_at lw_m2 138 rfl) rfl
theorem q477 : (Jvm.Cond.static ({ cls := "java/lang/Math", name := "min", desc := "(II)I" } : Jvm.MethodName)) ∈ lw_all := lw_g (lw_at lw_m2 155 rfl) rfl
theorem q478 : (Jvm.Cond.code ({ cls := "java/lang/Math", name := "min", desc := "(II)I" } : Jvm.MethodName) prog_38_method_69_code (2 : Nat) (Option.some Jvm.ClassFile.FieldType.int)) ∈ lw_all := lw_g (lw_at lw_m2 156 rfl) rfl

/-! java/util/Arrays -/
set_option maxRecDepth 100000
def RJ23 : String := "java/util/Arrays"
abbrev cJ23_copyOfRange : ByteArray := prog_58_method_132_code
def yJ23_copyOfRange : MethodName := ⟨RJ23, "copyOfRange", "([BII)[B"⟩
abbrev cJ23_copyOfRangeByte : ByteArray := prog_58_method_133_code
def yJ23_copyOfRangeByte : MethodName := ⟨RJ23, "copyOfRangeByte", "([BII)[B"⟩
abbrev cJ23_checkLength : ByteArray := prog_58_method_131_code
def yJ23_checkLength : MethodName := ⟨RJ23, "checkLength", "(II)V"⟩
abbrev cJ23_copyOf : ByteArray := prog_58_method_121_code
def yJ23_copyOf : MethodName := ⟨RJ23, "copyOf", "([BI)[B"⟩
abbrev cJ23_copyOf_2 : ByteArray := prog_58_method_119_code
def yJ23_copyOf_2 : MethodName := ⟨RJ23, "copyOf", "([Ljava/lang/Object;I)[Ljava/lang/Object;"⟩
abbrev cJ23_copyOf_3 : ByteArray := prog_58_method_120_code
def yJ23_copyOf_3 : MethodName := ⟨RJ23, "copyOf", "([Ljava/lang/Object;ILjava/lang/Class;)[Ljava/lang/Object;"⟩
abbrev cJ23_copyOfRange_2 : ByteArray := prog_58_method_130_code
def yJ23_copyOfRange_2 : MethodName := ⟨RJ23, "copyOfRange", "([Ljava/lang/Object;IILjava/lang/Class;)[Ljava/lang/Object;"⟩
theorem q110 : (Jvm.Cond.initialized "java/util/Arrays") ∈ lw_all := lw_g (lw_at lw_m1 28 rfl) rfl
theorem q378 : (Jvm.Cond.static ({ cls := "java/util/Arrays", name := "copyOfRange", desc := "([BII)[B" } : Jvm.MethodName)) ∈ lw_all := lw_g (lw_at lw_m2 56 rfl) rfl
theorem q379 : (Jvm.Cond.code ({ cls := "java/util/Arrays", name := "copyOfRange", desc := "([BII)[B" } : Jvm.MethodName) prog_58_method_132_code (3 : Nat) (Option.some (Jvm.ClassFile.FieldType.array Jvm.ClassFile.FieldType.byte))) ∈ lw_all := lw_g (lw_at lw_m2 57 rfl) rfl
theorem q380 : (Jvm.Cond.methodLink "java/util/Arrays" (339 : Nat) ({ cls := "java/util/Arrays", name := "copyOfRangeByte", desc := "([BII)[B" } : Jvm.MethodName)) ∈ lw_all := lw_g (lw_at lw_m2 58 rfl) rfl
theorem q381 : (Jvm.Cond.static ({ cls := "java/util/Arrays", name := "copyOfRangeByte", desc := "([BII)[B" } : Jvm.MethodName)) ∈ lw_all := lw_g (lw_at lw_m2 59 rfl) rfl
theorem q382 : (Jvm.Cond.code ({ cls := "java/util/Arrays", name := "copyOfRangeByte", desc := "([BII)[B" } : Jvm.MethodName) prog_58_method_133_code (5 : Nat) (Option.some (Jvm.ClassFile.FieldType.array Jvm.ClassFile.FieldType.byte))) ∈ lw_all := lw_g (lw_at lw_m2 60 rfl) rfl
theorem q383 : (Jvm.Cond.methodLink "java/util/Arrays" (343 : Nat) ({ cls := "java/util/Arrays", name := "checkLength", desc := "(II)V" } : Jvm.MethodName)) ∈ lw_all := lw_g (lw_at lw_m2 61 rfl) rfl
theorem q384 : (Jvm.Cond.static ({ cls := "java/util/Arrays", name := "checkLength", desc := "(II)V" } : Jvm.MethodName)) ∈ lw_all := lw_g (lw_at lw_m2 62 rfl) rfl
theorem q385 : (Jvm.Cond.code ({ cls := "java/util/Arrays", name := "checkLength", desc := "(II)V" } : Jvm.MethodName) prog_58_method_131_code (2 : Nat) (Option.none : Option Jvm.ClassFile.FieldType)) ∈ lw_all := lw_g (lw_at lw_m2 63 rfl) rfl
theorem q386 : (Jvm.Cond.classLink "java/util/Arrays" (43 : Nat) "java/lang/IllegalArgumentException") ∈ lw_all := lw_g (lw_at lw_m2 64 rfl) rfl
theorem q435 : (Jvm.Cond.classLink "java/util/Arrays" (45 : Nat) "java/lang/StringBuilder") ∈ lw_all := lw_g (lw_at lw_m2 113 rfl) rfl
theorem q436 : (Jvm.Cond.methodLink "java/util/Arrays" (47 : Nat) ({ cls := "java/lang/StringBuilder", name := "<init>", desc := "()V" } : Jvm.MethodName)) ∈ lw_all := lw_g (lw_at lw_m2 114 rfl) rfl
theorem q437 : (Jvm.Cond.methodLink "java/util/Arrays" (54 : Nat) ({ cls := "java/lang/StringBuilder", name := "append", desc := "(I)Ljava/lang/StringBuilder;" } : Jvm.MethodName)) ∈ lw_all := lw_g (lw_at lw_m2 115 rfl) rfl
theorem q467 : (Jvm.Cond.static ({ cls := "java/util/Arrays", name := "copyOf", desc := "([BI)[B" } : Jvm.MethodName)) ∈ lw_all := lw_g (lw_at lw_m2 145 rfl) rfl
theorem q468 : (Jvm.Cond.code ({ cls := "java/util/Arrays", name := "copyOf", desc := "([BI)[B" } : Jvm.MethodName) prog_58_method_121_code (3 : Nat) (Option.some (Jvm.ClassFile.FieldType.array Jvm.ClassFile.FieldType.byte))) ∈ lw_all := lw_g (lw_at lw_m2 146 rfl) rfl
theorem q469 : (Jvm.Cond.methodLink "java/util/Arrays" (310 : Nat) ({ cls := "[B", name := "clone", desc := "()Ljava/lang/Object;" } : Jvm.MethodName)) ∈ lw_all := lw_g (lw_at lw_m2 147 rfl) rfl
theorem q475 : (Jvm.Cond.classLink "java/util/Arrays" (311 : Nat) "[B") ∈ lw_all := lw_g (lw_at lw_m2 153 rfl) rfl
theorem q476 : (Jvm.Cond.methodLink "java/util/Arrays" (304 : Nat) ({ cls := "java/lang/Math", name := "min", desc := "(II)I" } : Jvm.MethodName)) ∈ lw_all := lw_g (lw_at lw_m2 154 rfl) rfl
theorem q479 : (Jvm.Cond.methodLink "java/util/Arrays" (150 : Nat) ({ cls := "java/lang/System", name := "arraycopy", desc := "(Ljava/lang/Object;ILjava/lang/Object;II)V" } : Jvm.MethodName)) ∈ lw_all := lw_g (lw_at lw_m2 157 rfl) rfl
theorem q521 : (Jvm.Cond.stringRef "java/util/Arrays" (337 : Nat) " > ") ∈ lw_tbl := lw_at lw_m2 199 rfl
theorem q522 : (Jvm.Cond.methodLink "java/util/Arrays" (50 : Nat) ({ cls := "java/lang/StringBuilder", name := "append", desc := "(Ljava/lang/String;)Ljava/lang/StringBuilder;" } : Jvm.MethodName)) ∈ lw_all := lw_g (lw_at lw_m2 200 rfl) rfl
theorem q579 : (Jvm.Cond.methodLink "java/util/Arrays" (61 : Nat) ({ cls := "java/lang/StringBuilder", name := "toString", desc := "()Ljava/lang/String;" } : Jvm.MethodName)) ∈ lw_all := lw_g (lw_at lw_m3 17 rfl) rfl
theorem q580 : (Jvm.Cond.methodLink "java/util/Arrays" (65 : Nat) ({ cls := "java/lang/IllegalArgumentException", name := "<init>", desc := "(Ljava/lang/String;)V" } : Jvm.MethodName)) ∈ lw_all := lw_g (lw_at lw_m3 18 rfl) rfl
theorem q1428 : (Jvm.Cond.static ({ cls := "java/util/Arrays", name := "copyOf", desc := "([Ljava/lang/Object;I)[Ljava/lang/Object;" } : Jvm.MethodName)) ∈ lw_all := lw_g (lw_at lw_m6 146 rfl) rfl
theorem q1429 : (Jvm.Cond.code ({ cls := "java/util/Arrays", name := "copyOf", desc := "([Ljava/lang/Object;I)[Ljava/lang/Object;" } : Jvm.MethodName) prog_58_method_119_code (2 : Nat) (Option.some (Jvm.ClassFile.FieldType.array (Jvm.ClassFile.FieldType.object "java/lang/Object")))) ∈ lw_all := lw_g (lw_at lw_m6 147 rfl) rfl
theorem q1430 : (Jvm.Cond.methodLink "java/util/Arrays" (86 : Nat) ({ cls := "java/lang/Object", name := "getClass", desc := "()Ljava/lang/Class;" } : Jvm.MethodName)) ∈ lw_all := lw_g (lw_at lw_m6 148 rfl) rfl
theorem q1431 : (Jvm.Cond.methodLink "java/util/Arrays" (300 : Nat) ({ cls := "java/util/Arrays", name := "copyOf", desc := "([Ljava/lang/Object;ILjava/lang/Class;)[Ljava/lang/Object;" } : Jvm.MethodName)) ∈ lw_all := lw_g (lw_at lw_m6 149 rfl) rfl
theorem q1432 : (Jvm.Cond.static ({ cls := "java/util/Arrays", name := "copyOf", desc := "([Ljava/lang/Object;ILjava/lang/Class;)[Ljava/lang/Object;" } : Jvm.MethodName)) ∈ lw_all := lw_g (lw_at lw_m6 150 rfl) rfl
theorem q1433 : (Jvm.Cond.code ({ cls := "java/util/Arrays", name := "copyOf", desc := "([Ljava/lang/Object;ILjava/lang/Class;)[Ljava/lang/Object;" } : Jvm.MethodName) prog_58_method_120_code (4 : Nat) (Option.some (Jvm.ClassFile.FieldType.array (Jvm.ClassFile.FieldType.object "java/lang/Object")))) ∈ lw_all := lw_g (lw_at lw_m6 151 rfl) rfl
theorem q1434 : (Jvm.Cond.classLink "java/util/Arrays" (110 : Nat) "[Ljava/lang/Object;") ∈ lw_all := lw_g (lw_at lw_m6 152 rfl) rfl
theorem q1435 : (Jvm.Cond.classLink "java/util/Arrays" (2 : Nat) "java/lang/Object") ∈ lw_all := lw_g (lw_at lw_m6 153 rfl) rfl
theorem q1549 : (Jvm.Cond.static ({ cls := "java/util/Arrays", name := "copyOfRange", desc := "([Ljava/lang/Object;IILjava/lang/Class;)[Ljava/lang/Object;" } : Jvm.MethodName)) ∈ lw_all := lw_g (lw_at lw_m7 27 rfl) rfl
theorem q1550 : (Jvm.Cond.code ({ cls := "java/util/Arrays", name := "copyOfRange", desc := "([Ljava/lang/Object;IILjava/lang/Class;)[Ljava/lang/Object;" } : Jvm.MethodName) prog_58_method_130_code (6 : Nat) (Option.some (Jvm.ClassFile.FieldType.array (Jvm.ClassFile.FieldType.object "java/lang/Object")))) ∈ lw_all := lw_g (lw_at lw_m7 28 rfl) rfl

/-! java/lang/IllegalStateException -/
set_option maxRecDepth 100000
def RJ29 : String := "java/lang/IllegalStateException"
def TJ29 : u_T := fun k => match k with
  | 0 => ("java/lang/Throwable", "cause", "Ljava/lang/Throwable;", false)
  | 1 => ("java/lang/Throwable", "stackTrace", "[Ljava/lang/StackTraceElement;", false)
  | 2 => ("java/lang/Throwable", "suppressedExceptions", "Ljava/util/List;", false)
  | 3 => ("java/lang/Throwable", "detailMessage", "Ljava/lang/String;", false)
  | 4 => ("java/lang/Throwable", "backtrace", "Ljava/lang/Object;", false)
  | _ => ("java/lang/Throwable", "depth", "I", false)
def tyJ29 : Nat → FieldType := fun k => match k with
  | 0 => .object "java/lang/Throwable"
  | 1 => .array (.object "java/lang/StackTraceElement")
  | 2 => .object "java/util/List"
  | 3 => .object "java/lang/String"
  | 4 => .object "java/lang/Object"
  | _ => .int
abbrev wsJ290 : List Cond := u_ws RJ29 TJ29 6
theorem nmJ29 : ∀ a, a < 6 → ∀ b, b < 6 → a ≠ b → (TJ29 a).2.1 ≠ (TJ29 b).2.1 := by decide +kernel
theorem tyJ29_ok : ∀ k, k < 6 → parseFieldDescriptor (TJ29 k).2.2.1 = some (tyJ29 k) := by decide +kernel
abbrev cJ29_init : ByteArray := prog_32_method_2_code
def yJ29_init : MethodName := ⟨RJ29, "<init>", "(Ljava/lang/String;)V"⟩
abbrev cJ29_init_2 : ByteArray := prog_32_method_1_code
def yJ29_init_2 : MethodName := ⟨RJ29, "<init>", "()V"⟩
theorem q121 : (Jvm.Cond.initialized "java/lang/IllegalStateException") ∈ lw_all := lw_g (lw_at lw_m1 39 rfl) rfl
theorem q425 : (Jvm.Cond.selects "java/lang/IllegalStateException" ({ cls := "java/lang/Throwable", name := "fillInStackTrace", desc := "()Ljava/lang/Throwable;" } : Jvm.MethodName) ({ cls := "java/lang/Throwable", name := "fillInStackTrace", desc := "()Ljava/lang/Throwable;" } : Jvm.MethodName)) ∈ lw_all := lw_g (lw_at lw_m2 103 rfl) rfl
theorem q672 : (Jvm.Cond.selects "java/lang/IllegalStateException" ({ cls := "java/lang/Object", name := "hashCode", desc := "()I" } : Jvm.MethodName) ({ cls := "java/lang/Object", name := "hashCode", desc := "()I" } : Jvm.MethodName)) ∈ lw_all := lw_g (lw_at lw_m3 110 rfl) rfl
theorem q771 : (Jvm.Cond.selects "java/lang/IllegalStateException" ({ cls := "java/lang/Object", name := "equals", desc := "(Ljava/lang/Object;)Z" } : Jvm.MethodName) ({ cls := "java/lang/Object", name := "equals", desc := "(Ljava/lang/Object;)Z" } : Jvm.MethodName)) ∈ lw_all := lw_g (lw_at lw_m3 209 rfl) rfl
theorem q836 : (Jvm.Cond.selects "java/lang/IllegalStateException" ({ cls := "java/lang/Object", name := "getClass", desc := "()Ljava/lang/Class;" } : Jvm.MethodName) ({ cls := "java/lang/Object", name := "getClass", desc := "()Ljava/lang/Class;" } : Jvm.MethodName)) ∈ lw_all := lw_g (lw_at lw_m4 34 rfl) rfl
theorem q1644 : (Jvm.Cond.instantiable "java/lang/IllegalStateException" (6 : Nat)) ∈ lw_all := lw_g (lw_at lw_m7 122 rfl) rfl
theorem q1645 : (Jvm.Cond.castable "java/lang/IllegalStateException" "java/lang/IllegalStateException") ∈ lw_tbl := lw_at lw_m7 123 rfl
theorem q1646 : (Jvm.Cond.selects "java/lang/IllegalStateException" ({ cls := "java/lang/Throwable", name := "fillInStackTrace", desc := "(I)Ljava/lang/Throwable;" } : Jvm.MethodName) ({ cls := "java/lang/Throwable", name := "fillInStackTrace", desc := "(I)Ljava/lang/Throwable;" } : Jvm.MethodName)) ∈ lw_all := lw_g (lw_at lw_m7 124 rfl) rfl
theorem q1647 : (Jvm.Cond.lays "java/lang/IllegalStateException" "java/lang/Throwable" "cause" "Ljava/lang/Throwable;") ∈ lw_all := lw_g (lw_at lw_m7 125 rfl) rfl
theorem q1648 : (Jvm.Cond.lays "java/lang/IllegalStateException" "java/lang/Throwable" "stackTrace" "[Ljava/lang/StackTraceElement;") ∈ lw_all := lw_g (lw_at lw_m7 126 rfl) rfl
theorem q1649 : (Jvm.Cond.lays "java/lang/IllegalStateException" "java/lang/Throwable" "suppressedExceptions" "Ljava/util/List;") ∈ lw_all := lw_g (lw_at lw_m7 127 rfl) rfl
theorem q1650 : (Jvm.Cond.lays "java/lang/IllegalStateException" "java/lang/Throwable" "detailMessage" "Ljava/lang/String;") ∈ lw_all := lw_g (lw_at lw_m7 128 rfl) rfl
theorem q1651 : (Jvm.Cond.lays "java/lang/IllegalStateException" "java/lang/Throwable" "backtrace" "Ljava/lang/Object;") ∈ lw_all := lw_g (lw_at lw_m7 129 rfl) rfl
theorem q1654 : (Jvm.Cond.instanceMethod ({ cls := "java/lang/IllegalStateException", name := "<init>", desc := "(Ljava/lang/String;)V" } : Jvm.MethodName)) ∈ lw_all := lw_g (lw_at lw_m7 132 rfl) rfl
theorem q1655 : (Jvm.Cond.code ({ cls := "java/lang/IllegalStateException", name := "<init>", desc := "(Ljava/lang/String;)V" } : Jvm.MethodName) prog_32_method_2_code (2 : Nat) (Option.none : Option Jvm.ClassFile.FieldType)) ∈ lw_all := lw_g (lw_at lw_m7 133 rfl) rfl
theorem q1656 : (Jvm.Cond.methodLink "java/lang/IllegalStateException" (7 : Nat) ({ cls := "java/lang/RuntimeException", name := "<init>", desc := "(Ljava/lang/String;)V" } : Jvm.MethodName)) ∈ lw_all := lw_g (lw_at lw_m7 134 rfl) rfl
theorem q1657 : (Jvm.Cond.lays "java/lang/IllegalStateException" "java/lang/Throwable" "depth" "I") ∈ lw_all := lw_g (lw_at lw_m7 135 rfl) rfl
theorem q1658 : (Jvm.Cond.superclass "java/lang/IllegalStateException" "java/lang/RuntimeException") ∈ lw_all := lw_g (lw_at lw_m7 136 rfl) rfl
theorem q1733 : (Jvm.Cond.instanceMethod ({ cls := "java/lang/IllegalStateException", name := "<init>", desc := "()V" } : Jvm.MethodName)) ∈ lw_all := lw_g (lw_at lw_m7 211 rfl) rfl
theorem q1734 : (Jvm.Cond.code ({ cls := "java/lang/IllegalStateException", name := "<init>", desc := "()V" } : Jvm.MethodName) prog_32_method_1_code (1 : Nat) (Option.none : Option Jvm.ClassFile.FieldType)) ∈ lw_all := lw_g (lw_at lw_m7 212 rfl) rfl
theorem q1735 : (Jvm.Cond.methodLink "java/lang/IllegalStateException" (1 : Nat) ({ cls := "java/lang/RuntimeException", name := "<init>", desc := "()V" } : Jvm.MethodName)) ∈ lw_all := lw_g (lw_at lw_m7 213 rfl) rfl
theorem q2121 : (Jvm.Cond.selects "java/lang/IllegalStateException" ({ cls := "java/lang/Throwable", name := "getCause", desc := "()Ljava/lang/Throwable;" } : Jvm.MethodName) ({ cls := "java/lang/Throwable", name := "getCause", desc := "()Ljava/lang/Throwable;" } : Jvm.MethodName)) ∈ lw_all := lw_g (lw_at lw_m9 119 rfl) rfl
theorem q3248 : (Jvm.Cond.castable "java/lang/IllegalStateException" "java/lang/Object") ∈ lw_tbl := lw_at lw_m14 46 rfl
theorem in_J29 : ∀ w ∈ wsJ290, w ∈ lw_all := lw_in wsJ290 [1647, 1648, 1649, 1650, 1651, 1657] (by decide +kernel) (by decide +kernel)

/-! java/lang/IndexOutOfBoundsException -/
set_option maxRecDepth 100000
def RJ30 : String := "java/lang/IndexOutOfBoundsException"
def TJ30 : u_T := fun k => match k with
  | 0 => ("java/lang/Throwable", "cause", "Ljava/lang/Throwable;", false)
  | 1 => ("java/lang/Throwable", "stackTrace", "[Ljava/lang/StackTraceElement;", false)
  | 2 => ("java/lang/Throwable", "suppressedExceptions", "Ljava/util/List;", false)
  | 3 => ("java/lang/Throwable", "detailMessage", "Ljava/lang/String;", false)
  | 4 => ("java/lang/Throwable", "backtrace", "Ljava/lang/Object;", false)
  | _ => ("java/lang/Throwable", "depth", "I", false)
def tyJ30 : Nat → FieldType := fun k => match k with
  | 0 => .object "java/lang/Throwable"
  | 1 => .array (.object "java/lang/StackTraceElement")
  | 2 => .object "java/util/List"
  | 3 => .object "java/lang/String"
  | 4 => .object "java/lang/Object"
  | _ => .int
abbrev wsJ300 : List Cond := u_ws RJ30 TJ30 6
theorem nmJ30 : ∀ a, a < 6 → ∀ b, b < 6 → a ≠ b → (TJ30 a).2.1 ≠ (TJ30 b).2.1 := by decide +kernel
theorem tyJ30_ok : ∀ k, k < 6 → parseFieldDescriptor (TJ30 k).2.2.1 = some (tyJ30 k) := by decide +kernel
abbrev cJ30_init : ByteArray := prog_33_method_2_code
def yJ30_init : MethodName := ⟨RJ30, "<init>", "(Ljava/lang/String;)V"⟩
abbrev cJ30_init_2 : ByteArray := prog_33_method_1_code
def yJ30_init_2 : MethodName := ⟨RJ30, "<init>", "()V"⟩
theorem q122 : (Jvm.Cond.initialized "java/lang/IndexOutOfBoundsException") ∈ lw_all := lw_g (lw_at lw_m1 40 rfl) rfl
theorem q426 : (Jvm.Cond.selects "java/lang/IndexOutOfBoundsException" ({ cls := "java/lang/Throwable", name := "fillInStackTrace", desc := "()Ljava/lang/Throwable;" } : Jvm.MethodName) ({ cls := "java/lang/Throwable", name := "fillInStackTrace", desc := "()Ljava/lang/Throwable;" } : Jvm.MethodName)) ∈ lw_all := lw_g (lw_at lw_m2 104 rfl) rfl
theorem q673 : (Jvm.Cond.selects "java/lang/IndexOutOfBoundsException" ({ cls := "java/lang/Object", name := "hashCode", desc := "()I" } : Jvm.MethodName) ({ cls := "java/lang/Object", name := "hashCode", desc := "()I" } : Jvm.MethodName)) ∈ lw_all := lw_g (lw_at lw_m3 111 rfl) rfl
theorem q772 : (Jvm.Cond.selects "java/lang/IndexOutOfBoundsException" ({ cls := "java/lang/Object", name := "equals", desc := "(Ljava/lang/Object;)Z" } : Jvm.MethodName) ({ cls := "java/lang/Object", name := "equals", desc := "(Ljava/lang/Object;)Z" } : Jvm.MethodName)) ∈ lw_all := lw_g (lw_at lw_m3 210 rfl) rfl
theorem q837 : (Jvm.Cond.selects "java/lang/IndexOutOfBoundsException" ({ cls := "java/lang/Object", name := "getClass", desc := "()Ljava/lang/Class;" } : Jvm.MethodName) ({ cls := "java/lang/Object", name := "getClass", desc := "()Ljava/lang/Class;" } : Jvm.MethodName)) ∈ lw_all := lw_g (lw_at lw_m4 35 rfl) rfl
theorem q1677 : (Jvm.Cond.instanceMethod ({ cls := "java/lang/IndexOutOfBoundsException", name := "<init>", desc := "(Ljava/lang/String;)V" } : Jvm.MethodName)) ∈ lw_all := lw_g (lw_at lw_m7 155 rfl) rfl
theorem q1678 : (Jvm.Cond.code ({ cls := "java/lang/IndexOutOfBoundsException", name := "<init>", desc := "(Ljava/lang/String;)V" } : Jvm.MethodName) prog_33_method_2_code (2 : Nat) (Option.none : Option Jvm.ClassFile.FieldType)) ∈ lw_all := lw_g (lw_at lw_m7 156 rfl) rfl
theorem q1679 : (Jvm.Cond.methodLink "java/lang/IndexOutOfBoundsException" (7 : Nat) ({ cls := "java/lang/RuntimeException", name := "<init>", desc := "(Ljava/lang/String;)V" } : Jvm.MethodName)) ∈ lw_all := lw_g (lw_at lw_m7 157 rfl) rfl
theorem q1688 : (Jvm.Cond.declares ({ cls := "java/lang/IndexOutOfBoundsException", name := "<init>", desc := "()V" } : Jvm.MethodName)) ∈ lw_tbl := lw_at lw_m7 166 rfl
theorem q1689 : (Jvm.Cond.declares ({ cls := "java/lang/IndexOutOfBoundsException", name := "<init>", desc := "(Ljava/lang/String;)V" } : Jvm.MethodName)) ∈ lw_tbl := lw_at lw_m7 167 rfl
theorem q1708 : (Jvm.Cond.instantiable "java/lang/IndexOutOfBoundsException" (6 : Nat)) ∈ lw_all := lw_g (lw_at lw_m7 186 rfl) rfl
theorem q1709 : (Jvm.Cond.castable "java/lang/IndexOutOfBoundsException" "java/lang/IndexOutOfBoundsException") ∈ lw_tbl := lw_at lw_m7 187 rfl
theorem q1710 : (Jvm.Cond.selects "java/lang/IndexOutOfBoundsException" ({ cls := "java/lang/Throwable", name := "fillInStackTrace", desc := "(I)Ljava/lang/Throwable;" } : Jvm.MethodName) ({ cls := "java/lang/Throwable", name := "fillInStackTrace", desc := "(I)Ljava/lang/Throwable;" } : Jvm.MethodName)) ∈ lw_all := lw_g (lw_at lw_m7 188 rfl) rfl
theorem q1711 : (Jvm.Cond.lays "java/lang/IndexOutOfBoundsException" "java/lang/Throwable" "cause" "Ljava/lang/Throwable;") ∈ lw_all := lw_g (lw_at lw_m7 189 rfl) rfl
theorem q1712 : (Jvm.Cond.lays "java/lang/IndexOutOfBoundsException" "java/lang/Throwable" "stackTrace" "[Ljava/lang/StackTraceElement;") ∈ lw_all := lw_g (lw_at lw_m7 190 rfl) rfl
theorem q1713 : (Jvm.Cond.lays "java/lang/IndexOutOfBoundsException" "java/lang/Throwable" "suppressedExceptions" "Ljava/util/List;") ∈ lw_all := lw_g (lw_at lw_m7 191 rfl) rfl
theorem q1714 : (Jvm.Cond.lays "java/lang/IndexOutOfBoundsException" "java/lang/Throwable" "detailMessage" "Ljava/lang/String;") ∈ lw_all := lw_g (lw_at lw_m7 192 rfl) rfl
theorem q1715 : (Jvm.Cond.lays "java/lang/IndexOutOfBoundsException" "java/lang/Throwable" "backtrace" "Ljava/lang/Object;") ∈ lw_all := lw_g (lw_at lw_m7 193 rfl) rfl
theorem q1717 : (Jvm.Cond.instanceMethod ({ cls := "java/lang/IndexOutOfBoundsException", name := "<init>", desc := "()V" } : Jvm.MethodName)) ∈ lw_all := lw_g (lw_at lw_m7 195 rfl) rfl
theorem q1718 : (Jvm.Cond.code ({ cls := "java/lang/IndexOutOfBoundsException", name := "<init>", desc := "()V" } : Jvm.MethodName) prog_33_method_1_code (1 : Nat) (Option.none : Option Jvm.ClassFile.FieldType)) ∈ lw_all := lw_g (lw_at lw_m7 196 rfl) rfl
theorem q1719 : (Jvm.Cond.methodLink "java/lang/IndexOutOfBoundsException" (1 : Nat) ({ cls := "java/lang/RuntimeException", name := "<init>", desc := "()V" } : Jvm.MethodName)) ∈ lw_all := lw_g (lw_at lw_m7 197 rfl) rfl
theorem q1720 : (Jvm.Cond.lays "java/lang/IndexOutOfBoundsException" "java/lang/Throwable" "depth" "I") ∈ lw_all := lw_g (lw_at lw_m7 198 rfl) rfl
theorem q1721 : (Jvm.Cond.superclass "java/lang/IndexOutOfBoundsException" "java/lang/RuntimeException") ∈ lw_all := lw_g (lw_at lw_m7 199 rfl) rfl
theorem q2122 : (Jvm.Cond.selects "java/lang/IndexOutOfBoundsException" ({ cls := "java/lang/Throwable", name := "getCause", desc := "()Ljava/lang/Throwable;" } : Jvm.MethodName) ({ cls := "java/lang/Throwable", name := "getCause", desc := "()Ljava/lang/Throwable;" } : Jvm.MethodName)) ∈ lw_all := lw_g (lw_at lw_m9 120 rfl) rfl
theorem q3251 : (Jvm.Cond.castable "java/lang/IndexOutOfBoundsException" "java/lang/Object") ∈ lw_tbl := lw_at lw_m14 49 rfl
theorem in_J30 : ∀ w ∈ wsJ300, w ∈ lw_all := lw_in wsJ300 [1711, 1712, 1713, 1714, 1715, 1720] (by decide +kernel) (by decide +kernel)

/-! java/lang/UnsupportedOperationException -/
set_option maxRecDepth 100000
def RJ33 : String := "java/lang/UnsupportedOperationException"
def TJ33 : u_T := fun k => match k with
  | 0 => ("java/lang/Throwable", "cause", "Ljava/lang/Throwable;", false)
  | 1 => ("java/lang/Throwable", "stackTrace", "[Ljava/lang/StackTraceElement;", false)
  | 2 => ("java/lang/Throwable", "suppressedExceptions", "Ljava/util/List;", false)
  | 3 => ("java/lang/Throwable", "detailMessage", "Ljava/lang/String;", false)
  | 4 => ("java/lang/Throwable", "backtrace", "Ljava/lang/Object;", false)
  | _ => ("java/lang/Throwable", "depth", "I", false)
def tyJ33 : Nat → FieldType := fun k => match k with
  | 0 => .object "java/lang/Throwable"
  | 1 => .array (.object "java/lang/StackTraceElement")
  | 2 => .object "java/util/List"
  | 3 => .object "java/lang/String"
  | 4 => .object "java/lang/Object"
  | _ => .int
abbrev wsJ330 : List Cond := u_ws RJ33 TJ33 6
theorem nmJ33 : ∀ a, a < 6 → ∀ b, b < 6 → a ≠ b → (TJ33 a).2.1 ≠ (TJ33 b).2.1 := by decide +kernel
theorem tyJ33_ok : ∀ k, k < 6 → parseFieldDescriptor (TJ33 k).2.2.1 = some (tyJ33 k) := by decide +kernel
abbrev cJ33_init : ByteArray := prog_48_method_1_code
def yJ33_init : MethodName := ⟨RJ33, "<init>", "()V"⟩
theorem q133 : (Jvm.Cond.initialized "java/lang/UnsupportedOperationException") ∈ lw_all := lw_g (lw_at lw_m1 51 rfl) rfl
theorem q427 : (Jvm.Cond.selects "java/lang/UnsupportedOperationException" ({ cls := "java/lang/Throwable", name := "fillInStackTrace", desc := "()Ljava/lang/Throwable;" } : Jvm.MethodName) ({ cls := "java/lang/Throwable", name := "fillInStackTrace", desc := "()Ljava/lang/Throwable;" } : Jvm.MethodName)) ∈ lw_all := lw_g (lw_at lw_m2 105 rfl) rfl
theorem q742 : (Jvm.Cond.selects "java/lang/UnsupportedOperationException" ({ cls := "java/lang/Object", name := "hashCode", desc := "()I" } : Jvm.MethodName) ({ cls := "java/lang/Object", name := "hashCode", desc := "()I" } : Jvm.MethodName)) ∈ lw_all := lw_g (lw_at lw_m3 180 rfl) rfl
theorem q790 : (Jvm.Cond.selects "java/lang/UnsupportedOperationException" ({ cls := "java/lang/Object", name := "equals", desc := "(Ljava/lang/Object;)Z" } : Jvm.MethodName) ({ cls := "java/lang/Object", name := "equals", desc := "(Ljava/lang/Object;)Z" } : Jvm.MethodName)) ∈ lw_all := lw_g (lw_at lw_m3 228 rfl) rfl
theorem q842 : (Jvm.Cond.selects "java/lang/UnsupportedOperationException" ({ cls := "java/lang/Object", name := "getClass", desc := "()Ljava/lang/Class;" } : Jvm.MethodName) ({ cls := "java/lang/Object", name := "getClass", desc := "()Ljava/lang/Class;" } : Jvm.MethodName)) ∈ lw_all := lw_g (lw_at lw_m4 40 rfl) rfl
theorem q2123 : (Jvm.Cond.selects "java/lang/UnsupportedOperationException" ({ cls := "java/lang/Throwable", name := "getCause", desc := "()Ljava/lang/Throwable;" } : Jvm.MethodName) ({ cls := "java/lang/Throwable", name := "getCause", desc := "()Ljava/lang/Throwable;" } : Jvm.MethodName)) ∈ lw_all := lw_g (lw_at lw_m9 121 rfl) rfl
theorem q2127 : (Jvm.Cond.instantiable "java/lang/UnsupportedOperationException" (6 : Nat)) ∈ lw_all := lw_g (lw_at lw_m9 125 rfl) rfl
theorem q2128 : (Jvm.Cond.castable "java/lang/UnsupportedOperationException" "java/lang/UnsupportedOperationException") ∈ lw_tbl := lw_at lw_m9 126 rfl
theorem q2129 : (Jvm.Cond.selects "java/lang/UnsupportedOperationException" ({ cls := "java/lang/Throwable", name := "fillInStackTrace", desc := "(I)Ljava/lang/Throwable;" } : Jvm.MethodName) ({ cls := "java/lang/Throwable", name := "fillInStackTrace", desc := "(I)Ljava/lang/Throwable;" } : Jvm.MethodName)) ∈ lw_all := lw_g (lw_at lw_m9 127 rfl) rfl
theorem q2130 : (Jvm.Cond.lays "java/lang/UnsupportedOperationException" "java/lang/Throwable" "cause" "Ljava/lang/Throwable;") ∈ lw_all := lw_g (lw_at lw_m9 128 rfl) rfl
theorem q2131 : (Jvm.Cond.lays "java/lang/UnsupportedOperationException" "java/lang/Throwable" "stackTrace" "[Ljava/lang/StackTraceElement;") ∈ lw_all := lw_g (lw_at lw_m9 129 rfl) rfl
theorem q2132 : (Jvm.Cond.lays "java/lang/UnsupportedOperationException" "java/lang/Throwable" "suppressedExceptions" "Ljava/util/List;") ∈ lw_all := lw_g (lw_at lw_m9 130 rfl) rfl
theorem q2133 : (Jvm.Cond.lays "java/lang/UnsupportedOperationException" "java/lang/Throwable" "detailMessage" "Ljava/lang/String;") ∈ lw_all := lw_g (lw_at lw_m9 131 rfl) rfl
theorem q2134 : (Jvm.Cond.lays "java/lang/UnsupportedOperationException" "java/lang/Throwable" "backtrace" "Ljava/lang/Object;") ∈ lw_all := lw_g (lw_at lw_m9 132 rfl) rfl
theorem q2136 : (Jvm.Cond.instanceMethod ({ cls := "java/lang/UnsupportedOperationException", name := "<init>", desc := "()V" } : Jvm.MethodName)) ∈ lw_all := lw_g (lw_at lw_m9 134 rfl) rfl
theorem q2137 : (Jvm.Cond.code ({ cls := "java/lang/UnsupportedOperationException", name := "<init>", desc := "()V" } : Jvm.MethodName) prog_48_method_1_code (1 : Nat) (Option.none : Option Jvm.ClassFile.FieldType)) ∈ lw_all := lw_g (lw_at lw_m9 135 rfl) rfl
theorem q2138 : (Jvm.Cond.methodLink "java/lang/UnsupportedOperationException" (1 : Nat) ({ cls := "java/lang/RuntimeException", name := "<init>", desc := "()V" } : Jvm.MethodName)) ∈ lw_all := lw_g (lw_at lw_m9 136 rfl) rfl
theorem q2139 : (Jvm.Cond.lays "java/lang/UnsupportedOperationException" "java/lang/Throwable" "depth" "I") ∈ lw_all := lw_g (lw_at lw_m9 137 rfl) rfl
theorem q2140 : (Jvm.Cond.superclass "java/lang/UnsupportedOperationException" "java/lang/RuntimeException") ∈ lw_all := lw_g (lw_at lw_m9 138 rfl) rfl
theorem q3260 : (Jvm.Cond.castable "java/lang/UnsupportedOperationException" "java/lang/Object") ∈ lw_tbl := lw_at lw_m14 58 rfl
theorem in_J33 : ∀ w ∈ wsJ330, w ∈ lw_all := lw_in wsJ330 [2130, 2131, 2132, 2133, 2134, 2139] (by decide +kernel) (by decide +kernel)

/-! java/lang/ArithmeticException -/
set_option maxRecDepth 100000
def RJ34 : String := "java/lang/ArithmeticException"
def TJ34 : u_T := fun k => match k with
  | 0 => ("java/lang/Throwable", "backtrace", "Ljava/lang/Object;", false)
  | 1 => ("java/lang/Throwable", "detailMessage", "Ljava/lang/String;", false)
  | 2 => ("java/lang/Throwable", "cause", "Ljava/lang/Throwable;", false)
  | 3 => ("java/lang/Throwable", "stackTrace", "[Ljava/lang/StackTraceElement;", false)
  | 4 => ("java/lang/Throwable", "depth", "I", false)
  | _ => ("java/lang/Throwable", "suppressedExceptions", "Ljava/util/List;", false)
def tyJ34 : Nat → FieldType := fun k => match k with
  | 0 => .object "java/lang/Object"
  | 1 => .object "java/lang/String"
  | 2 => .object "java/lang/Throwable"
  | 3 => .array (.object "java/lang/StackTraceElement")
  | 4 => .int
  | _ => .object "java/util/List"
abbrev wsJ340 : List Cond := u_ws RJ34 TJ34 6
theorem nmJ34 : ∀ a, a < 6 → ∀ b, b < 6 → a ≠ b → (TJ34 a).2.1 ≠ (TJ34 b).2.1 := by decide +kernel
theorem tyJ34_ok : ∀ k, k < 6 → parseFieldDescriptor (TJ34 k).2.2.1 = some (tyJ34 k) := by decide +kernel
abbrev cJ34_init : ByteArray := prog_25_method_2_code
def yJ34_init : MethodName := ⟨RJ34, "<init>", "(Ljava/lang/String;)V"⟩
abbrev cJ34_init_2 : ByteArray := prog_25_method_1_code
def yJ34_init_2 : MethodName := ⟨RJ34, "<init>", "()V"⟩
theorem q135 : (Jvm.Cond.initialized "java/lang/ArithmeticException") ∈ lw_all := lw_g (lw_at lw_m1 53 rfl) rfl
theorem q423 : (Jvm.Cond.selects "java/lang/ArithmeticException" ({ cls := "java/lang/Throwable", name := "fillInStackTrace", desc := "()Ljava/lang/Throwable;" } : Jvm.MethodName) ({ cls := "java/lang/Throwable", name := "fillInStackTrace", desc := "()Ljava/lang/Throwable;" } : Jvm.MethodName)) ∈ lw_all := lw_g (lw_at lw_m2 101 rfl) rfl
theorem q669 : (Jvm.Cond.selects "java/lang/ArithmeticException" ({ cls := "java/lang/Object", name := "hashCode", desc := "()I" } : Jvm.MethodName) ({ cls := "java/lang/Object", name := "hashCode", desc := "()I" } : Jvm.MethodName)) ∈ lw_all := lw_g (lw_at lw_m3 107 rfl) rfl
theorem q768 : (Jvm.Cond.selects "java/lang/ArithmeticException" ({ cls := "java/lang/Object", name := "equals", desc := "(Ljava/lang/Object;)Z" } : Jvm.MethodName) ({ cls := "java/lang/Object", name := "equals", desc := "(Ljava/lang/Object;)Z" } : Jvm.MethodName)) ∈ lw_all := lw_g (lw_at lw_m3 206 rfl) rfl
theorem q833 : (Jvm.Cond.selects "java/lang/ArithmeticException" ({ cls := "java/lang/Object", name := "getClass", desc := "()Ljava/lang/Class;" } : Jvm.MethodName) ({ cls := "java/lang/Object", name := "getClass", desc := "()Ljava/lang/Class;" } : Jvm.MethodName)) ∈ lw_all := lw_g (lw_at lw_m4 31 rfl) rfl
theorem q2118 : (Jvm.Cond.selects "java/lang/ArithmeticException" ({ cls := "java/lang/Throwable", name := "getCause", desc := "()Ljava/lang/Throwable;" } : Jvm.MethodName) ({ cls := "java/lang/Throwable", name := "getCause", desc := "()Ljava/lang/Throwable;" } : Jvm.MethodName)) ∈ lw_all := lw_g (lw_at lw_m9 116 rfl) rfl
theorem q2426 : (Jvm.Cond.instantiable "java/lang/ArithmeticException" (6 : Nat)) ∈ lw_all := lw_g (lw_at lw_m10 184 rfl) rfl
theorem q2427 : (Jvm.Cond.instanceMethod ({ cls := "java/lang/ArithmeticException", name := "<init>", desc := "(Ljava/lang/String;)V" } : Jvm.MethodName)) ∈ lw_all := lw_g (lw_at lw_m10 185 rfl) rfl
theorem q2428 : (Jvm.Cond.code ({ cls := "java/lang/ArithmeticException", name := "<init>", desc := "(Ljava/lang/String;)V" } : Jvm.MethodName) prog_25_method_2_code (2 : Nat) (Option.none : Option Jvm.ClassFile.FieldType)) ∈ lw_all := lw_g (lw_at lw_m10 186 rfl) rfl
theorem q2429 : (Jvm.Cond.methodLink "java/lang/ArithmeticException" (7 : Nat) ({ cls := "java/lang/RuntimeException", name := "<init>", desc := "(Ljava/lang/String;)V" } : Jvm.MethodName)) ∈ lw_all := lw_g (lw_at lw_m10 187 rfl) rfl
theorem q2430 : (Jvm.Cond.lays "java/lang/ArithmeticException" "java/lang/Throwable" "backtrace" "Ljava/lang/Object;") ∈ lw_all := lw_g (lw_at lw_m10 188 rfl) rfl
theorem q2431 : (Jvm.Cond.lays "java/lang/ArithmeticException" "java/lang/Throwable" "detailMessage" "Ljava/lang/String;") ∈ lw_all := lw_g (lw_at lw_m10 189 rfl) rfl
theorem q2432 : (Jvm.Cond.lays "java/lang/ArithmeticException" "java/lang/Throwable" "cause" "Ljava/lang/Throwable;") ∈ lw_all := lw_g (lw_at lw_m10 190 rfl) rfl
theorem q2433 : (Jvm.Cond.lays "java/lang/ArithmeticException" "java/lang/Throwable" "stackTrace" "[Ljava/lang/StackTraceElement;") ∈ lw_all := lw_g (lw_at lw_m10 191 rfl) rfl
theorem q2434 : (Jvm.Cond.lays "java/lang/ArithmeticException" "java/lang/Throwable" "depth" "I") ∈ lw_all := lw_g (lw_at lw_m10 192 rfl) rfl
theorem q2435 : (Jvm.Cond.lays "java/lang/ArithmeticException" "java/lang/Throwable" "suppressedExceptions" "Ljava/util/List;") ∈ lw_all := lw_g (lw_at lw_m10 193 rfl) rfl
theorem q2436 : (Jvm.Cond.superclass "java/lang/ArithmeticException" "java/lang/RuntimeException") ∈ lw_all := lw_g (lw_at lw_m10 194 rfl) rfl
theorem q2437 : (Jvm.Cond.castable "java/lang/ArithmeticException" "java/lang/ArithmeticException") ∈ lw_tbl := lw_at lw_m10 195 rfl
theorem q2438 : (Jvm.Cond.selects "java/lang/ArithmeticException" ({ cls := "java/lang/Throwable", name := "fillInStackTrace", desc := "(I)Ljava/lang/Throwable;" } : Jvm.MethodName) ({ cls := "java/lang/Throwable", name := "fillInStackTrace", desc := "(I)Ljava/lang/Throwable;" } : Jvm.MethodName)) ∈ lw_all := lw_g (lw_at lw_m10 196 rfl) rfl
theorem q2448 : (Jvm.Cond.instanceMethod ({ cls := "java/lang/ArithmeticException", name := "<init>", desc := "()V" } : Jvm.MethodName)) ∈ lw_all := lw_g (lw_at lw_m10 206 rfl) rfl
theorem q2449 : (Jvm.Cond.code ({ cls := "java/lang/ArithmeticException", name := "<init>", desc := "()V" } : Jvm.MethodName) prog_25_method_1_code (1 : Nat) (Option.none : Option Jvm.ClassFile.FieldType)) ∈ lw_all := lw_g (lw_at lw_m10 207 rfl) rfl
theorem q2450 : (Jvm.Cond.methodLink "java/lang/ArithmeticException" (1 : Nat) ({ cls := "java/lang/RuntimeException", name := "<init>", desc := "()V" } : Jvm.MethodName)) ∈ lw_all := lw_g (lw_at lw_m10 208 rfl) rfl
theorem q3262 : (Jvm.Cond.castable "java/lang/ArithmeticException" "java/lang/Object") ∈ lw_tbl := lw_at lw_m14 60 rfl
theorem in_J34 : ∀ w ∈ wsJ340, w ∈ lw_all := lw_in wsJ340 [2430, 2431, 2432, 2433, 2434, 2435] (by decide +kernel) (by decide +kernel)

/-! java/lang/Object -/
set_option maxRecDepth 100000
def RJ35 : String := "java/lang/Object"
abbrev cJ35_init : ByteArray := object_method_1_code
def yJ35_init : MethodName := ⟨RJ35, "<init>", "()V"⟩
abbrev cJ35_equals : ByteArray := object_method_4_code
def yJ35_equals : MethodName := ⟨RJ35, "equals", "(Ljava/lang/Object;)Z"⟩
theorem q147 : (Jvm.Cond.instanceMethod ({ cls := "java/lang/Object", name := "<init>", desc := "()V" } : Jvm.MethodName)) ∈ lw_all := lw_g (lw_at lw_m1 65 rfl) rfl
theorem q148 : (Jvm.Cond.code ({ cls := "java/lang/Object", name := "<init>", desc := "()V" } : Jvm.MethodName) object_method_1_code (1 : Nat) (Option.none : Option Jvm.ClassFile.FieldType)) ∈ lw_all := lw_g (lw_at lw_m1 66 rfl) rfl
theorem q471 : (Jvm.Cond.native ({ cls := "java/lang/Object", name := "clone", desc := "()Ljava/lang/Object;" } : Jvm.MethodName)) ∈ lw_all := lw_g (lw_at lw_m2 149 rfl) rfl
theorem q472 : (Jvm.Cond.instanceMethod ({ cls := "java/lang/Object", name := "clone", desc := "()Ljava/lang/Object;" } : Jvm.MethodName)) ∈ lw_all := lw_g (lw_at lw_m2 150 rfl) rfl
theorem q646 : (Jvm.Cond.declares ({ cls := "java/lang/Object", name := "hashCode", desc := "()I" } : Jvm.MethodName)) ∈ lw_tbl := lw_at lw_m3 84 rfl
theorem q648 : (Jvm.Cond.instanceMethod ({ cls := "java/lang/Object", name := "hashCode", desc := "()I" } : Jvm.MethodName)) ∈ lw_all := lw_g (lw_at lw_m3 86 rfl) rfl
theorem q649 : (Jvm.Cond.sameMethod "java/lang/Object" "java/lang/Object" "hashCode" "()I") ∈ lw_all := lw_g (lw_at lw_m3 87 rfl) rfl
theorem q744 : (Jvm.Cond.native ({ cls := "java/lang/Object", name := "hashCode", desc := "()I" } : Jvm.MethodName)) ∈ lw_all := lw_g (lw_at lw_m3 182 rfl) rfl
theorem q745 : (Jvm.Cond.declares ({ cls := "java/lang/Object", name := "equals", desc := "(Ljava/lang/Object;)Z" } : Jvm.MethodName)) ∈ lw_tbl := lw_at lw_m3 183 rfl
theorem q747 : (Jvm.Cond.instanceMethod ({ cls := "java/lang/Object", name := "equals", desc := "(Ljava/lang/Object;)Z" } : Jvm.MethodName)) ∈ lw_all := lw_g (lw_at lw_m3 185 rfl) rfl
theorem q748 : (Jvm.Cond.sameMethod "java/lang/Object" "java/lang/Object" "equals" "(Ljava/lang/Object;)Z") ∈ lw_all := lw_g (lw_at lw_m3 186 rfl) rfl
theorem q792 : (Jvm.Cond.code ({ cls := "java/lang/Object", name := "equals", desc := "(Ljava/lang/Object;)Z" } : Jvm.MethodName) object_method_4_code (2 : Nat) (Option.some Jvm.ClassFile.FieldType.boolean)) ∈ lw_all := lw_g (lw_at lw_m3 230 rfl) rfl
theorem q812 : (Jvm.Cond.instanceMethod ({ cls := "java/lang/Object", name := "getClass", desc := "()Ljava/lang/Class;" } : Jvm.MethodName)) ∈ lw_all := lw_g (lw_at lw_m4 10 rfl) rfl
theorem q813 : (Jvm.Cond.sameMethod "java/lang/Object" "java/lang/Object" "getClass" "()Ljava/lang/Class;") ∈ lw_all := lw_g (lw_at lw_m4 11 rfl) rfl
theorem q852 : (Jvm.Cond.native ({ cls := "java/lang/Object", name := "getClass", desc := "()Ljava/lang/Class;" } : Jvm.MethodName)) ∈ lw_all := lw_g (lw_at lw_m4 50 rfl) rfl
theorem q3227 : (Jvm.Cond.initialized "java/lang/Object") ∈ lw_all := lw_g (lw_at lw_m14 25 rfl) rfl
theorem q3272 : (Jvm.Cond.declares ({ cls := "java/lang/Object", name := "getClass", desc := "()Ljava/lang/Class;" } : Jvm.MethodName)) ∈ lw_tbl := lw_at lw_m14 70 rfl

/-! CableTrayPlanner$Deed -/
set_option maxRecDepth 100000
def RX8 : String := "CableTrayPlanner$Deed"
abbrev cX8_init : ByteArray := prog_5_method_1_code
def yX8_init : MethodName := ⟨RX8, "<init>", "(LCableTrayPlanner;)V"⟩
abbrev cX8_run : ByteArray := prog_5_method_3_code
def yX8_run : MethodName := ⟨RX8, "run", "()I"⟩
theorem q125 : (Jvm.Cond.initialized "CableTrayPlanner$Deed") ∈ lw_all := lw_g (lw_at lw_m1 43 rfl) rfl
theorem q303 : (Jvm.Cond.fieldLinkNest "CableTrayPlanner$Deed" (13 : Nat) "CableTrayPlanner" "plan" "LCableTrayPlanner$Plan;" "CableTrayPlanner") ∈ lw_tbl := lw_at lw_m1 221 rfl
theorem q310 : (Jvm.Cond.fieldLinkNest "CableTrayPlanner$Deed" (39 : Nat) "CableTrayPlanner" "lastChain" "[I" "CableTrayPlanner") ∈ lw_tbl := lw_at lw_m1 228 rfl
theorem q1835 : (Jvm.Cond.instanceMethod ({ cls := "CableTrayPlanner$Deed", name := "<init>", desc := "(LCableTrayPlanner;)V" } : Jvm.MethodName)) ∈ lw_all := lw_g (lw_at lw_m8 73 rfl) rfl
theorem q1836 : (Jvm.Cond.code ({ cls := "CableTrayPlanner$Deed", name := "<init>", desc := "(LCableTrayPlanner;)V" } : Jvm.MethodName) prog_5_method_1_code (2 : Nat) (Option.none : Option Jvm.ClassFile.FieldType)) ∈ lw_all := lw_g (lw_at lw_m8 74 rfl) rfl
theorem q1837 : (Jvm.Cond.methodLink "CableTrayPlanner$Deed" (7 : Nat) ({ cls := "java/lang/Object", name := "<init>", desc := "()V" } : Jvm.MethodName)) ∈ lw_all := lw_g (lw_at lw_m8 75 rfl) rfl
theorem q1840 : (Jvm.Cond.fieldLink "CableTrayPlanner$Deed" (1 : Nat) "CableTrayPlanner$Deed" "this$0" "LCableTrayPlanner;") ∈ lw_all := lw_g (lw_at lw_m8 78 rfl) rfl
theorem q1846 : (Jvm.Cond.soleField "CableTrayPlanner$Deed" "this$0") ∈ lw_all := lw_g (lw_at lw_m8 84 rfl) rfl
theorem q1850 : (Jvm.Cond.declares ({ cls := "CableTrayPlanner$Deed", name := "run", desc := "()I" } : Jvm.MethodName)) ∈ lw_tbl := lw_at lw_m8 88 rfl
theorem q1852 : (Jvm.Cond.instanceMethod ({ cls := "CableTrayPlanner$Deed", name := "run", desc := "()I" } : Jvm.MethodName)) ∈ lw_all := lw_g (lw_at lw_m8 90 rfl) rfl
theorem q1853 : (Jvm.Cond.codeWith ({ cls := "CableTrayPlanner$Deed", name := "run", desc := "()I" } : Jvm.MethodName) prog_5_method_3_code (6 : Nat) (Option.some Jvm.ClassFile.FieldType.int) [((13 : Nat), (38 : Nat), (53 : Nat), (33 : Nat)), ((13 : Nat), (38 : Nat), (73 : Nat), (0 : Nat)), ((53 : Nat), (75 : Nat), (73 : Nat), (0 : Nat))]) ∈ lw_all := lw_g (lw_at lw_m8 91 rfl) rfl
theorem q1854 : (Jvm.Cond.classLink "CableTrayPlanner$Deed" (33 : Nat) "CableTrayPlanner$Refusal") ∈ lw_all := lw_g (lw_at lw_m8 92 rfl) rfl
theorem q1855 : (Jvm.Cond.methodLink "CableTrayPlanner$Deed" (19 : Nat) ({ cls := "CableTrayPlanner$Plan", name := "copy", desc := "()LCableTrayPlanner$Plan;" } : Jvm.MethodName)) ∈ lw_all := lw_g (lw_at lw_m8 93 rfl) rfl
theorem q1856 : (Jvm.Cond.methodLink "CableTrayPlanner$Deed" (25 : Nat) ({ cls := "CableTrayPlanner$Deed", name := "does", desc := "(LCableTrayPlanner$Plan;)I" } : Jvm.MethodName)) ∈ lw_all := lw_g (lw_at lw_m8 94 rfl) rfl
theorem q1857 : (Jvm.Cond.declares ({ cls := "CableTrayPlanner$Deed", name := "does", desc := "(LCableTrayPlanner$Plan;)I" } : Jvm.MethodName)) ∈ lw_tbl := lw_at lw_m8 95 rfl
theorem q1858 : (Jvm.Cond.sameMethod "CableTrayPlanner$Deed" "CableTrayPlanner$Deed" "does" "(LCableTrayPlanner$Plan;)I") ∈ lw_all := lw_g (lw_at lw_m8 96 rfl) rfl
theorem q2104 : (Jvm.Cond.methodLinkNest "CableTrayPlanner$Deed" (29 : Nat) ({ cls := "CableTrayPlanner", name := "keep", desc := "(LCableTrayPlanner$Plan;)V" } : Jvm.MethodName) "CableTrayPlanner") ∈ lw_tbl := lw_at lw_m9 102 rfl
theorem q2105 : (Jvm.Cond.methodLink "CableTrayPlanner$Deed" (35 : Nat) ({ cls := "CableTrayPlanner$Refusal", name := "chain", desc := "()[I" } : Jvm.MethodName)) ∈ lw_all := lw_g (lw_at lw_m9 103 rfl) rfl
theorem q2126 : (Jvm.Cond.classLink "CableTrayPlanner$Deed" (43 : Nat) "java/lang/UnsupportedOperationException") ∈ lw_all := lw_g (lw_at lw_m9 124 rfl) rfl
theorem q2135 : (Jvm.Cond.methodLink "CableTrayPlanner$Deed" (45 : Nat) ({ cls := "java/lang/UnsupportedOperationException", name := "<init>", desc := "()V" } : Jvm.MethodName)) ∈ lw_all := lw_g (lw_at lw_m9 133 rfl) rfl

theorem q470 : (Jvm.Cond.sameMethod "[B" "java/lang/Object" "clone" "()Ljava/lang/Object;") ∈ lw_all := lw_g (lw_at lw_m2 148 rfl) rfl
set_option maxRecDepth 100000
theorem q473 : (Jvm.Cond.selects "[B" ({ cls := "[B", name := "clone", desc := "()Ljava/lang/Object;" } : Jvm.MethodName) ({ cls := "java/lang/Object", name := "clone", desc := "()Ljava/lang/Object;" } : Jvm.MethodName)) ∈ lw_all := lw_g (lw_at lw_m2 151 rfl) rfl
theorem q474 : (Jvm.Cond.castable "[B" "java/lang/Cloneable") ∈ lw_tbl := lw_at lw_m2 152 rfl
theorem q3274 : (Jvm.Cond.castable "[B" "java/lang/Object") ∈ lw_tbl := lw_at lw_m14 72 rfl

theorem q3279 : (Jvm.Cond.castable "[D" "java/lang/Object") ∈ lw_tbl := lw_at lw_m14 77 rfl
set_option maxRecDepth 100000

theorem q1913 : (Jvm.Cond.sameMethod "[I" "java/lang/Object" "clone" "()Ljava/lang/Object;") ∈ lw_all := lw_g (lw_at lw_m8 151 rfl) rfl
set_option maxRecDepth 100000
theorem q1914 : (Jvm.Cond.selects "[I" ({ cls := "[I", name := "clone", desc := "()Ljava/lang/Object;" } : Jvm.MethodName) ({ cls := "java/lang/Object", name := "clone", desc := "()Ljava/lang/Object;" } : Jvm.MethodName)) ∈ lw_all := lw_g (lw_at lw_m8 152 rfl) rfl
theorem q1915 : (Jvm.Cond.castable "[I" "java/lang/Cloneable") ∈ lw_tbl := lw_at lw_m8 153 rfl
theorem q3276 : (Jvm.Cond.castable "[I" "java/lang/Object") ∈ lw_tbl := lw_at lw_m14 74 rfl

theorem q3278 : (Jvm.Cond.castable "[J" "java/lang/Object") ∈ lw_tbl := lw_at lw_m14 76 rfl
set_option maxRecDepth 100000

theorem q3270 : (Jvm.Cond.sameMethod "[Ljava/lang/Object;" "java/lang/Object" "getClass" "()Ljava/lang/Class;") ∈ lw_all := lw_g (lw_at lw_m14 68 rfl) rfl
set_option maxRecDepth 100000
theorem q3271 : (Jvm.Cond.selects "[Ljava/lang/Object;" ({ cls := "java/lang/Object", name := "getClass", desc := "()Ljava/lang/Class;" } : Jvm.MethodName) ({ cls := "java/lang/Object", name := "getClass", desc := "()Ljava/lang/Class;" } : Jvm.MethodName)) ∈ lw_all := lw_g (lw_at lw_m14 69 rfl) rfl
theorem q3273 : (Jvm.Cond.castable "[Ljava/lang/Object;" "java/lang/Object") ∈ lw_tbl := lw_at lw_m14 71 rfl

theorem q3275 : (Jvm.Cond.castable "[Ljava/util/HashMap$Node;" "java/lang/Object") ∈ lw_tbl := lw_at lw_m14 73 rfl
set_option maxRecDepth 100000

theorem q3277 : (Jvm.Cond.castable "[Z" "java/lang/Object") ∈ lw_tbl := lw_at lw_m14 75 rfl
set_option maxRecDepth 100000

theorem q2511 : (Jvm.Cond.interfaceMethod "java/lang/CharSequence" "java/lang/CharSequence" "length" "()I") ∈ lw_tbl := lw_at lw_m11 29 rfl
set_option maxRecDepth 100000
theorem q2512 : (Jvm.Cond.declares ({ cls := "java/lang/CharSequence", name := "length", desc := "()I" } : Jvm.MethodName)) ∈ lw_tbl := lw_at lw_m11 30 rfl
theorem q2523 : (Jvm.Cond.interfaceMethod "java/lang/CharSequence" "java/lang/CharSequence" "charAt" "(I)C") ∈ lw_tbl := lw_at lw_m11 41 rfl
theorem q2524 : (Jvm.Cond.declares ({ cls := "java/lang/CharSequence", name := "charAt", desc := "(I)C" } : Jvm.MethodName)) ∈ lw_tbl := lw_at lw_m11 42 rfl
theorem q2569 : (Jvm.Cond.interfaceMethod "java/lang/CharSequence" "java/lang/CharSequence" "subSequence" "(II)Ljava/lang/CharSequence;") ∈ lw_tbl := lw_at lw_m11 87 rfl
theorem q2570 : (Jvm.Cond.declares ({ cls := "java/lang/CharSequence", name := "subSequence", desc := "(II)Ljava/lang/CharSequence;" } : Jvm.MethodName)) ∈ lw_tbl := lw_at lw_m11 88 rfl
theorem q2622 : (Jvm.Cond.interfaceMethod "java/lang/CharSequence" "java/lang/CharSequence" "toString" "()Ljava/lang/String;") ∈ lw_tbl := lw_at lw_m11 140 rfl
theorem q2623 : (Jvm.Cond.declares ({ cls := "java/lang/CharSequence", name := "toString", desc := "()Ljava/lang/String;" } : Jvm.MethodName)) ∈ lw_tbl := lw_at lw_m11 141 rfl

theorem q859 : (Jvm.Cond.interfaceMethod "java/lang/Comparable" "java/lang/Comparable" "compareTo" "(Ljava/lang/Object;)I") ∈ lw_tbl := lw_at lw_m4 57 rfl
set_option maxRecDepth 100000
theorem q860 : (Jvm.Cond.declares ({ cls := "java/lang/Comparable", name := "compareTo", desc := "(Ljava/lang/Object;)I" } : Jvm.MethodName)) ∈ lw_tbl := lw_at lw_m4 58 rfl

theorem q106 : (Jvm.Cond.initialized "java/lang/Integer$IntegerCache") ∈ lw_all := lw_g (lw_at lw_m1 24 rfl) rfl
set_option maxRecDepth 100000
theorem q1178 : (Jvm.Cond.laysStatic "java/lang/Integer$IntegerCache" "high" "I") ∈ lw_tbl := lw_at lw_m5 136 rfl
theorem q1180 : (Jvm.Cond.laysStatic "java/lang/Integer$IntegerCache" "cache" "[Ljava/lang/Integer;") ∈ lw_tbl := lw_at lw_m5 138 rfl

theorem q1938 : (Jvm.Cond.interfaceMethod "java/lang/Iterable" "java/lang/Iterable" "iterator" "()Ljava/util/Iterator;") ∈ lw_tbl := lw_at lw_m8 176 rfl
set_option maxRecDepth 100000
theorem q1939 : (Jvm.Cond.declares ({ cls := "java/lang/Iterable", name := "iterator", desc := "()Ljava/util/Iterator;" } : Jvm.MethodName)) ∈ lw_tbl := lw_at lw_m8 177 rfl

theorem q111 : (Jvm.Cond.initialized "java/lang/System") ∈ lw_all := lw_g (lw_at lw_m1 29 rfl) rfl
set_option maxRecDepth 100000
theorem q480 : (Jvm.Cond.static ({ cls := "java/lang/System", name := "arraycopy", desc := "(Ljava/lang/Object;ILjava/lang/Object;II)V" } : Jvm.MethodName)) ∈ lw_all := lw_g (lw_at lw_m2 158 rfl) rfl
theorem q481 : (Jvm.Cond.native ({ cls := "java/lang/System", name := "arraycopy", desc := "(Ljava/lang/Object;ILjava/lang/Object;II)V" } : Jvm.MethodName)) ∈ lw_all := lw_g (lw_at lw_m2 159 rfl) rfl

theorem q1535 : (Jvm.Cond.interfaceMethod "java/util/Collection" "java/util/Collection" "toArray" "()[Ljava/lang/Object;") ∈ lw_tbl := lw_at lw_m7 13 rfl
set_option maxRecDepth 100000
theorem q1536 : (Jvm.Cond.declares ({ cls := "java/util/Collection", name := "toArray", desc := "()[Ljava/lang/Object;" } : Jvm.MethodName)) ∈ lw_tbl := lw_at lw_m7 14 rfl

theorem q1091 : (Jvm.Cond.interfaceMethod "java/util/Iterator" "java/util/Iterator" "hasNext" "()Z") ∈ lw_tbl := lw_at lw_m5 49 rfl
set_option maxRecDepth 100000
theorem q1092 : (Jvm.Cond.declares ({ cls := "java/util/Iterator", name := "hasNext", desc := "()Z" } : Jvm.MethodName)) ∈ lw_tbl := lw_at lw_m5 50 rfl
theorem q1114 : (Jvm.Cond.interfaceMethod "java/util/Iterator" "java/util/Iterator" "next" "()Ljava/lang/Object;") ∈ lw_tbl := lw_at lw_m5 72 rfl
theorem q1115 : (Jvm.Cond.declares ({ cls := "java/util/Iterator", name := "next", desc := "()Ljava/lang/Object;" } : Jvm.MethodName)) ∈ lw_tbl := lw_at lw_m5 73 rfl

theorem q704 : (Jvm.Cond.interfaceMethod "jdk/internal/access/JavaLangAccess" "jdk/internal/access/JavaLangAccess" "getUTF16Char" "([BI)C") ∈ lw_tbl := lw_at lw_m3 142 rfl
set_option maxRecDepth 100000
theorem q705 : (Jvm.Cond.declares ({ cls := "jdk/internal/access/JavaLangAccess", name := "getUTF16Char", desc := "([BI)C" } : Jvm.MethodName)) ∈ lw_tbl := lw_at lw_m3 143 rfl

theorem q114 : (Jvm.Cond.initialized "jdk/internal/misc/UnsafeConstants") ∈ lw_all := lw_g (lw_at lw_m1 32 rfl) rfl
set_option maxRecDepth 100000
theorem q931 : (Jvm.Cond.laysStatic "jdk/internal/misc/UnsafeConstants" "BIG_ENDIAN" "Z") ∈ lw_tbl := lw_at lw_m4 129 rfl

theorem q258 : (Jvm.Cond.arrayOver (Jvm.ClassFile.FieldType.object "java/lang/Object")) ∈ lw_tbl := lw_at lw_m1 176 rfl
set_option maxRecDepth 100000
theorem q302 : (Jvm.Cond.arrayClass Jvm.ClassFile.FieldType.byte) ∈ lw_all := lw_g (lw_at lw_m1 220 rfl) rfl
theorem q1286 : (Jvm.Cond.arrayOver (Jvm.ClassFile.FieldType.object "java/util/HashMap$Node")) ∈ lw_tbl := lw_at lw_m6 4 rfl
theorem q1480 : (Jvm.Cond.arrayClass Jvm.ClassFile.FieldType.int) ∈ lw_all := lw_g (lw_at lw_m6 198 rfl) rfl
theorem q2863 : (Jvm.Cond.arrayClass Jvm.ClassFile.FieldType.boolean) ∈ lw_all := lw_g (lw_at lw_m12 141 rfl) rfl
theorem q3210 : (Jvm.Cond.arrayClass Jvm.ClassFile.FieldType.long) ∈ lw_all := lw_g (lw_at lw_m14 8 rfl) rfl
theorem q3211 : (Jvm.Cond.arrayClass Jvm.ClassFile.FieldType.double) ∈ lw_all := lw_g (lw_at lw_m14 9 rfl) rfl
theorem q3280 : (Jvm.Cond.arrayClass Jvm.ClassFile.FieldType.char) ∈ lw_all := lw_g (lw_at lw_m14 78 rfl) rfl
theorem q3281 : (Jvm.Cond.arrayClass Jvm.ClassFile.FieldType.short) ∈ lw_all := lw_g (lw_at lw_m14 79 rfl) rfl

/-! the law's own entry -/
abbrev cL_law : ByteArray := code

