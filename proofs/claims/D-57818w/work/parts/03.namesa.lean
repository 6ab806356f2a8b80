/-! DECODE ROWS BY BYTES: one lemma an opcode; a method's code is cut into short pieces once, and a row reads its own piece alone. -/
set_option maxRecDepth 100000
/-- the code has just these bytes from pc on -/
def DkAt (code : ByteArray) (pc : Nat) (bs : List UInt8) : Prop := ∀ (j : Nat) (b : UInt8), bs[j]? = some b → code.data.toList[pc + j]? = some b
/-- the piece W has the bytes bs from its place j on -/
def dkIn (W : List UInt8) (j : Nat) (bs : List UInt8) : Bool := decide ((W.drop j).take bs.length = bs)
theorem dk_seg {l W T : List UInt8} {o o2 : Nat} (h : l.drop o = W ++ T) (n : Nat) (hn : W.length = n) (ho : o + n = o2) : l.drop o2 = T := by
  subst ho
  rw [← List.drop_drop, h, List.drop_left' hn]
theorem dk_at {code : ByteArray} {W T bs : List UInt8} {o pc : Nat} (h : code.data.toList.drop o = W ++ T) (j : Nat) (hp : o + j = pc) (hw : dkIn W j bs = true) : DkAt code pc bs := by
  subst hp
  intro i b e
  have h1 := of_decide_eq_true hw
  have h2 : i < bs.length := (List.getElem?_eq_some_iff.mp e).1
  have h3 : W[j + i]? = some b := by
    rw [← h1, List.getElem?_take, if_pos h2, List.getElem?_drop] at e
    exact e
  have h4 : j + i < W.length := (List.getElem?_eq_some_iff.mp h3).1
  have h5 : (code.data.toList.drop o)[j + i]? = some b := by
    rw [h, List.getElem?_append_left h4]
    exact h3
  rw [List.getElem?_drop, ← Nat.add_assoc] at h5
  exact h5
theorem dk_u1 {A : ByteArray} {p : Nat} {b : UInt8} (h : A.data.toList[p]? = some b) : (Reader.u1 : Reader DecodeError Nat) A p = .ok (b.toNat, p + 1) := by
  obtain ⟨h1, h2⟩ := List.getElem?_eq_some_iff.mp h
  have h3 : p < A.size := by simpa using h1
  have h4 : A[p]'h3 = b := h2
  have e : (Reader.u1 : Reader DecodeError Nat) A p = (if h : p < A.size then .ok (A[p].toNat, p + 1) else .error (HasTruncated.truncated p)) := by
    show (do if h : p < A.size then do set (p + 1); Pure.pure A[p].toNat else MonadExcept.throw (HasTruncated.truncated p) : Reader DecodeError Nat) A p = _
    by_cases hi : p < A.size
    · rw [dif_pos hi, dif_pos hi]; rfl
    · rw [dif_neg hi, dif_neg hi]; rfl
  rw [e, dif_pos h3, h4]
theorem dk_bind {α β : Type} {r : Reader DecodeError α} {f : α → Reader DecodeError β} {A : ByteArray} {p s : Nat} {a : α} (h : r A p = .ok (a, s)) : (r >>= f) A p = f a A s := by
  show (do let (a, s) ← r A p; f a A s : Except DecodeError (β × Nat)) = _
  rw [h]
  rfl
theorem dk_map {α β : Type} {r : Reader DecodeError α} {g : α → β} {A : ByteArray} {p s : Nat} {a : α} (h : r A p = .ok (a, s)) : (g <$> r) A p = .ok (g a, s) := by
  show (do let (a, s) ← r A p; .ok (g a, s) : Except DecodeError (β × Nat)) = _
  rw [h]
  rfl
theorem dk_u2 {A : ByteArray} {p : Nat} {a b : UInt8} (h : A.data.toList[p]? = some a) (h2 : A.data.toList[p + 1]? = some b) : (Reader.u2 : Reader DecodeError Nat) A p = .ok (a.toNat * 256 + b.toNat, p + 2) := by
  show (Reader.u1 >>= fun hi => Reader.u1 >>= fun lo => Pure.pure (hi * 256 + lo) : Reader DecodeError Nat) A p = _
  rw [dk_bind (dk_u1 h), dk_bind (dk_u1 h2)]
  rfl
theorem dk_of {code : ByteArray} {pc n : Nat} {i : Instr} (h : Decoder.instr pc code pc = .ok (i, pc + n)) : decode code pc = .ok (i, n) := by
  have e : decode code pc = (match Decoder.instr pc code pc with | .error x => .error x | .ok (j, s) => .ok (j, s - pc)) := by
    show (do let (j, s) ← Decoder.instr pc code pc; Pure.pure (j, s - pc) : Except DecodeError (Instr × Nat)) = _
    cases Decoder.instr pc code pc <;> rfl
  rw [e, h]
  show Except.ok (i, pc + n - pc) = _
  rw [Nat.add_sub_cancel_left]
theorem dk_1 {code : ByteArray} {pc : Nat} (h : DkAt code pc [1]) : decode code pc = .ok (.aconst_null, 1) := dk_of ((dk_bind (dk_u1 (h 0 _ rfl))).trans rfl)
theorem dk_2 {code : ByteArray} {pc : Nat} (h : DkAt code pc [2]) : decode code pc = .ok (.iconst (-1), 1) := dk_of ((dk_bind (dk_u1 (h 0 _ rfl))).trans rfl)
theorem dk_3 {code : ByteArray} {pc : Nat} (h : DkAt code pc [3]) : decode code pc = .ok (.iconst 0, 1) := dk_of ((dk_bind (dk_u1 (h 0 _ rfl))).trans rfl)
theorem dk_4 {code : ByteArray} {pc : Nat} (h : DkAt code pc [4]) : decode code pc = .ok (.iconst 1, 1) := dk_of ((dk_bind (dk_u1 (h 0 _ rfl))).trans rfl)
theorem dk_5 {code : ByteArray} {pc : Nat} (h : DkAt code pc [5]) : decode code pc = .ok (.iconst 2, 1) := dk_of ((dk_bind (dk_u1 (h 0 _ rfl))).trans rfl)
theorem dk_6 {code : ByteArray} {pc : Nat} (h : DkAt code pc [6]) : decode code pc = .ok (.iconst 3, 1) := dk_of ((dk_bind (dk_u1 (h 0 _ rfl))).trans rfl)
theorem dk_7 {code : ByteArray} {pc : Nat} (h : DkAt code pc [7]) : decode code pc = .ok (.iconst 4, 1) := dk_of ((dk_bind (dk_u1 (h 0 _ rfl))).trans rfl)
theorem dk_8 {code : ByteArray} {pc : Nat} (h : DkAt code pc [8]) : decode code pc = .ok (.iconst 5, 1) := dk_of ((dk_bind (dk_u1 (h 0 _ rfl))).trans rfl)
theorem dk_9 {code : ByteArray} {pc : Nat} (h : DkAt code pc [9]) : decode code pc = .ok (.lconst 0, 1) := dk_of ((dk_bind (dk_u1 (h 0 _ rfl))).trans rfl)
theorem dk_10 {code : ByteArray} {pc : Nat} (h : DkAt code pc [10]) : decode code pc = .ok (.lconst 1, 1) := dk_of ((dk_bind (dk_u1 (h 0 _ rfl))).trans rfl)
theorem dk_11 {code : ByteArray} {pc : Nat} (h : DkAt code pc [11]) : decode code pc = .ok (.fconst 0, 1) := dk_of ((dk_bind (dk_u1 (h 0 _ rfl))).trans rfl)
theorem dk_14 {code : ByteArray} {pc : Nat} (h : DkAt code pc [14]) : decode code pc = .ok (.dconst 0, 1) := dk_of ((dk_bind (dk_u1 (h 0 _ rfl))).trans rfl)
theorem dk_16 {code : ByteArray} {pc : Nat} (a : UInt8) (h : DkAt code pc [16, a]) : decode code pc = .ok (.bipush (Reader.signed 8 a.toNat), 2) := dk_of ((dk_bind (dk_u1 (h 0 _ rfl))).trans ((dk_bind (dk_map (dk_u1 (h 1 _ rfl)))).trans rfl))
theorem dk_17 {code : ByteArray} {pc : Nat} (a b : UInt8) (h : DkAt code pc [17, a, b]) : decode code pc = .ok (.sipush (Reader.signed 16 (a.toNat * 256 + b.toNat)), 3) := dk_of ((dk_bind (dk_u1 (h 0 _ rfl))).trans ((dk_bind (dk_map (dk_u2 (h 1 _ rfl) (h 2 _ rfl)))).trans rfl))
theorem dk_18 {code : ByteArray} {pc : Nat} (a : UInt8) (h : DkAt code pc [18, a]) : decode code pc = .ok (.ldc a.toNat, 2) := dk_of ((dk_bind (dk_u1 (h 0 _ rfl))).trans ((dk_bind (dk_u1 (h 1 _ rfl))).trans rfl))
theorem dk_19 {code : ByteArray} {pc : Nat} (a b : UInt8) (h : DkAt code pc [19, a, b]) : decode code pc = .ok (.ldc_w (a.toNat * 256 + b.toNat), 3) := dk_of ((dk_bind (dk_u1 (h 0 _ rfl))).trans ((dk_bind (dk_u2 (h 1 _ rfl) (h 2 _ rfl))).trans rfl))
theorem dk_20 {code : ByteArray} {pc : Nat} (a b : UInt8) (h : DkAt code pc [20, a, b]) : decode code pc = .ok (.ldc2_w (a.toNat * 256 + b.toNat), 3) := dk_of ((dk_bind (dk_u1 (h 0 _ rfl))).trans ((dk_bind (dk_u2 (h 1 _ rfl) (h 2 _ rfl))).trans rfl))
theorem dk_21 {code : ByteArray} {pc : Nat} (a : UInt8) (h : DkAt code pc [21, a]) : decode code pc = .ok (.iload a.toNat, 2) := dk_of ((dk_bind (dk_u1 (h 0 _ rfl))).trans ((dk_bind (dk_u1 (h 1 _ rfl))).trans rfl))
theorem dk_22 {code : ByteArray} {pc : Nat} (a : UInt8) (h : DkAt code pc [22, a]) : decode code pc = .ok (.lload a.toNat, 2) := dk_of ((dk_bind (dk_u1 (h 0 _ rfl))).trans ((dk_bind (dk_u1 (h 1 _ rfl))).trans rfl))
theorem dk_23 {code : ByteArray} {pc : Nat} (a : UInt8) (h : DkAt code pc [23, a]) : decode code pc = .ok (.fload a.toNat, 2) := dk_of ((dk_bind (dk_u1 (h 0 _ rfl))).trans ((dk_bind (dk_u1 (h 1 _ rfl))).trans rfl))
theorem dk_24 {code : ByteArray} {pc : Nat} (a : UInt8) (h : DkAt code pc [24, a]) : decode code pc = .ok (.dload a.toNat, 2) := dk_of ((dk_bind (dk_u1 (h 0 _ rfl))).trans ((dk_bind (dk_u1 (h 1 _ rfl))).trans rfl))
theorem dk_25 {code : ByteArray} {pc : Nat} (a : UInt8) (h : DkAt code pc [25, a]) : decode code pc = .ok (.aload a.toNat, 2) := dk_of ((dk_bind (dk_u1 (h 0 _ rfl))).trans ((dk_bind (dk_u1 (h 1 _ rfl))).trans rfl))
theorem dk_26 {code : ByteArray} {pc : Nat} (h : DkAt code pc [26]) : decode code pc = .ok (.iload_n 0, 1) := dk_of ((dk_bind (dk_u1 (h 0 _ rfl))).trans rfl)
theorem dk_27 {code : ByteArray} {pc : Nat} (h : DkAt code pc [27]) : decode code pc = .ok (.iload_n 1, 1) := dk_of ((dk_bind (dk_u1 (h 0 _ rfl))).trans rfl)
theorem dk_28 {code : ByteArray} {pc : Nat} (h : DkAt code pc [28]) : decode code pc = .ok (.iload_n 2, 1) := dk_of ((dk_bind (dk_u1 (h 0 _ rfl))).trans rfl)
theorem dk_29 {code : ByteArray} {pc : Nat} (h : DkAt code pc [29]) : decode code pc = .ok (.iload_n 3, 1) := dk_of ((dk_bind (dk_u1 (h 0 _ rfl))).trans rfl)
theorem dk_30 {code : ByteArray} {pc : Nat} (h : DkAt code pc [30]) : decode code pc = .ok (.lload_n 0, 1) := dk_of ((dk_bind (dk_u1 (h 0 _ rfl))).trans rfl)
theorem dk_31 {code : ByteArray} {pc : Nat} (h : DkAt code pc [31]) : decode code pc = .ok (.lload_n 1, 1) := dk_of ((dk_bind (dk_u1 (h 0 _ rfl))).trans rfl)
theorem dk_32 {code : ByteArray} {pc : Nat} (h : DkAt code pc [32]) : decode code pc = .ok (.lload_n 2, 1) := dk_of ((dk_bind (dk_u1 (h 0 _ rfl))).trans rfl)
theorem dk_34 {code : ByteArray} {pc : Nat} (h : DkAt code pc [34]) : decode code pc = .ok (.fload_n 0, 1) := dk_of ((dk_bind (dk_u1 (h 0 _ rfl))).trans rfl)
theorem dk_35 {code : ByteArray} {pc : Nat} (h : DkAt code pc [35]) : decode code pc = .ok (.fload_n 1, 1) := dk_of ((dk_bind (dk_u1 (h 0 _ rfl))).trans rfl)
theorem dk_36 {code : ByteArray} {pc : Nat} (h : DkAt code pc [36]) : decode code pc = .ok (.fload_n 2, 1) := dk_of ((dk_bind (dk_u1 (h 0 _ rfl))).trans rfl)
theorem dk_42 {code : ByteArray} {pc : Nat} (h : DkAt code pc [42]) : decode code pc = .ok (.aload_n 0, 1) := dk_of ((dk_bind (dk_u1 (h 0 _ rfl))).trans rfl)
theorem dk_43 {code : ByteArray} {pc : Nat} (h : DkAt code pc [43]) : decode code pc = .ok (.aload_n 1, 1) := dk_of ((dk_bind (dk_u1 (h 0 _ rfl))).trans rfl)
theorem dk_44 {code : ByteArray} {pc : Nat} (h : DkAt code pc [44]) : decode code pc = .ok (.aload_n 2, 1) := dk_of ((dk_bind (dk_u1 (h 0 _ rfl))).trans rfl)
theorem dk_45 {code : ByteArray} {pc : Nat} (h : DkAt code pc [45]) : decode code pc = .ok (.aload_n 3, 1) := dk_of ((dk_bind (dk_u1 (h 0 _ rfl))).trans rfl)
theorem dk_46 {code : ByteArray} {pc : Nat} (h : DkAt code pc [46]) : decode code pc = .ok (.iaload, 1) := dk_of ((dk_bind (dk_u1 (h 0 _ rfl))).trans rfl)
theorem dk_47 {code : ByteArray} {pc : Nat} (h : DkAt code pc [47]) : decode code pc = .ok (.laload, 1) := dk_of ((dk_bind (dk_u1 (h 0 _ rfl))).trans rfl)
theorem dk_49 {code : ByteArray} {pc : Nat} (h : DkAt code pc [49]) : decode code pc = .ok (.daload, 1) := dk_of ((dk_bind (dk_u1 (h 0 _ rfl))).trans rfl)
theorem dk_50 {code : ByteArray} {pc : Nat} (h : DkAt code pc [50]) : decode code pc = .ok (.aaload, 1) := dk_of ((dk_bind (dk_u1 (h 0 _ rfl))).trans rfl)
theorem dk_51 {code : ByteArray} {pc : Nat} (h : DkAt code pc [51]) : decode code pc = .ok (.baload, 1) := dk_of ((dk_bind (dk_u1 (h 0 _ rfl))).trans rfl)
theorem dk_52 {code : ByteArray} {pc : Nat} (h : DkAt code pc [52]) : decode code pc = .ok (.caload, 1) := dk_of ((dk_bind (dk_u1 (h 0 _ rfl))).trans rfl)
theorem dk_53 {code : ByteArray} {pc : Nat} (h : DkAt code pc [53]) : decode code pc = .ok (.saload, 1) := dk_of ((dk_bind (dk_u1 (h 0 _ rfl))).trans rfl)
theorem dk_54 {code : ByteArray} {pc : Nat} (a : UInt8) (h : DkAt code pc [54, a]) : decode code pc = .ok (.istore a.toNat, 2) := dk_of ((dk_bind (dk_u1 (h 0 _ rfl))).trans ((dk_bind (dk_u1 (h 1 _ rfl))).trans rfl))
theorem dk_55 {code : ByteArray} {pc : Nat} (a : UInt8) (h : DkAt code pc [55, a]) : decode code pc = .ok (.lstore a.toNat, 2) := dk_of ((dk_bind (dk_u1 (h 0 _ rfl))).trans ((dk_bind (dk_u1 (h 1 _ rfl))).trans rfl))
theorem dk_56 {code : ByteArray} {pc : Nat} (a : UInt8) (h : DkAt code pc [56, a]) : decode code pc = .ok (.fstore a.toNat, 2) := dk_of ((dk_bind (dk_u1 (h 0 _ rfl))).trans ((dk_bind (dk_u1 (h 1 _ rfl))).trans rfl))
theorem dk_57 {code : ByteArray} {pc : Nat} (a : UInt8) (h : DkAt code pc [57, a]) : decode code pc = .ok (.dstore a.toNat, 2) := dk_of ((dk_bind (dk_u1 (h 0 _ rfl))).trans ((dk_bind (dk_u1 (h 1 _ rfl))).trans rfl))
theorem dk_58 {code : ByteArray} {pc : Nat} (a : UInt8) (h : DkAt code pc [58, a]) : decode code pc = .ok (.astore a.toNat, 2) := dk_of ((dk_bind (dk_u1 (h 0 _ rfl))).trans ((dk_bind (dk_u1 (h 1 _ rfl))).trans rfl))
theorem dk_59 {code : ByteArray} {pc : Nat} (h : DkAt code pc [59]) : decode code pc = .ok (.istore_n 0, 1) := dk_of ((dk_bind (dk_u1 (h 0 _ rfl))).trans rfl)
theorem dk_60 {code : ByteArray} {pc : Nat} (h : DkAt code pc [60]) : decode code pc = .ok (.istore_n 1, 1) := dk_of ((dk_bind (dk_u1 (h 0 _ rfl))).trans rfl)
theorem dk_61 {code : ByteArray} {pc : Nat} (h : DkAt code pc [61]) : decode code pc = .ok (.istore_n 2, 1) := dk_of ((dk_bind (dk_u1 (h 0 _ rfl))).trans rfl)
theorem dk_62 {code : ByteArray} {pc : Nat} (h : DkAt code pc [62]) : decode code pc = .ok (.istore_n 3, 1) := dk_of ((dk_bind (dk_u1 (h 0 _ rfl))).trans rfl)
theorem dk_75 {code : ByteArray} {pc : Nat} (h : DkAt code pc [75]) : decode code pc = .ok (.astore_n 0, 1) := dk_of ((dk_bind (dk_u1 (h 0 _ rfl))).trans rfl)
theorem dk_76 {code : ByteArray} {pc : Nat} (h : DkAt code pc [76]) : decode code pc = .ok (.astore_n 1, 1) := dk_of ((dk_bind (dk_u1 (h 0 _ rfl))).trans rfl)
theorem dk_77 {code : ByteArray} {pc : Nat} (h : DkAt code pc [77]) : decode code pc = .ok (.astore_n 2, 1) := dk_of ((dk_bind (dk_u1 (h 0 _ rfl))).trans rfl)
theorem dk_78 {code : ByteArray} {pc : Nat} (h : DkAt code pc [78]) : decode code pc = .ok (.astore_n 3, 1) := dk_of ((dk_bind (dk_u1 (h 0 _ rfl))).trans rfl)
theorem dk_79 {code : ByteArray} {pc : Nat} (h : DkAt code pc [79]) : decode code pc = .ok (.iastore, 1) := dk_of ((dk_bind (dk_u1 (h 0 _ rfl))).trans rfl)
theorem dk_80 {code : ByteArray} {pc : Nat} (h : DkAt code pc [80]) : decode code pc = .ok (.lastore, 1) := dk_of ((dk_bind (dk_u1 (h 0 _ rfl))).trans rfl)
theorem dk_82 {code : ByteArray} {pc : Nat} (h : DkAt code pc [82]) : decode code pc = .ok (.dastore, 1) := dk_of ((dk_bind (dk_u1 (h 0 _ rfl))).trans rfl)
theorem dk_83 {code : ByteArray} {pc : Nat} (h : DkAt code pc [83]) : decode code pc = .ok (.aastore, 1) := dk_of ((dk_bind (dk_u1 (h 0 _ rfl))).trans rfl)
theorem dk_84 {code : ByteArray} {pc : Nat} (h : DkAt code pc [84]) : decode code pc = .ok (.bastore, 1) := dk_of ((dk_bind (dk_u1 (h 0 _ rfl))).trans rfl)
theorem dk_85 {code : ByteArray} {pc : Nat} (h : DkAt code pc [85]) : decode code pc = .ok (.castore, 1) := dk_of ((dk_bind (dk_u1 (h 0 _ rfl))).trans rfl)
theorem dk_87 {code : ByteArray} {pc : Nat} (h : DkAt code pc [87]) : decode code pc = .ok (.pop, 1) := dk_of ((dk_bind (dk_u1 (h 0 _ rfl))).trans rfl)
theorem dk_89 {code : ByteArray} {pc : Nat} (h : DkAt code pc [89]) : decode code pc = .ok (.dup, 1) := dk_of ((dk_bind (dk_u1 (h 0 _ rfl))).trans rfl)
theorem dk_90 {code : ByteArray} {pc : Nat} (h : DkAt code pc [90]) : decode code pc = .ok (.dup_x1, 1) := dk_of ((dk_bind (dk_u1 (h 0 _ rfl))).trans rfl)
theorem dk_91 {code : ByteArray} {pc : Nat} (h : DkAt code pc [91]) : decode code pc = .ok (.dup_x2, 1) := dk_of ((dk_bind (dk_u1 (h 0 _ rfl))).trans rfl)
theorem dk_92 {code : ByteArray} {pc : Nat} (h : DkAt code pc [92]) : decode code pc = .ok (.dup2, 1) := dk_of ((dk_bind (dk_u1 (h 0 _ rfl))).trans rfl)
theorem dk_96 {code : ByteArray} {pc : Nat} (h : DkAt code pc [96]) : decode code pc = .ok (.iadd, 1) := dk_of ((dk_bind (dk_u1 (h 0 _ rfl))).trans rfl)
theorem dk_97 {code : ByteArray} {pc : Nat} (h : DkAt code pc [97]) : decode code pc = .ok (.ladd, 1) := dk_of ((dk_bind (dk_u1 (h 0 _ rfl))).trans rfl)
theorem dk_100 {code : ByteArray} {pc : Nat} (h : DkAt code pc [100]) : decode code pc = .ok (.isub, 1) := dk_of ((dk_bind (dk_u1 (h 0 _ rfl))).trans rfl)
theorem dk_101 {code : ByteArray} {pc : Nat} (h : DkAt code pc [101]) : decode code pc = .ok (.lsub, 1) := dk_of ((dk_bind (dk_u1 (h 0 _ rfl))).trans rfl)
theorem dk_104 {code : ByteArray} {pc : Nat} (h : DkAt code pc [104]) : decode code pc = .ok (.imul, 1) := dk_of ((dk_bind (dk_u1 (h 0 _ rfl))).trans rfl)
theorem dk_105 {code : ByteArray} {pc : Nat} (h : DkAt code pc [105]) : decode code pc = .ok (.lmul, 1) := dk_of ((dk_bind (dk_u1 (h 0 _ rfl))).trans rfl)
theorem dk_106 {code : ByteArray} {pc : Nat} (h : DkAt code pc [106]) : decode code pc = .ok (.fmul, 1) := dk_of ((dk_bind (dk_u1 (h 0 _ rfl))).trans rfl)
theorem dk_108 {code : ByteArray} {pc : Nat} (h : DkAt code pc [108]) : decode code pc = .ok (.idiv, 1) := dk_of ((dk_bind (dk_u1 (h 0 _ rfl))).trans rfl)
theorem dk_110 {code : ByteArray} {pc : Nat} (h : DkAt code pc [110]) : decode code pc = .ok (.fdiv, 1) := dk_of ((dk_bind (dk_u1 (h 0 _ rfl))).trans rfl)
theorem dk_111 {code : ByteArray} {pc : Nat} (h : DkAt code pc [111]) : decode code pc = .ok (.ddiv, 1) := dk_of ((dk_bind (dk_u1 (h 0 _ rfl))).trans rfl)
theorem dk_112 {code : ByteArray} {pc : Nat} (h : DkAt code pc [112]) : decode code pc = .ok (.irem, 1) := dk_of ((dk_bind (dk_u1 (h 0 _ rfl))).trans rfl)
theorem dk_116 {code : ByteArray} {pc : Nat} (h : DkAt code pc [116]) : decode code pc = .ok (.ineg, 1) := dk_of ((dk_bind (dk_u1 (h 0 _ rfl))).trans rfl)
theorem dk_120 {code : ByteArray} {pc : Nat} (h : DkAt code pc [120]) : decode code pc = .ok (.ishl, 1) := dk_of ((dk_bind (dk_u1 (h 0 _ rfl))).trans rfl)
theorem dk_121 {code : ByteArray} {pc : Nat} (h : DkAt code pc [121]) : decode code pc = .ok (.lshl, 1) := dk_of ((dk_bind (dk_u1 (h 0 _ rfl))).trans rfl)
theorem dk_122 {code : ByteArray} {pc : Nat} (h : DkAt code pc [122]) : decode code pc = .ok (.ishr, 1) := dk_of ((dk_bind (dk_u1 (h 0 _ rfl))).trans rfl)
theorem dk_123 {code : ByteArray} {pc : Nat} (h : DkAt code pc [123]) : decode code pc = .ok (.lshr, 1) := dk_of ((dk_bind (dk_u1 (h 0 _ rfl))).trans rfl)
theorem dk_124 {code : ByteArray} {pc : Nat} (h : DkAt code pc [124]) : decode code pc = .ok (.iushr, 1) := dk_of ((dk_bind (dk_u1 (h 0 _ rfl))).trans rfl)
theorem dk_125 {code : ByteArray} {pc : Nat} (h : DkAt code pc [125]) : decode code pc = .ok (.lushr, 1) := dk_of ((dk_bind (dk_u1 (h 0 _ rfl))).trans rfl)
theorem dk_126 {code : ByteArray} {pc : Nat} (h : DkAt code pc [126]) : decode code pc = .ok (.iand, 1) := dk_of ((dk_bind (dk_u1 (h 0 _ rfl))).trans rfl)
theorem dk_127 {code : ByteArray} {pc : Nat} (h : DkAt code pc [127]) : decode code pc = .ok (.land, 1) := dk_of ((dk_bind (dk_u1 (h 0 _ rfl))).trans rfl)
theorem dk_128 {code : ByteArray} {pc : Nat} (h : DkAt code pc [128]) : decode code pc = .ok (.ior, 1) := dk_of ((dk_bind (dk_u1 (h 0 _ rfl))).trans rfl)
theorem dk_129 {code : ByteArray} {pc : Nat} (h : DkAt code pc [129]) : decode code pc = .ok (.lor, 1) := dk_of ((dk_bind (dk_u1 (h 0 _ rfl))).trans rfl)
theorem dk_130 {code : ByteArray} {pc : Nat} (h : DkAt code pc [130]) : decode code pc = .ok (.ixor, 1) := dk_of ((dk_bind (dk_u1 (h 0 _ rfl))).trans rfl)
theorem dk_131 {code : ByteArray} {pc : Nat} (h : DkAt code pc [131]) : decode code pc = .ok (.lxor, 1) := dk_of ((dk_bind (dk_u1 (h 0 _ rfl))).trans rfl)
theorem dk_132 {code : ByteArray} {pc : Nat} (a b : UInt8) (h : DkAt code pc [132, a, b]) : decode code pc = .ok (.iinc a.toNat (Reader.signed 8 b.toNat), 3) := dk_of ((dk_bind (dk_u1 (h 0 _ rfl))).trans ((dk_bind (dk_u1 (h 1 _ rfl))).trans ((dk_bind (dk_map (dk_u1 (h 2 _ rfl)))).trans rfl)))
theorem dk_133 {code : ByteArray} {pc : Nat} (h : DkAt code pc [133]) : decode code pc = .ok (.i2l, 1) := dk_of ((dk_bind (dk_u1 (h 0 _ rfl))).trans rfl)
theorem dk_134 {code : ByteArray} {pc : Nat} (h : DkAt code pc [134]) : decode code pc = .ok (.i2f, 1) := dk_of ((dk_bind (dk_u1 (h 0 _ rfl))).trans rfl)
theorem dk_135 {code : ByteArray} {pc : Nat} (h : DkAt code pc [135]) : decode code pc = .ok (.i2d, 1) := dk_of ((dk_bind (dk_u1 (h 0 _ rfl))).trans rfl)
theorem dk_136 {code : ByteArray} {pc : Nat} (h : DkAt code pc [136]) : decode code pc = .ok (.l2i, 1) := dk_of ((dk_bind (dk_u1 (h 0 _ rfl))).trans rfl)
theorem dk_139 {code : ByteArray} {pc : Nat} (h : DkAt code pc [139]) : decode code pc = .ok (.f2i, 1) := dk_of ((dk_bind (dk_u1 (h 0 _ rfl))).trans rfl)
theorem dk_141 {code : ByteArray} {pc : Nat} (h : DkAt code pc [141]) : decode code pc = .ok (.f2d, 1) := dk_of ((dk_bind (dk_u1 (h 0 _ rfl))).trans rfl)
theorem dk_145 {code : ByteArray} {pc : Nat} (h : DkAt code pc [145]) : decode code pc = .ok (.i2b, 1) := dk_of ((dk_bind (dk_u1 (h 0 _ rfl))).trans rfl)
theorem dk_146 {code : ByteArray} {pc : Nat} (h : DkAt code pc [146]) : decode code pc = .ok (.i2c, 1) := dk_of ((dk_bind (dk_u1 (h 0 _ rfl))).trans rfl)
theorem dk_148 {code : ByteArray} {pc : Nat} (h : DkAt code pc [148]) : decode code pc = .ok (.lcmp, 1) := dk_of ((dk_bind (dk_u1 (h 0 _ rfl))).trans rfl)
theorem dk_149 {code : ByteArray} {pc : Nat} (h : DkAt code pc [149]) : decode code pc = .ok (.fcmp .l, 1) := dk_of ((dk_bind (dk_u1 (h 0 _ rfl))).trans rfl)
theorem dk_150 {code : ByteArray} {pc : Nat} (h : DkAt code pc [150]) : decode code pc = .ok (.fcmp .g, 1) := dk_of ((dk_bind (dk_u1 (h 0 _ rfl))).trans rfl)
theorem dk_151 {code : ByteArray} {pc : Nat} (h : DkAt code pc [151]) : decode code pc = .ok (.dcmp .l, 1) := dk_of ((dk_bind (dk_u1 (h 0 _ rfl))).trans rfl)
theorem dk_153 {code : ByteArray} {pc : Nat} (a b : UInt8) (h : DkAt code pc [153, a, b]) : decode code pc = .ok (.ifCond .eq (Reader.signed 16 (a.toNat * 256 + b.toNat)), 3) := dk_of ((dk_bind (dk_u1 (h 0 _ rfl))).trans ((dk_bind (dk_map (dk_u2 (h 1 _ rfl) (h 2 _ rfl)))).trans rfl))
theorem dk_154 {code : ByteArray} {pc : Nat} (a b : UInt8) (h : DkAt code pc [154, a, b]) : decode code pc = .ok (.ifCond .ne (Reader.signed 16 (a.toNat * 256 + b.toNat)), 3) := dk_of ((dk_bind (dk_u1 (h 0 _ rfl))).trans ((dk_bind (dk_map (dk_u2 (h 1 _ rfl) (h 2 _ rfl)))).trans rfl))
theorem dk_155 {code : ByteArray} {pc : Nat} (a b : UInt8) (h : DkAt code pc [155, a, b]) : decode code pc = .ok (.ifCond .lt (Reader.signed 16 (a.toNat * 256 + b.toNat)), 3) := dk_of ((dk_bind (dk_u1 (h 0 _ rfl))).trans ((dk_bind (dk_map (dk_u2 (h 1 _ rfl) (h 2 _ rfl)))).trans rfl))
theorem dk_156 {code : ByteArray} {pc : Nat} (a b : UInt8) (h : DkAt code pc [156, a, b]) : decode code pc = .ok (.ifCond .ge (Reader.signed 16 (a.toNat * 256 + b.toNat)), 3) := dk_of ((dk_bind (dk_u1 (h 0 _ rfl))).trans ((dk_bind (dk_map (dk_u2 (h 1 _ rfl) (h 2 _ rfl)))).trans rfl))
theorem dk_157 {code : ByteArray} {pc : Nat} (a b : UInt8) (h : DkAt code pc [157, a, b]) : decode code pc = .ok (.ifCond .gt (Reader.signed 16 (a.toNat * 256 + b.toNat)), 3) := dk_of ((dk_bind (dk_u1 (h 0 _ rfl))).trans ((dk_bind (dk_map (dk_u2 (h 1 _ rfl) (h 2 _ rfl)))).trans rfl))
theorem dk_158 {code : ByteArray} {pc : Nat} (a b : UInt8) (h : DkAt code pc [158, a, b]) : decode code pc = .ok (.ifCond .le (Reader.signed 16 (a.toNat * 256 + b.toNat)), 3) := dk_of ((dk_bind (dk_u1 (h 0 _ rfl))).trans ((dk_bind (dk_map (dk_u2 (h 1 _ rfl) (h 2 _ rfl)))).trans rfl))
theorem dk_159 {code : ByteArray} {pc : Nat} (a b : UInt8) (h : DkAt code pc [159, a, b]) : decode code pc = .ok (.if_icmp .eq (Reader.signed 16 (a.toNat * 256 + b.toNat)), 3) := dk_of ((dk_bind (dk_u1 (h 0 _ rfl))).trans ((dk_bind (dk_map (dk_u2 (h 1 _ rfl) (h 2 _ rfl)))).trans rfl))
theorem dk_160 {code : ByteArray} {pc : Nat} (a b : UInt8) (h : DkAt code pc [160, a, b]) : decode code pc = .ok (.if_icmp .ne (Reader.signed 16 (a.toNat * 256 + b.toNat)), 3) := dk_of ((dk_bind (dk_u1 (h 0 _ rfl))).trans ((dk_bind (dk_map (dk_u2 (h 1 _ rfl) (h 2 _ rfl)))).trans rfl))
theorem dk_161 {code : ByteArray} {pc : Nat} (a b : UInt8) (h : DkAt code pc [161, a, b]) : decode code pc = .ok (.if_icmp .lt (Reader.signed 16 (a.toNat * 256 + b.toNat)), 3) := dk_of ((dk_bind (dk_u1 (h 0 _ rfl))).trans ((dk_bind (dk_map (dk_u2 (h 1 _ rfl) (h 2 _ rfl)))).trans rfl))
theorem dk_162 {code : ByteArray} {pc : Nat} (a b : UInt8) (h : DkAt code pc [162, a, b]) : decode code pc = .ok (.if_icmp .ge (Reader.signed 16 (a.toNat * 256 + b.toNat)), 3) := dk_of ((dk_bind (dk_u1 (h 0 _ rfl))).trans ((dk_bind (dk_map (dk_u2 (h 1 _ rfl) (h 2 _ rfl)))).trans rfl))
theorem dk_163 {code : ByteArray} {pc : Nat} (a b : UInt8) (h : DkAt code pc [163, a, b]) : decode code pc = .ok (.if_icmp .gt (Reader.signed 16 (a.toNat * 256 + b.toNat)), 3) := dk_of ((dk_bind (dk_u1 (h 0 _ rfl))).trans ((dk_bind (dk_map (dk_u2 (h 1 _ rfl) (h 2 _ rfl)))).trans rfl))
theorem dk_164 {code : ByteArray} {pc : Nat} (a b : UInt8) (h : DkAt code pc [164, a, b]) : decode code pc = .ok (.if_icmp .le (Reader.signed 16 (a.toNat * 256 + b.toNat)), 3) := dk_of ((dk_bind (dk_u1 (h 0 _ rfl))).trans ((dk_bind (dk_map (dk_u2 (h 1 _ rfl) (h 2 _ rfl)))).trans rfl))
theorem dk_165 {code : ByteArray} {pc : Nat} (a b : UInt8) (h : DkAt code pc [165, a, b]) : decode code pc = .ok (.if_acmp .eq (Reader.signed 16 (a.toNat * 256 + b.toNat)), 3) := dk_of ((dk_bind (dk_u1 (h 0 _ rfl))).trans ((dk_bind (dk_map (dk_u2 (h 1 _ rfl) (h 2 _ rfl)))).trans rfl))
theorem dk_166 {code : ByteArray} {pc : Nat} (a b : UInt8) (h : DkAt code pc [166, a, b]) : decode code pc = .ok (.if_acmp .ne (Reader.signed 16 (a.toNat * 256 + b.toNat)), 3) := dk_of ((dk_bind (dk_u1 (h 0 _ rfl))).trans ((dk_bind (dk_map (dk_u2 (h 1 _ rfl) (h 2 _ rfl)))).trans rfl))
theorem dk_167 {code : ByteArray} {pc : Nat} (a b : UInt8) (h : DkAt code pc [167, a, b]) : decode code pc = .ok (.goto (Reader.signed 16 (a.toNat * 256 + b.toNat)), 3) := dk_of ((dk_bind (dk_u1 (h 0 _ rfl))).trans ((dk_bind (dk_map (dk_u2 (h 1 _ rfl) (h 2 _ rfl)))).trans rfl))
theorem dk_172 {code : ByteArray} {pc : Nat} (h : DkAt code pc [172]) : decode code pc = .ok (.ireturn, 1) := dk_of ((dk_bind (dk_u1 (h 0 _ rfl))).trans rfl)
theorem dk_173 {code : ByteArray} {pc : Nat} (h : DkAt code pc [173]) : decode code pc = .ok (.lreturn, 1) := dk_of ((dk_bind (dk_u1 (h 0 _ rfl))).trans rfl)
theorem dk_174 {code : ByteArray} {pc : Nat} (h : DkAt code pc [174]) : decode code pc = .ok (.freturn, 1) := dk_of ((dk_bind (dk_u1 (h 0 _ rfl))).trans rfl)
theorem dk_175 {code : ByteArray} {pc : Nat} (h : DkAt code pc [175]) : decode code pc = .ok (.dreturn, 1) := dk_of ((dk_bind (dk_u1 (h 0 _ rfl))).trans rfl)
theorem dk_176 {code : ByteArray} {pc : Nat} (h : DkAt code pc [176]) : decode code pc = .ok (.areturn, 1) := dk_of ((dk_bind (dk_u1 (h 0 _ rfl))).trans rfl)
theorem dk_177 {code : ByteArray} {pc : Nat} (h : DkAt code pc [177]) : decode code pc = .ok (.return_, 1) := dk_of ((dk_bind (dk_u1 (h 0 _ rfl))).trans rfl)
theorem dk_178 {code : ByteArray} {pc : Nat} (a b : UInt8) (h : DkAt code pc [178, a, b]) : decode code pc = .ok (.getstatic (a.toNat * 256 + b.toNat), 3) := dk_of ((dk_bind (dk_u1 (h 0 _ rfl))).trans ((dk_bind (dk_u2 (h 1 _ rfl) (h 2 _ rfl))).trans rfl))
theorem dk_180 {code : ByteArray} {pc : Nat} (a b : UInt8) (h : DkAt code pc [180, a, b]) : decode code pc = .ok (.getfield (a.toNat * 256 + b.toNat), 3) := dk_of ((dk_bind (dk_u1 (h 0 _ rfl))).trans ((dk_bind (dk_u2 (h 1 _ rfl) (h 2 _ rfl))).trans rfl))
theorem dk_181 {code : ByteArray} {pc : Nat} (a b : UInt8) (h : DkAt code pc [181, a, b]) : decode code pc = .ok (.putfield (a.toNat * 256 + b.toNat), 3) := dk_of ((dk_bind (dk_u1 (h 0 _ rfl))).trans ((dk_bind (dk_u2 (h 1 _ rfl) (h 2 _ rfl))).trans rfl))
theorem dk_182 {code : ByteArray} {pc : Nat} (a b : UInt8) (h : DkAt code pc [182, a, b]) : decode code pc = .ok (.invokevirtual (a.toNat * 256 + b.toNat), 3) := dk_of ((dk_bind (dk_u1 (h 0 _ rfl))).trans ((dk_bind (dk_u2 (h 1 _ rfl) (h 2 _ rfl))).trans rfl))
theorem dk_183 {code : ByteArray} {pc : Nat} (a b : UInt8) (h : DkAt code pc [183, a, b]) : decode code pc = .ok (.invokespecial (a.toNat * 256 + b.toNat), 3) := dk_of ((dk_bind (dk_u1 (h 0 _ rfl))).trans ((dk_bind (dk_u2 (h 1 _ rfl) (h 2 _ rfl))).trans rfl))
theorem dk_184 {code : ByteArray} {pc : Nat} (a b : UInt8) (h : DkAt code pc [184, a, b]) : decode code pc = .ok (.invokestatic (a.toNat * 256 + b.toNat), 3) := dk_of ((dk_bind (dk_u1 (h 0 _ rfl))).trans ((dk_bind (dk_u2 (h 1 _ rfl) (h 2 _ rfl))).trans rfl))
theorem dk_187 {code : ByteArray} {pc : Nat} (a b : UInt8) (h : DkAt code pc [187, a, b]) : decode code pc = .ok (.new (a.toNat * 256 + b.toNat), 3) := dk_of ((dk_bind (dk_u1 (h 0 _ rfl))).trans ((dk_bind (dk_u2 (h 1 _ rfl) (h 2 _ rfl))).trans rfl))
theorem dk_188_4 {code : ByteArray} {pc : Nat} (h : DkAt code pc [188, 4]) : decode code pc = .ok (.newarray .boolean, 2) := dk_of ((dk_bind (dk_u1 (h 0 _ rfl))).trans ((dk_bind (dk_u1 (h 1 _ rfl))).trans rfl))
theorem dk_188_5 {code : ByteArray} {pc : Nat} (h : DkAt code pc [188, 5]) : decode code pc = .ok (.newarray .char, 2) := dk_of ((dk_bind (dk_u1 (h 0 _ rfl))).trans ((dk_bind (dk_u1 (h 1 _ rfl))).trans rfl))
theorem dk_188_7 {code : ByteArray} {pc : Nat} (h : DkAt code pc [188, 7]) : decode code pc = .ok (.newarray .double, 2) := dk_of ((dk_bind (dk_u1 (h 0 _ rfl))).trans ((dk_bind (dk_u1 (h 1 _ rfl))).trans rfl))
theorem dk_188_8 {code : ByteArray} {pc : Nat} (h : DkAt code pc [188, 8]) : decode code pc = .ok (.newarray .byte, 2) := dk_of ((dk_bind (dk_u1 (h 0 _ rfl))).trans ((dk_bind (dk_u1 (h 1 _ rfl))).trans rfl))
theorem dk_188_10 {code : ByteArray} {pc : Nat} (h : DkAt code pc [188, 10]) : decode code pc = .ok (.newarray .int, 2) := dk_of ((dk_bind (dk_u1 (h 0 _ rfl))).trans ((dk_bind (dk_u1 (h 1 _ rfl))).trans rfl))
theorem dk_188_11 {code : ByteArray} {pc : Nat} (h : DkAt code pc [188, 11]) : decode code pc = .ok (.newarray .long, 2) := dk_of ((dk_bind (dk_u1 (h 0 _ rfl))).trans ((dk_bind (dk_u1 (h 1 _ rfl))).trans rfl))
theorem dk_189 {code : ByteArray} {pc : Nat} (a b : UInt8) (h : DkAt code pc [189, a, b]) : decode code pc = .ok (.anewarray (a.toNat * 256 + b.toNat), 3) := dk_of ((dk_bind (dk_u1 (h 0 _ rfl))).trans ((dk_bind (dk_u2 (h 1 _ rfl) (h 2 _ rfl))).trans rfl))
theorem dk_190 {code : ByteArray} {pc : Nat} (h : DkAt code pc [190]) : decode code pc = .ok (.arraylength, 1) := dk_of ((dk_bind (dk_u1 (h 0 _ rfl))).trans rfl)
theorem dk_191 {code : ByteArray} {pc : Nat} (h : DkAt code pc [191]) : decode code pc = .ok (.athrow, 1) := dk_of ((dk_bind (dk_u1 (h 0 _ rfl))).trans rfl)
theorem dk_192 {code : ByteArray} {pc : Nat} (a b : UInt8) (h : DkAt code pc [192, a, b]) : decode code pc = .ok (.checkcast (a.toNat * 256 + b.toNat), 3) := dk_of ((dk_bind (dk_u1 (h 0 _ rfl))).trans ((dk_bind (dk_u2 (h 1 _ rfl) (h 2 _ rfl))).trans rfl))
theorem dk_193 {code : ByteArray} {pc : Nat} (a b : UInt8) (h : DkAt code pc [193, a, b]) : decode code pc = .ok (.instanceof (a.toNat * 256 + b.toNat), 3) := dk_of ((dk_bind (dk_u1 (h 0 _ rfl))).trans ((dk_bind (dk_u2 (h 1 _ rfl) (h 2 _ rfl))).trans rfl))
theorem dk_198 {code : ByteArray} {pc : Nat} (a b : UInt8) (h : DkAt code pc [198, a, b]) : decode code pc = .ok (.ifnull (Reader.signed 16 (a.toNat * 256 + b.toNat)), 3) := dk_of ((dk_bind (dk_u1 (h 0 _ rfl))).trans ((dk_bind (dk_map (dk_u2 (h 1 _ rfl) (h 2 _ rfl)))).trans rfl))
theorem dk_199 {code : ByteArray} {pc : Nat} (a b : UInt8) (h : DkAt code pc [199, a, b]) : decode code pc = .ok (.ifnonnull (Reader.signed 16 (a.toNat * 256 + b.toNat)), 3) := dk_of ((dk_bind (dk_u1 (h 0 _ rfl))).trans ((dk_bind (dk_map (dk_u2 (h 1 _ rfl) (h 2 _ rfl)))).trans rfl))

theorem q202 : (Jvm.Cond.initialized "RoseGuild$Kind") ∈ lw_all := lw_g (lw_at lw_m1 67 rfl) rfl
set_option maxRecDepth 100000
theorem q974 : (Jvm.Cond.selects "RoseGuild$Kind" ({ cls := "java/lang/Object", name := "toString", desc := "()Ljava/lang/String;" } : Jvm.MethodName) ({ cls := "java/lang/Enum", name := "toString", desc := "()Ljava/lang/String;" } : Jvm.MethodName)) ∈ lw_all := lw_g (lw_at lw_m4 119 rfl) rfl
theorem q991 : (Jvm.Cond.selects "RoseGuild$Kind" ({ cls := "java/lang/Object", name := "getClass", desc := "()Ljava/lang/Class;" } : Jvm.MethodName) ({ cls := "java/lang/Object", name := "getClass", desc := "()Ljava/lang/Class;" } : Jvm.MethodName)) ∈ lw_all := lw_g (lw_at lw_m4 136 rfl) rfl
theorem q1448 : (Jvm.Cond.selects "RoseGuild$Kind" ({ cls := "java/lang/Object", name := "hashCode", desc := "()I" } : Jvm.MethodName) ({ cls := "java/lang/Enum", name := "hashCode", desc := "()I" } : Jvm.MethodName)) ∈ lw_all := lw_g (lw_at lw_m6 113 rfl) rfl
theorem q1631 : (Jvm.Cond.castable "RoseGuild$Kind" "java/lang/Comparable") ∈ lw_tbl := lw_at lw_m7 56 rfl
theorem q1632 : (Jvm.Cond.selects "RoseGuild$Kind" ({ cls := "java/lang/Comparable", name := "compareTo", desc := "(Ljava/lang/Object;)I" } : Jvm.MethodName) ({ cls := "java/lang/Enum", name := "compareTo", desc := "(Ljava/lang/Object;)I" } : Jvm.MethodName)) ∈ lw_all := lw_g (lw_at lw_m7 57 rfl) rfl
theorem q1633 : (Jvm.Cond.unhidden "RoseGuild$Kind" "compareTo" "(Ljava/lang/Object;)I") ∈ lw_tbl := lw_at lw_m7 58 rfl
theorem q1641 : (Jvm.Cond.selects "RoseGuild$Kind" ({ cls := "java/lang/Enum", name := "compareTo", desc := "(Ljava/lang/Enum;)I" } : Jvm.MethodName) ({ cls := "java/lang/Enum", name := "compareTo", desc := "(Ljava/lang/Enum;)I" } : Jvm.MethodName)) ∈ lw_all := lw_g (lw_at lw_m7 66 rfl) rfl
theorem q1648 : (Jvm.Cond.selects "RoseGuild$Kind" ({ cls := "java/lang/Enum", name := "getDeclaringClass", desc := "()Ljava/lang/Class;" } : Jvm.MethodName) ({ cls := "java/lang/Enum", name := "getDeclaringClass", desc := "()Ljava/lang/Class;" } : Jvm.MethodName)) ∈ lw_all := lw_g (lw_at lw_m7 73 rfl) rfl
theorem q1866 : (Jvm.Cond.selects "RoseGuild$Kind" ({ cls := "java/lang/Object", name := "equals", desc := "(Ljava/lang/Object;)Z" } : Jvm.MethodName) ({ cls := "java/lang/Enum", name := "equals", desc := "(Ljava/lang/Object;)Z" } : Jvm.MethodName)) ∈ lw_all := lw_g (lw_at lw_m8 51 rfl) rfl
theorem q2956 : (Jvm.Cond.laysStatic "RoseGuild$Kind" "INDEX" "LRoseGuild$Kind;") ∈ lw_tbl := lw_at lw_m12 181 rfl
theorem q3025 : (Jvm.Cond.laysStatic "RoseGuild$Kind" "ARGUMENT" "LRoseGuild$Kind;") ∈ lw_tbl := lw_at lw_m13 10 rfl
theorem q3027 : (Jvm.Cond.laysStatic "RoseGuild$Kind" "STATE" "LRoseGuild$Kind;") ∈ lw_tbl := lw_at lw_m13 12 rfl
theorem q3563 : (Jvm.Cond.sameMethod "RoseGuild$Kind" "java/lang/Enum" "ordinal" "()I") ∈ lw_all := lw_g (lw_at lw_m15 68 rfl) rfl
theorem q3565 : (Jvm.Cond.selects "RoseGuild$Kind" ({ cls := "RoseGuild$Kind", name := "ordinal", desc := "()I" } : Jvm.MethodName) ({ cls := "java/lang/Enum", name := "ordinal", desc := "()I" } : Jvm.MethodName)) ∈ lw_all := lw_g (lw_at lw_m15 70 rfl) rfl
theorem q4367 : (Jvm.Cond.castable "RoseGuild$Kind" "java/lang/Enum") ∈ lw_tbl := lw_at lw_m18 152 rfl
theorem q4421 : (Jvm.Cond.castable "RoseGuild$Kind" "java/lang/Object") ∈ lw_tbl := lw_at lw_m18 206 rfl
theorem q4458 : (Jvm.Cond.stringRef "RoseGuild$Kind" (32 : Nat) "INDEX") ∈ lw_tbl := lw_at lw_m19 3 rfl
theorem q4459 : (Jvm.Cond.stringRef "RoseGuild$Kind" (34 : Nat) "ARGUMENT") ∈ lw_tbl := lw_at lw_m19 4 rfl
theorem q4460 : (Jvm.Cond.stringRef "RoseGuild$Kind" (35 : Nat) "STATE") ∈ lw_tbl := lw_at lw_m19 5 rfl

theorem q189 : (Jvm.Cond.initialized "RoseGuild$TokenKind") ∈ lw_all := lw_g (lw_at lw_m1 54 rfl) rfl
set_option maxRecDepth 100000
theorem q999 : (Jvm.Cond.selects "RoseGuild$TokenKind" ({ cls := "java/lang/Object", name := "getClass", desc := "()Ljava/lang/Class;" } : Jvm.MethodName) ({ cls := "java/lang/Object", name := "getClass", desc := "()Ljava/lang/Class;" } : Jvm.MethodName)) ∈ lw_all := lw_g (lw_at lw_m4 144 rfl) rfl
theorem q1064 : (Jvm.Cond.selects "RoseGuild$TokenKind" ({ cls := "java/lang/Object", name := "toString", desc := "()Ljava/lang/String;" } : Jvm.MethodName) ({ cls := "java/lang/Enum", name := "toString", desc := "()Ljava/lang/String;" } : Jvm.MethodName)) ∈ lw_all := lw_g (lw_at lw_m4 209 rfl) rfl
theorem q1463 : (Jvm.Cond.selects "RoseGuild$TokenKind" ({ cls := "java/lang/Object", name := "hashCode", desc := "()I" } : Jvm.MethodName) ({ cls := "java/lang/Enum", name := "hashCode", desc := "()I" } : Jvm.MethodName)) ∈ lw_all := lw_g (lw_at lw_m6 128 rfl) rfl
theorem q1642 : (Jvm.Cond.selects "RoseGuild$TokenKind" ({ cls := "java/lang/Enum", name := "compareTo", desc := "(Ljava/lang/Enum;)I" } : Jvm.MethodName) ({ cls := "java/lang/Enum", name := "compareTo", desc := "(Ljava/lang/Enum;)I" } : Jvm.MethodName)) ∈ lw_all := lw_g (lw_at lw_m7 67 rfl) rfl
theorem q1649 : (Jvm.Cond.selects "RoseGuild$TokenKind" ({ cls := "java/lang/Enum", name := "getDeclaringClass", desc := "()Ljava/lang/Class;" } : Jvm.MethodName) ({ cls := "java/lang/Enum", name := "getDeclaringClass", desc := "()Ljava/lang/Class;" } : Jvm.MethodName)) ∈ lw_all := lw_g (lw_at lw_m7 74 rfl) rfl
theorem q1651 : (Jvm.Cond.castable "RoseGuild$TokenKind" "java/lang/Comparable") ∈ lw_tbl := lw_at lw_m7 76 rfl
theorem q1652 : (Jvm.Cond.selects "RoseGuild$TokenKind" ({ cls := "java/lang/Comparable", name := "compareTo", desc := "(Ljava/lang/Object;)I" } : Jvm.MethodName) ({ cls := "java/lang/Enum", name := "compareTo", desc := "(Ljava/lang/Object;)I" } : Jvm.MethodName)) ∈ lw_all := lw_g (lw_at lw_m7 77 rfl) rfl
theorem q1653 : (Jvm.Cond.unhidden "RoseGuild$TokenKind" "compareTo" "(Ljava/lang/Object;)I") ∈ lw_tbl := lw_at lw_m7 78 rfl
theorem q1879 : (Jvm.Cond.selects "RoseGuild$TokenKind" ({ cls := "java/lang/Object", name := "equals", desc := "(Ljava/lang/Object;)Z" } : Jvm.MethodName) ({ cls := "java/lang/Enum", name := "equals", desc := "(Ljava/lang/Object;)Z" } : Jvm.MethodName)) ∈ lw_all := lw_g (lw_at lw_m8 64 rfl) rfl
theorem q2129 : (Jvm.Cond.laysStatic "RoseGuild$TokenKind" "END" "LRoseGuild$TokenKind;") ∈ lw_tbl := lw_at lw_m9 74 rfl
theorem q2154 : (Jvm.Cond.laysStatic "RoseGuild$TokenKind" "WORD" "LRoseGuild$TokenKind;") ∈ lw_tbl := lw_at lw_m9 99 rfl
theorem q2162 : (Jvm.Cond.laysStatic "RoseGuild$TokenKind" "NUMBER" "LRoseGuild$TokenKind;") ∈ lw_tbl := lw_at lw_m9 107 rfl
theorem q2164 : (Jvm.Cond.laysStatic "RoseGuild$TokenKind" "SIGN" "LRoseGuild$TokenKind;") ∈ lw_tbl := lw_at lw_m9 109 rfl
theorem q4368 : (Jvm.Cond.castable "RoseGuild$TokenKind" "java/lang/Enum") ∈ lw_tbl := lw_at lw_m18 153 rfl
theorem q4409 : (Jvm.Cond.castable "RoseGuild$TokenKind" "java/lang/Object") ∈ lw_tbl := lw_at lw_m18 194 rfl
theorem q4454 : (Jvm.Cond.stringRef "RoseGuild$TokenKind" (35 : Nat) "END") ∈ lw_tbl := lw_at lw_m18 239 rfl
theorem q4455 : (Jvm.Cond.stringRef "RoseGuild$TokenKind" (37 : Nat) "WORD") ∈ lw_tbl := lw_at lw_m19 0 rfl
theorem q4456 : (Jvm.Cond.stringRef "RoseGuild$TokenKind" (38 : Nat) "NUMBER") ∈ lw_tbl := lw_at lw_m19 1 rfl
theorem q4457 : (Jvm.Cond.stringRef "RoseGuild$TokenKind" (39 : Nat) "SIGN") ∈ lw_tbl := lw_at lw_m19 2 rfl

theorem q430 : (Jvm.Cond.sameMethod "[B" "java/lang/Object" "clone" "()Ljava/lang/Object;") ∈ lw_all := lw_g (lw_at lw_m2 55 rfl) rfl
set_option maxRecDepth 100000
theorem q433 : (Jvm.Cond.selects "[B" ({ cls := "[B", name := "clone", desc := "()Ljava/lang/Object;" } : Jvm.MethodName) ({ cls := "java/lang/Object", name := "clone", desc := "()Ljava/lang/Object;" } : Jvm.MethodName)) ∈ lw_all := lw_g (lw_at lw_m2 58 rfl) rfl
theorem q434 : (Jvm.Cond.castable "[B" "java/lang/Cloneable") ∈ lw_tbl := lw_at lw_m2 59 rfl
theorem q4434 : (Jvm.Cond.castable "[B" "java/lang/Object") ∈ lw_tbl := lw_at lw_m18 219 rfl

theorem q4436 : (Jvm.Cond.castable "[C" "java/lang/Object") ∈ lw_tbl := lw_at lw_m18 221 rfl
set_option maxRecDepth 100000

theorem q4441 : (Jvm.Cond.castable "[D" "java/lang/Object") ∈ lw_tbl := lw_at lw_m18 226 rfl
set_option maxRecDepth 100000

theorem q4439 : (Jvm.Cond.castable "[I" "java/lang/Object") ∈ lw_tbl := lw_at lw_m18 224 rfl
set_option maxRecDepth 100000

theorem q2846 : (Jvm.Cond.sameMethod "[J" "java/lang/Object" "clone" "()Ljava/lang/Object;") ∈ lw_all := lw_g (lw_at lw_m12 71 rfl) rfl
set_option maxRecDepth 100000
theorem q2847 : (Jvm.Cond.selects "[J" ({ cls := "[J", name := "clone", desc := "()Ljava/lang/Object;" } : Jvm.MethodName) ({ cls := "java/lang/Object", name := "clone", desc := "()Ljava/lang/Object;" } : Jvm.MethodName)) ∈ lw_all := lw_g (lw_at lw_m12 72 rfl) rfl
theorem q2848 : (Jvm.Cond.castable "[J" "java/lang/Cloneable") ∈ lw_tbl := lw_at lw_m12 73 rfl
theorem q4437 : (Jvm.Cond.castable "[J" "java/lang/Object") ∈ lw_tbl := lw_at lw_m18 222 rfl

theorem q4435 : (Jvm.Cond.castable "[LRoseGuild$Guild;" "java/lang/Object") ∈ lw_tbl := lw_at lw_m18 220 rfl
set_option maxRecDepth 100000

theorem q4430 : (Jvm.Cond.sameMethod "[Ljava/lang/Object;" "java/lang/Object" "getClass" "()Ljava/lang/Class;") ∈ lw_all := lw_g (lw_at lw_m18 215 rfl) rfl
set_option maxRecDepth 100000
theorem q4431 : (Jvm.Cond.selects "[Ljava/lang/Object;" ({ cls := "java/lang/Object", name := "getClass", desc := "()Ljava/lang/Class;" } : Jvm.MethodName) ({ cls := "java/lang/Object", name := "getClass", desc := "()Ljava/lang/Class;" } : Jvm.MethodName)) ∈ lw_all := lw_g (lw_at lw_m18 216 rfl) rfl
theorem q4433 : (Jvm.Cond.castable "[Ljava/lang/Object;" "java/lang/Object") ∈ lw_tbl := lw_at lw_m18 218 rfl

theorem q4438 : (Jvm.Cond.castable "[Ljava/util/HashMap$Node;" "java/lang/Object") ∈ lw_tbl := lw_at lw_m18 223 rfl
set_option maxRecDepth 100000

theorem q4440 : (Jvm.Cond.castable "[Z" "java/lang/Object") ∈ lw_tbl := lw_at lw_m18 225 rfl
set_option maxRecDepth 100000

theorem q791 : (Jvm.Cond.interfaceMethod "java/lang/Appendable" "java/lang/Appendable" "append" "(C)Ljava/lang/Appendable;") ∈ lw_tbl := lw_at lw_m3 176 rfl
set_option maxRecDepth 100000
theorem q792 : (Jvm.Cond.declares ({ cls := "java/lang/Appendable", name := "append", desc := "(C)Ljava/lang/Appendable;" } : Jvm.MethodName)) ∈ lw_tbl := lw_at lw_m3 177 rfl
theorem q821 : (Jvm.Cond.interfaceMethod "java/lang/Appendable" "java/lang/Appendable" "append" "(Ljava/lang/CharSequence;)Ljava/lang/Appendable;") ∈ lw_tbl := lw_at lw_m3 206 rfl
theorem q822 : (Jvm.Cond.declares ({ cls := "java/lang/Appendable", name := "append", desc := "(Ljava/lang/CharSequence;)Ljava/lang/Appendable;" } : Jvm.MethodName)) ∈ lw_tbl := lw_at lw_m3 207 rfl

theorem q864 : (Jvm.Cond.interfaceMethod "java/lang/CharSequence" "java/lang/CharSequence" "length" "()I") ∈ lw_tbl := lw_at lw_m4 9 rfl
set_option maxRecDepth 100000
theorem q865 : (Jvm.Cond.declares ({ cls := "java/lang/CharSequence", name := "length", desc := "()I" } : Jvm.MethodName)) ∈ lw_tbl := lw_at lw_m4 10 rfl
theorem q919 : (Jvm.Cond.interfaceMethod "java/lang/CharSequence" "java/lang/CharSequence" "charAt" "(I)C") ∈ lw_tbl := lw_at lw_m4 64 rfl
theorem q920 : (Jvm.Cond.declares ({ cls := "java/lang/CharSequence", name := "charAt", desc := "(I)C" } : Jvm.MethodName)) ∈ lw_tbl := lw_at lw_m4 65 rfl

theorem q1629 : (Jvm.Cond.interfaceMethod "java/lang/Comparable" "java/lang/Comparable" "compareTo" "(Ljava/lang/Object;)I") ∈ lw_tbl := lw_at lw_m7 54 rfl
set_option maxRecDepth 100000
theorem q1630 : (Jvm.Cond.declares ({ cls := "java/lang/Comparable", name := "compareTo", desc := "(Ljava/lang/Object;)I" } : Jvm.MethodName)) ∈ lw_tbl := lw_at lw_m7 55 rfl

theorem q160 : (Jvm.Cond.initialized "java/lang/Number") ∈ lw_all := lw_g (lw_at lw_m1 25 rfl) rfl
set_option maxRecDepth 100000

theorem q784 : (Jvm.Cond.instanceMethod ({ cls := "java/lang/StringBuffer", name := "append", desc := "([C)Ljava/lang/StringBuffer;" } : Jvm.MethodName)) ∈ lw_all := lw_g (lw_at lw_m3 169 rfl) rfl
set_option maxRecDepth 100000
theorem q785 : (Jvm.Cond.selects "java/lang/StringBuffer" ({ cls := "java/lang/StringBuffer", name := "append", desc := "([C)Ljava/lang/StringBuffer;" } : Jvm.MethodName) ({ cls := "java/lang/StringBuffer", name := "append", desc := "([C)Ljava/lang/StringBuffer;" } : Jvm.MethodName)) ∈ lw_all := lw_g (lw_at lw_m3 170 rfl) rfl
theorem q786 : (Jvm.Cond.codeSync ({ cls := "java/lang/StringBuffer", name := "append", desc := "([C)Ljava/lang/StringBuffer;" } : Jvm.MethodName) prog_46_method_24_code (2 : Nat) (Option.some (Jvm.ClassFile.FieldType.object "java/lang/StringBuffer"))) ∈ lw_all := lw_g (lw_at lw_m3 171 rfl) rfl
theorem q787 : (Jvm.Cond.methodLink "java/lang/StringBuffer" (89 : Nat) ({ cls := "java/lang/AbstractStringBuilder", name := "append", desc := "([C)Ljava/lang/AbstractStringBuilder;" } : Jvm.MethodName)) ∈ lw_all := lw_g (lw_at lw_m3 172 rfl) rfl
theorem q788 : (Jvm.Cond.superclass "java/lang/StringBuffer" "java/lang/AbstractStringBuilder") ∈ lw_all := lw_g (lw_at lw_m3 173 rfl) rfl
theorem q4443 : (Jvm.Cond.fieldLink "java/lang/StringBuffer" (34 : Nat) "java/lang/StringBuffer" "toStringCache" "Ljava/lang/String;") ∈ lw_all := lw_g (lw_at lw_m18 228 rfl) rfl

theorem q157 : (Jvm.Cond.initialized "java/lang/System") ∈ lw_all := lw_g (lw_at lw_m1 22 rfl) rfl
set_option maxRecDepth 100000
theorem q440 : (Jvm.Cond.static ({ cls := "java/lang/System", name := "arraycopy", desc := "(Ljava/lang/Object;ILjava/lang/Object;II)V" } : Jvm.MethodName)) ∈ lw_all := lw_g (lw_at lw_m2 65 rfl) rfl
theorem q441 : (Jvm.Cond.native ({ cls := "java/lang/System", name := "arraycopy", desc := "(Ljava/lang/Object;ILjava/lang/Object;II)V" } : Jvm.MethodName)) ∈ lw_all := lw_g (lw_at lw_m2 66 rfl) rfl
theorem q1452 : (Jvm.Cond.static ({ cls := "java/lang/System", name := "identityHashCode", desc := "(Ljava/lang/Object;)I" } : Jvm.MethodName)) ∈ lw_all := lw_g (lw_at lw_m6 117 rfl) rfl
theorem q1453 : (Jvm.Cond.native ({ cls := "java/lang/System", name := "identityHashCode", desc := "(Ljava/lang/Object;)I" } : Jvm.MethodName)) ∈ lw_all := lw_g (lw_at lw_m6 118 rfl) rfl

theorem q197 : (Jvm.Cond.initialized "java/util/AbstractList$ListItr") ∈ lw_all := lw_g (lw_at lw_m1 62 rfl) rfl
set_option maxRecDepth 100000
theorem q1010 : (Jvm.Cond.selects "java/util/AbstractList$ListItr" ({ cls := "java/lang/Object", name := "getClass", desc := "()Ljava/lang/Class;" } : Jvm.MethodName) ({ cls := "java/lang/Object", name := "getClass", desc := "()Ljava/lang/Class;" } : Jvm.MethodName)) ∈ lw_all := lw_g (lw_at lw_m4 155 rfl) rfl
theorem q2679 : (Jvm.Cond.castable "java/util/AbstractList$ListItr" "java/util/Iterator") ∈ lw_tbl := lw_at lw_m11 144 rfl
theorem q2680 : (Jvm.Cond.selects "java/util/AbstractList$ListItr" ({ cls := "java/util/Iterator", name := "hasNext", desc := "()Z" } : Jvm.MethodName) ({ cls := "java/util/AbstractList$Itr", name := "hasNext", desc := "()Z" } : Jvm.MethodName)) ∈ lw_all := lw_g (lw_at lw_m11 145 rfl) rfl
theorem q2681 : (Jvm.Cond.unhidden "java/util/AbstractList$ListItr" "hasNext" "()Z") ∈ lw_tbl := lw_at lw_m11 146 rfl
theorem q2709 : (Jvm.Cond.selects "java/util/AbstractList$ListItr" ({ cls := "java/util/Iterator", name := "next", desc := "()Ljava/lang/Object;" } : Jvm.MethodName) ({ cls := "java/util/AbstractList$Itr", name := "next", desc := "()Ljava/lang/Object;" } : Jvm.MethodName)) ∈ lw_all := lw_g (lw_at lw_m11 174 rfl) rfl
theorem q2710 : (Jvm.Cond.unhidden "java/util/AbstractList$ListItr" "next" "()Ljava/lang/Object;") ∈ lw_tbl := lw_at lw_m11 175 rfl
theorem q2717 : (Jvm.Cond.selects "java/util/AbstractList$ListItr" ({ cls := "java/util/AbstractList$Itr", name := "checkForComodification", desc := "()V" } : Jvm.MethodName) ({ cls := "java/util/AbstractList$Itr", name := "checkForComodification", desc := "()V" } : Jvm.MethodName)) ∈ lw_all := lw_g (lw_at lw_m11 182 rfl) rfl
theorem q4416 : (Jvm.Cond.castable "java/util/AbstractList$ListItr" "java/lang/Object") ∈ lw_tbl := lw_at lw_m18 201 rfl
theorem q4447 : (Jvm.Cond.fieldLink "java/util/AbstractList$ListItr" (1 : Nat) "java/util/AbstractList$ListItr" "this$0" "Ljava/util/AbstractList;") ∈ lw_all := lw_g (lw_at lw_m18 232 rfl) rfl
theorem q4452 : (Jvm.Cond.fieldLink "java/util/AbstractList$ListItr" (13 : Nat) "java/util/AbstractList$ListItr" "cursor" "I") ∈ lw_all := lw_g (lw_at lw_m18 237 rfl) rfl
theorem q4453 : (Jvm.Cond.sameField "java/util/AbstractList$ListItr" "java/util/AbstractList$Itr" "cursor" "I") ∈ lw_all := lw_g (lw_at lw_m18 238 rfl) rfl

theorem q2677 : (Jvm.Cond.interfaceMethod "java/util/Iterator" "java/util/Iterator" "hasNext" "()Z") ∈ lw_tbl := lw_at lw_m11 142 rfl
set_option maxRecDepth 100000
theorem q2678 : (Jvm.Cond.declares ({ cls := "java/util/Iterator", name := "hasNext", desc := "()Z" } : Jvm.MethodName)) ∈ lw_tbl := lw_at lw_m11 143 rfl
theorem q2707 : (Jvm.Cond.interfaceMethod "java/util/Iterator" "java/util/Iterator" "next" "()Ljava/lang/Object;") ∈ lw_tbl := lw_at lw_m11 172 rfl
theorem q2708 : (Jvm.Cond.declares ({ cls := "java/util/Iterator", name := "next", desc := "()Ljava/lang/Object;" } : Jvm.MethodName)) ∈ lw_tbl := lw_at lw_m11 173 rfl

theorem q1358 : (Jvm.Cond.interfaceMethod "java/util/List" "java/util/List" "add" "(Ljava/lang/Object;)Z") ∈ lw_tbl := lw_at lw_m6 23 rfl
set_option maxRecDepth 100000
theorem q1359 : (Jvm.Cond.declares ({ cls := "java/util/List", name := "add", desc := "(Ljava/lang/Object;)Z" } : Jvm.MethodName)) ∈ lw_tbl := lw_at lw_m6 24 rfl
theorem q2046 : (Jvm.Cond.interfaceMethod "java/util/List" "java/util/List" "size" "()I") ∈ lw_tbl := lw_at lw_m8 231 rfl
theorem q2047 : (Jvm.Cond.declares ({ cls := "java/util/List", name := "size", desc := "()I" } : Jvm.MethodName)) ∈ lw_tbl := lw_at lw_m8 232 rfl
theorem q2290 : (Jvm.Cond.interfaceMethod "java/util/List" "java/util/List" "get" "(I)Ljava/lang/Object;") ∈ lw_tbl := lw_at lw_m9 235 rfl
theorem q2291 : (Jvm.Cond.declares ({ cls := "java/util/List", name := "get", desc := "(I)Ljava/lang/Object;" } : Jvm.MethodName)) ∈ lw_tbl := lw_at lw_m9 236 rfl
theorem q2564 : (Jvm.Cond.interfaceMethod "java/util/List" "java/util/List" "iterator" "()Ljava/util/Iterator;") ∈ lw_tbl := lw_at lw_m11 29 rfl
theorem q2565 : (Jvm.Cond.declares ({ cls := "java/util/List", name := "iterator", desc := "()Ljava/util/Iterator;" } : Jvm.MethodName)) ∈ lw_tbl := lw_at lw_m11 30 rfl

theorem q1491 : (Jvm.Cond.interfaceMethod "jdk/internal/access/JavaLangAccess" "jdk/internal/access/JavaLangAccess" "getUTF16Char" "([BI)C") ∈ lw_tbl := lw_at lw_m6 156 rfl
set_option maxRecDepth 100000
theorem q1492 : (Jvm.Cond.declares ({ cls := "jdk/internal/access/JavaLangAccess", name := "getUTF16Char", desc := "([BI)C" } : Jvm.MethodName)) ∈ lw_tbl := lw_at lw_m6 157 rfl

theorem q180 : (Jvm.Cond.initialized "jdk/internal/misc/UnsafeConstants") ∈ lw_all := lw_g (lw_at lw_m1 45 rfl) rfl
set_option maxRecDepth 100000
theorem q1712 : (Jvm.Cond.laysStatic "jdk/internal/misc/UnsafeConstants" "BIG_ENDIAN" "Z") ∈ lw_tbl := lw_at lw_m7 137 rfl

theorem q227 : (Jvm.Cond.arrayOver (Jvm.ClassFile.FieldType.object "java/lang/Object")) ∈ lw_tbl := lw_at lw_m1 92 rfl
set_option maxRecDepth 100000
theorem q238 : (Jvm.Cond.arrayClass Jvm.ClassFile.FieldType.byte) ∈ lw_all := lw_g (lw_at lw_m1 103 rfl) rfl
theorem q240 : (Jvm.Cond.arrayOver (Jvm.ClassFile.FieldType.object "RoseGuild$Guild")) ∈ lw_tbl := lw_at lw_m1 105 rfl
theorem q1088 : (Jvm.Cond.arrayClass Jvm.ClassFile.FieldType.char) ∈ lw_all := lw_g (lw_at lw_m4 233 rfl) rfl
theorem q1213 : (Jvm.Cond.arrayClass Jvm.ClassFile.FieldType.long) ∈ lw_all := lw_g (lw_at lw_m5 118 rfl) rfl
theorem q1545 : (Jvm.Cond.arrayOver (Jvm.ClassFile.FieldType.object "java/util/HashMap$Node")) ∈ lw_tbl := lw_at lw_m6 210 rfl
theorem q2551 : (Jvm.Cond.arrayClass Jvm.ClassFile.FieldType.int) ∈ lw_all := lw_g (lw_at lw_m11 16 rfl) rfl
theorem q3888 : (Jvm.Cond.arrayClass Jvm.ClassFile.FieldType.boolean) ∈ lw_all := lw_g (lw_at lw_m16 153 rfl) rfl
theorem q4317 : (Jvm.Cond.arrayClass Jvm.ClassFile.FieldType.double) ∈ lw_all := lw_g (lw_at lw_m18 102 rfl) rfl
theorem q4442 : (Jvm.Cond.arrayClass Jvm.ClassFile.FieldType.short) ∈ lw_all := lw_g (lw_at lw_m18 227 rfl) rfl

/-! RoseGuild$Guild -/
set_option maxRecDepth 100000
def RX2 : String := "RoseGuild$Guild"
def TX2 : u_T := fun k => match k with
  | 0 => ("RoseGuild$Guild", "hours", "I", true)
  | 1 => ("RoseGuild$Guild", "fine", "I", true)
  | 2 => ("RoseGuild$Guild", "prize", "I", true)
  | 3 => ("RoseGuild$Guild", "streetsByPoint", "Ljava/util/LinkedHashMap;", true)
  | 4 => ("RoseGuild$Guild", "occupied", "Ljava/util/LinkedHashSet;", true)
  | 5 => ("RoseGuild$Guild", "streets", "Ljava/util/List;", true)
  | 6 => ("RoseGuild$Guild", "gardens", "Ljava/util/List;", true)
  | 7 => ("RoseGuild$Guild", "carts", "Ljava/util/List;", true)
  | 8 => ("RoseGuild$Guild", "recent", "Ljava/util/LinkedList;", true)
  | 9 => ("RoseGuild$Guild", "served", "Ljava/util/BitSet;", true)
  | 10 => ("RoseGuild$Guild", "night", "I", false)
  | 11 => ("RoseGuild$Guild", "price", "I", false)
  | 12 => ("RoseGuild$Guild", "windOffset", "I", false)
  | 13 => ("RoseGuild$Guild", "balance", "I", false)
  | 14 => ("RoseGuild$Guild", "deliveries", "I", false)
  | 15 => ("RoseGuild$Guild", "delivered", "I", false)
  | 16 => ("RoseGuild$Guild", "late", "I", false)
  | 17 => ("RoseGuild$Guild", "earned", "I", false)
  | 18 => ("RoseGuild$Guild", "fines", "I", false)
  | _ => ("RoseGuild$Guild", "prizes", "I", false)
def tyX2 : Nat → FieldType := fun k => match k with
  | 0 => .int
  | 1 => .int
  | 2 => .int
  | 3 => .object "java/util/LinkedHashMap"
  | 4 => .object "java/util/LinkedHashSet"
  | 5 => .object "java/util/List"
  | 6 => .object "java/util/List"
  | 7 => .object "java/util/List"
  | 8 => .object "java/util/LinkedList"
  | 9 => .object "java/util/BitSet"
  | 10 => .int
  | 11 => .int
  | 12 => .int
  | 13 => .int
  | 14 => .int
  | 15 => .int
  | 16 => .int
  | 17 => .int
  | 18 => .int
  | _ => .int
abbrev wsX20 : List Cond := u_ws RX2 TX2 20
set_option maxRecDepth 100000 in
theorem nmX2 : ∀ a, a < 20 → ∀ b, b < 20 → a ≠ b → (TX2 a).2.1 ≠ (TX2 b).2.1 := by decide +kernel
set_option maxRecDepth 100000 in
theorem tyX2_ok : ∀ k, k < 20 → parseFieldDescriptor (TX2 k).2.2.1 = some (tyX2 k) := by decide +kernel
abbrev cX2_init : ByteArray := prog_8_method_1_code
def yX2_init : MethodName := ⟨RX2, "<init>", "(IIIII)V"⟩
def dkwX2_init_4 : List UInt8 := [181, 0, 58, 42, 29, 181, 0, 61, 42, 21, 4, 181, 0, 64, 42, 21, 5, 181, 0, 67, 177]
abbrev dktX2_init_4 : List UInt8 := dkwX2_init_4 ++ []
def dkwX2_init_3 : List UInt8 := [181, 0, 41, 42, 187, 0, 45, 89, 16, 8, 183, 0, 47, 181, 0, 50, 42, 27, 181, 0, 54, 42, 28]
abbrev dktX2_init_3 : List UInt8 := dkwX2_init_3 ++ dktX2_init_4
def dkwX2_init_2 : List UInt8 := [181, 0, 32, 42, 187, 0, 25, 89, 183, 0, 27, 181, 0, 35, 42, 187, 0, 38, 89, 183, 0, 40]
abbrev dktX2_init_2 : List UInt8 := dkwX2_init_2 ++ dktX2_init_3
def dkwX2_init_1 : List UInt8 := [181, 0, 21, 42, 187, 0, 25, 89, 183, 0, 27, 181, 0, 28, 42, 187, 0, 25, 89, 183, 0, 27]
abbrev dktX2_init_1 : List UInt8 := dkwX2_init_1 ++ dktX2_init_2
def dkwX2_init_0 : List UInt8 := [42, 183, 0, 3, 42, 187, 0, 9, 89, 183, 0, 11, 181, 0, 12, 42, 187, 0, 18, 89, 183, 0, 20]
abbrev dktX2_init_0 : List UInt8 := dkwX2_init_0 ++ dktX2_init_1
theorem dksX2_init_0 : cX2_init.data.toList.drop 0 = dktX2_init_0 := by decide +kernel
theorem dksX2_init_1 : cX2_init.data.toList.drop 23 = dktX2_init_1 := dk_seg dksX2_init_0 23 rfl rfl
theorem dksX2_init_2 : cX2_init.data.toList.drop 45 = dktX2_init_2 := dk_seg dksX2_init_1 22 rfl rfl
theorem dksX2_init_3 : cX2_init.data.toList.drop 67 = dktX2_init_3 := dk_seg dksX2_init_2 22 rfl rfl
theorem dksX2_init_4 : cX2_init.data.toList.drop 90 = dktX2_init_4 := dk_seg dksX2_init_3 23 rfl rfl
theorem dX2_init_0 : decode cX2_init 0 = .ok (.aload_n 0, 1) := dk_42 (dk_at dksX2_init_0 0 rfl rfl)
theorem dX2_init_1 : decode cX2_init 1 = .ok (.invokespecial 3, 3) := dk_183 0 3 (dk_at dksX2_init_0 1 rfl rfl)
theorem dX2_init_4 : decode cX2_init 4 = .ok (.aload_n 0, 1) := dk_42 (dk_at dksX2_init_0 4 rfl rfl)
theorem dX2_init_5 : decode cX2_init 5 = .ok (.new 9, 3) := dk_187 0 9 (dk_at dksX2_init_0 5 rfl rfl)
theorem dX2_init_8 : decode cX2_init 8 = .ok (.dup, 1) := dk_89 (dk_at dksX2_init_0 8 rfl rfl)
theorem dX2_init_9 : decode cX2_init 9 = .ok (.invokespecial 11, 3) := dk_183 0 11 (dk_at dksX2_init_0 9 rfl rfl)
theorem dX2_init_12 : decode cX2_init 12 = .ok (.putfield 12, 3) := dk_181 0 12 (dk_at dksX2_init_0 12 rfl rfl)
theorem dX2_init_15 : decode cX2_init 15 = .ok (.aload_n 0, 1) := dk_42 (dk_at dksX2_init_0 15 rfl rfl)
theorem dX2_init_16 : decode cX2_init 16 = .ok (.new 18, 3) := dk_187 0 18 (dk_at dksX2_init_0 16 rfl rfl)
theorem dX2_init_19 : decode cX2_init 19 = .ok (.dup, 1) := dk_89 (dk_at dksX2_init_0 19 rfl rfl)
theorem dX2_init_20 : decode cX2_init 20 = .ok (.invokespecial 20, 3) := dk_183 0 20 (dk_at dksX2_init_0 20 rfl rfl)
theorem dX2_init_23 : decode cX2_init 23 = .ok (.putfield 21, 3) := dk_181 0 21 (dk_at dksX2_init_1 0 rfl rfl)
theorem dX2_init_26 : decode cX2_init 26 = .ok (.aload_n 0, 1) := dk_42 (dk_at dksX2_init_1 3 rfl rfl)
theorem dX2_init_27 : decode cX2_init 27 = .ok (.new 25, 3) := dk_187 0 25 (dk_at dksX2_init_1 4 rfl rfl)
theorem dX2_init_30 : decode cX2_init 30 = .ok (.dup, 1) := dk_89 (dk_at dksX2_init_1 7 rfl rfl)
theorem dX2_init_31 : decode cX2_init 31 = .ok (.invokespecial 27, 3) := dk_183 0 27 (dk_at dksX2_init_1 8 rfl rfl)
theorem dX2_init_34 : decode cX2_init 34 = .ok (.putfield 28, 3) := dk_181 0 28 (dk_at dksX2_init_1 11 rfl rfl)
theorem dX2_init_37 : decode cX2_init 37 = .ok (.aload_n 0, 1) := dk_42 (dk_at dksX2_init_1 14 rfl rfl)
theorem dX2_init_38 : decode cX2_init 38 = .ok (.new 25, 3) := dk_187 0 25 (dk_at dksX2_init_1 15 rfl rfl)
theorem dX2_init_41 : decode cX2_init 41 = .ok (.dup, 1) := dk_89 (dk_at dksX2_init_1 18 rfl rfl)
theorem dX2_init_42 : decode cX2_init 42 = .ok (.invokespecial 27, 3) := dk_183 0 27 (dk_at dksX2_init_1 19 rfl rfl)
theorem dX2_init_45 : decode cX2_init 45 = .ok (.putfield 32, 3) := dk_181 0 32 (dk_at dksX2_init_2 0 rfl rfl)
theorem dX2_init_48 : decode cX2_init 48 = .ok (.aload_n 0, 1) := dk_42 (dk_at dksX2_init_2 3 rfl rfl)
theorem dX2_init_49 : decode cX2_init 49 = .ok (.new 25, 3) := dk_187 0 25 (dk_at dksX2_init_2 4 rfl rfl)
theorem dX2_init_52 : decode cX2_init 52 = .ok (.dup, 1) := dk_89 (dk_at dksX2_init_2 7 rfl rfl)
theorem dX2_init_53 : decode cX2_init 53 = .ok (.invokespecial 27, 3) := dk_183 0 27 (dk_at dksX2_init_2 8 rfl rfl)
theorem dX2_init_56 : decode cX2_init 56 = .ok (.putfield 35, 3) := dk_181 0 35 (dk_at dksX2_init_2 11 rfl rfl)
theorem dX2_init_59 : decode cX2_init 59 = .ok (.aload_n 0, 1) := dk_42 (dk_at dksX2_init_2 14 rfl rfl)
theorem dX2_init_60 : decode cX2_init 60 = .ok (.new 38, 3) := dk_187 0 38 (dk_at dksX2_init_2 15 rfl rfl)
theorem dX2_init_63 : decode cX2_init 63 = .ok (.dup, 1) := dk_89 (dk_at dksX2_init_2 18 rfl rfl)
theorem dX2_init_64 : decode cX2_init 64 = .ok (.invokespecial 40, 3) := dk_183 0 40 (dk_at dksX2_init_2 19 rfl rfl)
theorem dX2_init_67 : decode cX2_init 67 = .ok (.putfield 41, 3) := dk_181 0 41 (dk_at dksX2_init_3 0 rfl rfl)
theorem dX2_init_70 : decode cX2_init 70 = .ok (.aload_n 0, 1) := dk_42 (dk_at dksX2_init_3 3 rfl rfl)
theorem dX2_init_71 : decode cX2_init 71 = .ok (.new 45, 3) := dk_187 0 45 (dk_at dksX2_init_3 4 rfl rfl)
theorem dX2_init_74 : decode cX2_init 74 = .ok (.dup, 1) := dk_89 (dk_at dksX2_init_3 7 rfl rfl)
theorem dX2_init_75 : decode cX2_init 75 = .ok (.bipush 8, 2) := dk_16 8 (dk_at dksX2_init_3 8 rfl rfl)
theorem dX2_init_77 : decode cX2_init 77 = .ok (.invokespecial 47, 3) := dk_183 0 47 (dk_at dksX2_init_3 10 rfl rfl)
theorem dX2_init_80 : decode cX2_init 80 = .ok (.putfield 50, 3) := dk_181 0 50 (dk_at dksX2_init_3 13 rfl rfl)
theorem dX2_init_83 : decode cX2_init 83 = .ok (.aload_n 0, 1) := dk_42 (dk_at dksX2_init_3 16 rfl rfl)
theorem dX2_init_84 : decode cX2_init 84 = .ok (.iload_n 1, 1) := dk_27 (dk_at dksX2_init_3 17 rfl rfl)
theorem dX2_init_85 : decode cX2_init 85 = .ok (.putfield 54, 3) := dk_181 0 54 (dk_at dksX2_init_3 18 rfl rfl)
theorem dX2_init_88 : decode cX2_init 88 = .ok (.aload_n 0, 1) := dk_42 (dk_at dksX2_init_3 21 rfl rfl)
theorem dX2_init_89 : decode cX2_init 89 = .ok (.iload_n 2, 1) := dk_28 (dk_at dksX2_init_3 22 rfl rfl)
theorem dX2_init_90 : decode cX2_init 90 = .ok (.putfield 58, 3) := dk_181 0 58 (dk_at dksX2_init_4 0 rfl rfl)
theorem dX2_init_93 : decode cX2_init 93 = .ok (.aload_n 0, 1) := dk_42 (dk_at dksX2_init_4 3 rfl rfl)
theorem dX2_init_94 : decode cX2_init 94 = .ok (.iload_n 3, 1) := dk_29 (dk_at dksX2_init_4 4 rfl rfl)
theorem dX2_init_95 : decode cX2_init 95 = .ok (.putfield 61, 3) := dk_181 0 61 (dk_at dksX2_init_4 5 rfl rfl)
theorem dX2_init_98 : decode cX2_init 98 = .ok (.aload_n 0, 1) := dk_42 (dk_at dksX2_init_4 8 rfl rfl)
theorem dX2_init_99 : decode cX2_init 99 = .ok (.iload 4, 2) := dk_21 4 (dk_at dksX2_init_4 9 rfl rfl)
theorem dX2_init_101 : decode cX2_init 101 = .ok (.putfield 64, 3) := dk_181 0 64 (dk_at dksX2_init_4 11 rfl rfl)
theorem dX2_init_104 : decode cX2_init 104 = .ok (.aload_n 0, 1) := dk_42 (dk_at dksX2_init_4 14 rfl rfl)
theorem dX2_init_105 : decode cX2_init 105 = .ok (.iload 5, 2) := dk_21 5 (dk_at dksX2_init_4 15 rfl rfl)
theorem dX2_init_107 : decode cX2_init 107 = .ok (.putfield 67, 3) := dk_181 0 67 (dk_at dksX2_init_4 17 rfl rfl)
theorem dX2_init_110 : decode cX2_init 110 = .ok (.return_, 1) := dk_177 (dk_at dksX2_init_4 20 rfl rfl)
abbrev cX2_addStreet : ByteArray := prog_8_method_2_code
def yX2_addStreet : MethodName := ⟨RX2, "addStreet", "(LRoseGuild$Street;)V"⟩
def dkwX2_addStreet_2 : List UInt8 := [78, 177]
abbrev dktX2_addStreet_2 : List UInt8 := dkwX2_addStreet_2 ++ []
def dkwX2_addStreet_1 : List UInt8 := [153, 0, 7, 4, 167, 0, 4, 3, 61, 42, 180, 0, 12, 43, 180, 0, 76, 43, 182, 0, 83, 192, 0, 77]
abbrev dktX2_addStreet_1 : List UInt8 := dkwX2_addStreet_1 ++ dktX2_addStreet_2
def dkwX2_addStreet_0 : List UInt8 := [42, 180, 0, 28, 43, 185, 0, 70, 2, 0, 153, 0, 21, 42, 180, 0, 21, 43, 180, 0, 76, 182, 0, 82]
abbrev dktX2_addStreet_0 : List UInt8 := dkwX2_addStreet_0 ++ dktX2_addStreet_1
theorem dksX2_addStreet_0 : cX2_addStreet.data.toList.drop 0 = dktX2_addStreet_0 := by decide +kernel
theorem dksX2_addStreet_1 : cX2_addStreet.data.toList.drop 24 = dktX2_addStreet_1 := dk_seg dksX2_addStreet_0 24 rfl rfl
theorem dksX2_addStreet_2 : cX2_addStreet.data.toList.drop 48 = dktX2_addStreet_2 := dk_seg dksX2_addStreet_1 24 rfl rfl
theorem dX2_addStreet_0 : decode cX2_addStreet 0 = .ok (.aload_n 0, 1) := dk_42 (dk_at dksX2_addStreet_0 0 rfl rfl)
theorem dX2_addStreet_1 : decode cX2_addStreet 1 = .ok (.getfield 28, 3) := dk_180 0 28 (dk_at dksX2_addStreet_0 1 rfl rfl)
theorem dX2_addStreet_4 : decode cX2_addStreet 4 = .ok (.aload_n 1, 1) := dk_43 (dk_at dksX2_addStreet_0 4 rfl rfl)
theorem dX2_addStreet_5 : decode cX2_addStreet 5 = .ok (.invokeinterface 70 2, 5) := by decide +kernel
theorem dX2_addStreet_10 : decode cX2_addStreet 10 = .ok (.ifCond .eq 21, 3) := dk_153 0 21 (dk_at dksX2_addStreet_0 10 rfl rfl)
theorem dX2_addStreet_13 : decode cX2_addStreet 13 = .ok (.aload_n 0, 1) := dk_42 (dk_at dksX2_addStreet_0 13 rfl rfl)
theorem dX2_addStreet_14 : decode cX2_addStreet 14 = .ok (.getfield 21, 3) := dk_180 0 21 (dk_at dksX2_addStreet_0 14 rfl rfl)
theorem dX2_addStreet_17 : decode cX2_addStreet 17 = .ok (.aload_n 1, 1) := dk_43 (dk_at dksX2_addStreet_0 17 rfl rfl)
theorem dX2_addStreet_18 : decode cX2_addStreet 18 = .ok (.getfield 76, 3) := dk_180 0 76 (dk_at dksX2_addStreet_0 18 rfl rfl)
theorem dX2_addStreet_21 : decode cX2_addStreet 21 = .ok (.invokevirtual 82, 3) := dk_182 0 82 (dk_at dksX2_addStreet_0 21 rfl rfl)
theorem dX2_addStreet_24 : decode cX2_addStreet 24 = .ok (.ifCond .eq 7, 3) := dk_153 0 7 (dk_at dksX2_addStreet_1 0 rfl rfl)
theorem dX2_addStreet_27 : decode cX2_addStreet 27 = .ok (.iconst 1, 1) := dk_4 (dk_at dksX2_addStreet_1 3 rfl rfl)
theorem dX2_addStreet_28 : decode cX2_addStreet 28 = .ok (.goto 4, 3) := dk_167 0 4 (dk_at dksX2_addStreet_1 4 rfl rfl)
theorem dX2_addStreet_31 : decode cX2_addStreet 31 = .ok (.iconst 0, 1) := dk_3 (dk_at dksX2_addStreet_1 7 rfl rfl)
theorem dX2_addStreet_32 : decode cX2_addStreet 32 = .ok (.istore_n 2, 1) := dk_61 (dk_at dksX2_addStreet_1 8 rfl rfl)
theorem dX2_addStreet_33 : decode cX2_addStreet 33 = .ok (.aload_n 0, 1) := dk_42 (dk_at dksX2_addStreet_1 9 rfl rfl)
theorem dX2_addStreet_34 : decode cX2_addStreet 34 = .ok (.getfield 12, 3) := dk_180 0 12 (dk_at dksX2_addStreet_1 10 rfl rfl)
theorem dX2_addStreet_37 : decode cX2_addStreet 37 = .ok (.aload_n 1, 1) := dk_43 (dk_at dksX2_addStreet_1 13 rfl rfl)
theorem dX2_addStreet_38 : decode cX2_addStreet 38 = .ok (.getfield 76, 3) := dk_180 0 76 (dk_at dksX2_addStreet_1 14 rfl rfl)
theorem dX2_addStreet_41 : decode cX2_addStreet 41 = .ok (.aload_n 1, 1) := dk_43 (dk_at dksX2_addStreet_1 17 rfl rfl)
theorem dX2_addStreet_42 : decode cX2_addStreet 42 = .ok (.invokevirtual 83, 3) := dk_182 0 83 (dk_at dksX2_addStreet_1 18 rfl rfl)
theorem dX2_addStreet_45 : decode cX2_addStreet 45 = .ok (.checkcast 77, 3) := dk_192 0 77 (dk_at dksX2_addStreet_1 21 rfl rfl)
theorem dX2_addStreet_48 : decode cX2_addStreet 48 = .ok (.astore_n 3, 1) := dk_78 (dk_at dksX2_addStreet_2 0 rfl rfl)
theorem dX2_addStreet_49 : decode cX2_addStreet 49 = .ok (.return_, 1) := dk_177 (dk_at dksX2_addStreet_2 1 rfl rfl)
abbrev cX2_addGarden : ByteArray := prog_8_method_3_code
def yX2_addGarden : MethodName := ⟨RX2, "addGarden", "(LRoseGuild$Garden;)V"⟩
def dkwX2_addGarden_1 : List UInt8 := [153, 0, 7, 4, 167, 0, 4, 3, 61, 177]
abbrev dktX2_addGarden_1 : List UInt8 := dkwX2_addGarden_1 ++ []
def dkwX2_addGarden_0 : List UInt8 := [42, 180, 0, 32, 43, 185, 0, 70, 2, 0, 153, 0, 21, 42, 180, 0, 21, 43, 180, 0, 87, 182, 0, 82]
abbrev dktX2_addGarden_0 : List UInt8 := dkwX2_addGarden_0 ++ dktX2_addGarden_1
theorem dksX2_addGarden_0 : cX2_addGarden.data.toList.drop 0 = dktX2_addGarden_0 := by decide +kernel
theorem dksX2_addGarden_1 : cX2_addGarden.data.toList.drop 24 = dktX2_addGarden_1 := dk_seg dksX2_addGarden_0 24 rfl rfl
theorem dX2_addGarden_0 : decode cX2_addGarden 0 = .ok (.aload_n 0, 1) := dk_42 (dk_at dksX2_addGarden_0 0 rfl rfl)
theorem dX2_addGarden_1 : decode cX2_addGarden 1 = .ok (.getfield 32, 3) := dk_180 0 32 (dk_at dksX2_addGarden_0 1 rfl rfl)
theorem dX2_addGarden_4 : decode cX2_addGarden 4 = .ok (.aload_n 1, 1) := dk_43 (dk_at dksX2_addGarden_0 4 rfl rfl)
theorem dX2_addGarden_5 : decode cX2_addGarden 5 = .ok (.invokeinterface 70 2, 5) := by decide +kernel
theorem dX2_addGarden_10 : decode cX2_addGarden 10 = .ok (.ifCond .eq 21, 3) := dk_153 0 21 (dk_at dksX2_addGarden_0 10 rfl rfl)
theorem dX2_addGarden_13 : decode cX2_addGarden 13 = .ok (.aload_n 0, 1) := dk_42 (dk_at dksX2_addGarden_0 13 rfl rfl)
theorem dX2_addGarden_14 : decode cX2_addGarden 14 = .ok (.getfield 21, 3) := dk_180 0 21 (dk_at dksX2_addGarden_0 14 rfl rfl)
theorem dX2_addGarden_17 : decode cX2_addGarden 17 = .ok (.aload_n 1, 1) := dk_43 (dk_at dksX2_addGarden_0 17 rfl rfl)
theorem dX2_addGarden_18 : decode cX2_addGarden 18 = .ok (.getfield 87, 3) := dk_180 0 87 (dk_at dksX2_addGarden_0 18 rfl rfl)
theorem dX2_addGarden_21 : decode cX2_addGarden 21 = .ok (.invokevirtual 82, 3) := dk_182 0 82 (dk_at dksX2_addGarden_0 21 rfl rfl)
theorem dX2_addGarden_24 : decode cX2_addGarden 24 = .ok (.ifCond .eq 7, 3) := dk_153 0 7 (dk_at dksX2_addGarden_1 0 rfl rfl)
theorem dX2_addGarden_27 : decode cX2_addGarden 27 = .ok (.iconst 1, 1) := dk_4 (dk_at dksX2_addGarden_1 3 rfl rfl)
theorem dX2_addGarden_28 : decode cX2_addGarden 28 = .ok (.goto 4, 3) := dk_167 0 4 (dk_at dksX2_addGarden_1 4 rfl rfl)
theorem dX2_addGarden_31 : decode cX2_addGarden 31 = .ok (.iconst 0, 1) := dk_3 (dk_at dksX2_addGarden_1 7 rfl rfl)
theorem dX2_addGarden_32 : decode cX2_addGarden 32 = .ok (.istore_n 2, 1) := dk_61 (dk_at dksX2_addGarden_1 8 rfl rfl)
theorem dX2_addGarden_33 : decode cX2_addGarden 33 = .ok (.return_, 1) := dk_177 (dk_at dksX2_addGarden_1 9 rfl rfl)
abbrev cX2_addCart : ByteArray := prog_8_method_4_code
def yX2_addCart : MethodName := ⟨RX2, "addCart", "(IILRoseGuild$Contract;)V"⟩
def dkwX2_addCart_1 : List UInt8 := [181, 0, 99, 42, 180, 0, 35, 25, 4, 185, 0, 70, 2, 0, 54, 5, 177]
abbrev dktX2_addCart_1 : List UInt8 := dkwX2_addCart_1 ++ []
def dkwX2_addCart_0 : List UInt8 := [187, 0, 90, 89, 42, 180, 0, 35, 185, 0, 92, 1, 0, 27, 28, 183, 0, 96, 58, 4, 25, 4, 45]
abbrev dktX2_addCart_0 : List UInt8 := dkwX2_addCart_0 ++ dktX2_addCart_1
theorem dksX2_addCart_0 : cX2_addCart.data.toList.drop 0 = dktX2_addCart_0 := by decide +kernel
theorem dksX2_addCart_1 : cX2_addCart.data.toList.drop 23 = dktX2_addCart_1 := dk_seg dksX2_addCart_0 23 rfl rfl
theorem dX2_addCart_0 : decode cX2_addCart 0 = .ok (.new 90, 3) := dk_187 0 90 (dk_at dksX2_addCart_0 0 rfl rfl)
theorem dX2_addCart_3 : decode cX2_addCart 3 = .ok (.dup, 1) := dk_89 (dk_at dksX2_addCart_0 3 rfl rfl)
theorem dX2_addCart_4 : decode cX2_addCart 4 = .ok (.aload_n 0, 1) := dk_42 (dk_at dksX2_addCart_0 4 rfl rfl)
theorem dX2_addCart_5 : decode cX2_addCart 5 = .ok (.getfield 35, 3) := dk_180 0 35 (dk_at dksX2_addCart_0 5 rfl rfl)
theorem dX2_addCart_8 : decode cX2_addCart 8 = .ok (.invokeinterface 92 1, 5) := by decide +kernel
theorem dX2_addCart_13 : decode cX2_addCart 13 = .ok (.iload_n 1, 1) := dk_27 (dk_at dksX2_addCart_0 13 rfl rfl)
theorem dX2_addCart_14 : decode cX2_addCart 14 = .ok (.iload_n 2, 1) := dk_28 (dk_at dksX2_addCart_0 14 rfl rfl)
theorem dX2_addCart_15 : decode cX2_addCart 15 = .ok (.invokespecial 96, 3) := dk_183 0 96 (dk_at dksX2_addCart_0 15 rfl rfl)
theorem dX2_addCart_18 : decode cX2_addCart 18 = .ok (.astore 4, 2) := dk_58 4 (dk_at dksX2_addCart_0 18 rfl rfl)
theorem dX2_addCart_20 : decode cX2_addCart 20 = .ok (.aload 4, 2) := dk_25 4 (dk_at dksX2_addCart_0 20 rfl rfl)
theorem dX2_addCart_22 : decode cX2_addCart 22 = .ok (.aload_n 3, 1) := dk_45 (dk_at dksX2_addCart_0 22 rfl rfl)
theorem dX2_addCart_23 : decode cX2_addCart 23 = .ok (.putfield 99, 3) := dk_181 0 99 (dk_at dksX2_addCart_1 0 rfl rfl)
theorem dX2_addCart_26 : decode cX2_addCart 26 = .ok (.aload_n 0, 1) := dk_42 (dk_at dksX2_addCart_1 3 rfl rfl)
theorem dX2_addCart_27 : decode cX2_addCart 27 = .ok (.getfield 35, 3) := dk_180 0 35 (dk_at dksX2_addCart_1 4 rfl rfl)
theorem dX2_addCart_30 : decode cX2_addCart 30 = .ok (.aload 4, 2) := dk_25 4 (dk_at dksX2_addCart_1 7 rfl rfl)
theorem dX2_addCart_32 : decode cX2_addCart 32 = .ok (.invokeinterface 70 2, 5) := by decide +kernel
theorem dX2_addCart_37 : decode cX2_addCart 37 = .ok (.istore 5, 2) := dk_54 5 (dk_at dksX2_addCart_1 14 rfl rfl)
theorem dX2_addCart_39 : decode cX2_addCart 39 = .ok (.return_, 1) := dk_177 (dk_at dksX2_addCart_1 16 rfl rfl)
abbrev cX2_find : ByteArray := prog_8_method_6_code
def yX2_find : MethodName := ⟨RX2, "find", "(Ljava/util/List;Ljava/lang/String;)I"⟩
def dkwX2_find_1 : List UInt8 := [185, 0, 191, 2, 0, 153, 0, 5, 28, 172, 132, 2, 1, 167, 255, 222, 2, 172]
abbrev dktX2_find_1 : List UInt8 := dkwX2_find_1 ++ []
def dkwX2_find_0 : List UInt8 := [3, 61, 28, 42, 185, 0, 92, 1, 0, 162, 0, 30, 42, 28, 185, 0, 185, 2, 0, 192, 0, 189, 43]
abbrev dktX2_find_0 : List UInt8 := dkwX2_find_0 ++ dktX2_find_1
theorem dksX2_find_0 : cX2_find.data.toList.drop 0 = dktX2_find_0 := by decide +kernel
theorem dksX2_find_1 : cX2_find.data.toList.drop 23 = dktX2_find_1 := dk_seg dksX2_find_0 23 rfl rfl
theorem dX2_find_0 : decode cX2_find 0 = .ok (.iconst 0, 1) := dk_3 (dk_at dksX2_find_0 0 rfl rfl)
theorem dX2_find_1 : decode cX2_find 1 = .ok (.istore_n 2, 1) := dk_61 (dk_at dksX2_find_0 1 rfl rfl)
theorem dX2_find_2 : decode cX2_find 2 = .ok (.iload_n 2, 1) := dk_28 (dk_at dksX2_find_0 2 rfl rfl)
theorem dX2_find_3 : decode cX2_find 3 = .ok (.aload_n 0, 1) := dk_42 (dk_at dksX2_find_0 3 rfl rfl)
theorem dX2_find_4 : decode cX2_find 4 = .ok (.invokeinterface 92 1, 5) := by decide +kernel
theorem dX2_find_9 : decode cX2_find 9 = .ok (.if_icmp .ge 30, 3) := dk_162 0 30 (dk_at dksX2_find_0 9 rfl rfl)
theorem dX2_find_12 : decode cX2_find 12 = .ok (.aload_n 0, 1) := dk_42 (dk_at dksX2_find_0 12 rfl rfl)
theorem dX2_find_13 : decode cX2_find 13 = .ok (.iload_n 2, 1) := dk_28 (dk_at dksX2_find_0 13 rfl rfl)
theorem dX2_find_14 : decode cX2_find 14 = .ok (.invokeinterface 185 2, 5) := by decide +kernel
theorem dX2_find_19 : decode cX2_find 19 = .ok (.checkcast 189, 3) := dk_192 0 189 (dk_at dksX2_find_0 19 rfl rfl)
theorem dX2_find_22 : decode cX2_find 22 = .ok (.aload_n 1, 1) := dk_43 (dk_at dksX2_find_0 22 rfl rfl)
theorem dX2_find_23 : decode cX2_find 23 = .ok (.invokeinterface 191 2, 5) := by decide +kernel
theorem dX2_find_28 : decode cX2_find 28 = .ok (.ifCond .eq 5, 3) := dk_153 0 5 (dk_at dksX2_find_1 5 rfl rfl)
theorem dX2_find_31 : decode cX2_find 31 = .ok (.iload_n 2, 1) := dk_28 (dk_at dksX2_find_1 8 rfl rfl)
theorem dX2_find_32 : decode cX2_find 32 = .ok (.ireturn, 1) := dk_172 (dk_at dksX2_find_1 9 rfl rfl)
theorem dX2_find_33 : decode cX2_find 33 = .ok (.iinc 2 1, 3) := dk_132 2 1 (dk_at dksX2_find_1 10 rfl rfl)
theorem dX2_find_36 : decode cX2_find 36 = .ok (.goto (-34), 3) := dk_167 255 222 (dk_at dksX2_find_1 13 rfl rfl)
theorem dX2_find_39 : decode cX2_find 39 = .ok (.iconst (-1), 1) := dk_2 (dk_at dksX2_find_1 16 rfl rfl)
theorem dX2_find_40 : decode cX2_find 40 = .ok (.ireturn, 1) := dk_172 (dk_at dksX2_find_1 17 rfl rfl)
abbrev cX2_copy : ByteArray := prog_8_method_5_code
def yX2_copy : MethodName := ⟨RX2, "copy", "()LRoseGuild$Guild;"⟩
def dkwX2_copy_12 : List UInt8 := [176]
abbrev dktX2_copy_12 : List UInt8 := dkwX2_copy_12 ++ []
def dkwX2_copy_11 : List UInt8 := [42, 180, 0, 176, 181, 0, 176, 43, 42, 180, 0, 179, 181, 0, 179, 43, 42, 180, 0, 182, 181, 0, 182, 43]
abbrev dktX2_copy_11 : List UInt8 := dkwX2_copy_11 ++ dktX2_copy_12
def dkwX2_copy_10 : List UInt8 := [42, 180, 0, 167, 181, 0, 167, 43, 42, 180, 0, 170, 181, 0, 170, 43, 42, 180, 0, 173, 181, 0, 173, 43]
abbrev dktX2_copy_10 : List UInt8 := dkwX2_copy_10 ++ dktX2_copy_11
def dkwX2_copy_9 : List UInt8 := [42, 180, 0, 50, 182, 0, 157, 43, 42, 180, 0, 161, 181, 0, 161, 43, 42, 180, 0, 164, 181, 0, 164, 43]
abbrev dktX2_copy_9 : List UInt8 := dkwX2_copy_9 ++ dktX2_copy_10
def dkwX2_copy_8 : List UInt8 := [185, 0, 116, 1, 0, 192, 0, 151, 78, 43, 180, 0, 41, 45, 182, 0, 153, 167, 255, 229, 43, 180, 0, 50]
abbrev dktX2_copy_8 : List UInt8 := dkwX2_copy_8 ++ dktX2_copy_9
def dkwX2_copy_7 : List UInt8 := [167, 255, 207, 42, 180, 0, 41, 182, 0, 150, 77, 44, 185, 0, 110, 1, 0, 153, 0, 24, 44]
abbrev dktX2_copy_7 : List UInt8 := dkwX2_copy_7 ++ dktX2_copy_8
def dkwX2_copy_6 : List UInt8 := [180, 0, 138, 45, 180, 0, 99, 199, 0, 7, 1, 167, 0, 10, 45, 180, 0, 99, 182, 0, 141, 182, 0, 146]
abbrev dktX2_copy_6 : List UInt8 := dkwX2_copy_6 ++ dktX2_copy_7
def dkwX2_copy_5 : List UInt8 := [185, 0, 110, 1, 0, 153, 0, 46, 44, 185, 0, 116, 1, 0, 192, 0, 90, 78, 43, 45, 180, 0, 135, 45]
abbrev dktX2_copy_5 : List UInt8 := dkwX2_copy_5 ++ dktX2_copy_6
def dkwX2_copy_4 : List UInt8 := [78, 43, 45, 182, 0, 128, 182, 0, 131, 167, 255, 229, 42, 180, 0, 35, 185, 0, 106, 1, 0, 77, 44]
abbrev dktX2_copy_4 : List UInt8 := dkwX2_copy_4 ++ dktX2_copy_5
def dkwX2_copy_3 : List UInt8 := [185, 0, 106, 1, 0, 77, 44, 185, 0, 110, 1, 0, 153, 0, 24, 44, 185, 0, 116, 1, 0, 192, 0, 88]
abbrev dktX2_copy_3 : List UInt8 := dkwX2_copy_3 ++ dktX2_copy_4
def dkwX2_copy_2 : List UInt8 := [185, 0, 116, 1, 0, 192, 0, 77, 78, 43, 45, 182, 0, 120, 182, 0, 124, 167, 255, 229, 42, 180, 0, 32]
abbrev dktX2_copy_2 : List UInt8 := dkwX2_copy_2 ++ dktX2_copy_3
def dkwX2_copy_1 : List UInt8 := [183, 0, 103, 76, 42, 180, 0, 28, 185, 0, 106, 1, 0, 77, 44, 185, 0, 110, 1, 0, 153, 0, 24, 44]
abbrev dktX2_copy_1 : List UInt8 := dkwX2_copy_1 ++ dktX2_copy_2
def dkwX2_copy_0 : List UInt8 := [187, 0, 13, 89, 42, 180, 0, 54, 42, 180, 0, 58, 42, 180, 0, 61, 42, 180, 0, 64, 42, 180, 0, 67]
abbrev dktX2_copy_0 : List UInt8 := dkwX2_copy_0 ++ dktX2_copy_1
theorem dksX2_copy_0 : cX2_copy.data.toList.drop 0 = dktX2_copy_0 := by decide +kernel
theorem dksX2_copy_1 : cX2_copy.data.toList.drop 24 = dktX2_copy_1 := dk_seg dksX2_copy_0 24 rfl rfl
theorem dksX2_copy_2 : cX2_copy.data.toList.drop 48 = dktX2_copy_2 := dk_seg dksX2_copy_1 24 rfl rfl
theorem dksX2_copy_3 : cX2_copy.data.toList.drop 72 = dktX2_copy_3 := dk_seg dksX2_copy_2 24 rfl rfl
theorem dksX2_copy_4 : cX2_copy.data.toList.drop 96 = dktX2_copy_4 := dk_seg dksX2_copy_3 24 rfl rfl
theorem dksX2_copy_5 : cX2_copy.data.toList.drop 119 = dktX2_copy_5 := dk_seg dksX2_copy_4 23 rfl rfl
theorem dksX2_copy_6 : cX2_copy.data.toList.drop 143 = dktX2_copy_6 := dk_seg dksX2_copy_5 24 rfl rfl
theorem dksX2_copy_7 : cX2_copy.data.toList.drop 167 = dktX2_copy_7 := dk_seg dksX2_copy_6 24 rfl rfl
theorem dksX2_copy_8 : cX2_copy.data.toList.drop 188 = dktX2_copy_8 := dk_seg dksX2_copy_7 21 rfl rfl
theorem dksX2_copy_9 : cX2_copy.data.toList.drop 212 = dktX2_copy_9 := dk_seg dksX2_copy_8 24 rfl rfl
theorem dksX2_copy_10 : cX2_copy.data.toList.drop 236 = dktX2_copy_10 := dk_seg dksX2_copy_9 24 rfl rfl
theorem dksX2_copy_11 : cX2_copy.data.toList.drop 260 = dktX2_copy_11 := dk_seg dksX2_copy_10 24 rfl rfl
theorem dksX2_copy_12 : cX2_copy.data.toList.drop 284 = dktX2_copy_12 := dk_seg dksX2_copy_11 24 rfl rfl
theorem dX2_copy_0 : decode cX2_copy 0 = .ok (.new 13, 3) := dk_187 0 13 (dk_at dksX2_copy_0 0 rfl rfl)
theorem dX2_copy_3 : decode cX2_copy 3 = .ok (.dup, 1) := dk_89 (dk_at dksX2_copy_0 3 rfl rfl)
theorem dX2_copy_4 : decode cX2_copy 4 = .ok (.aload_n 0, 1) := dk_42 (dk_at dksX2_copy_0 4 rfl rfl)
theorem dX2_copy_5 : decode cX2_copy 5 = .ok (.getfield 54, 3) := dk_180 0 54 (dk_at dksX2_copy_0 5 rfl rfl)
theorem dX2_copy_8 : decode cX2_copy 8 = .ok (.aload_n 0, 1) := dk_42 (dk_at dksX2_copy_0 8 rfl rfl)
theorem dX2_copy_9 : decode cX2_copy 9 = .ok (.getfield 58, 3) := dk_180 0 58 (dk_at dksX2_copy_0 9 rfl rfl)
theorem dX2_copy_12 : decode cX2_copy 12 = .ok (.aload_n 0, 1) := dk_42 (dk_at dksX2_copy_0 12 rfl rfl)
theorem dX2_copy_13 : decode cX2_copy 13 = .ok (.getfield 61, 3) := dk_180 0 61 (dk_at dksX2_copy_0 13 rfl rfl)
theorem dX2_copy_16 : decode cX2_copy 16 = .ok (.aload_n 0, 1) := dk_42 (dk_at dksX2_copy_0 16 rfl rfl)
theorem dX2_copy_17 : decode cX2_copy 17 = .ok (.getfield 64, 3) := dk_180 0 64 (dk_at dksX2_copy_0 17 rfl rfl)
theorem dX2_copy_20 : decode cX2_copy 20 = .ok (.aload_n 0, 1) := dk_42 (dk_at dksX2_copy_0 20 rfl rfl)
theorem dX2_copy_21 : decode cX2_copy 21 = .ok (.getfield 67, 3) := dk_180 0 67 (dk_at dksX2_copy_0 21 rfl rfl)
theorem dX2_copy_24 : decode cX2_copy 24 = .ok (.invokespecial 103, 3) := dk_183 0 103 (dk_at dksX2_copy_1 0 rfl rfl)
theorem dX2_copy_27 : decode cX2_copy 27 = .ok (.astore_n 1, 1) := dk_76 (dk_at dksX2_copy_1 3 rfl rfl)
theorem dX2_copy_28 : decode cX2_copy 28 = .ok (.aload_n 0, 1) := dk_42 (dk_at dksX2_copy_1 4 rfl rfl)
theorem dX2_copy_29 : decode cX2_copy 29 = .ok (.getfield 28, 3) := dk_180 0 28 (dk_at dksX2_copy_1 5 rfl rfl)
theorem dX2_copy_32 : decode cX2_copy 32 = .ok (.invokeinterface 106 1, 5) := by decide +kernel
theorem dX2_copy_37 : decode cX2_copy 37 = .ok (.astore_n 2, 1) := dk_77 (dk_at dksX2_copy_1 13 rfl rfl)
theorem dX2_copy_38 : decode cX2_copy 38 = .ok (.aload_n 2, 1) := dk_44 (dk_at dksX2_copy_1 14 rfl rfl)
theorem dX2_copy_39 : decode cX2_copy 39 = .ok (.invokeinterface 110 1, 5) := by decide +kernel
theorem dX2_copy_44 : decode cX2_copy 44 = .ok (.ifCond .eq 24, 3) := dk_153 0 24 (dk_at dksX2_copy_1 20 rfl rfl)
theorem dX2_copy_47 : decode cX2_copy 47 = .ok (.aload_n 2, 1) := dk_44 (dk_at dksX2_copy_1 23 rfl rfl)
theorem dX2_copy_48 : decode cX2_copy 48 = .ok (.invokeinterface 116 1, 5) := by decide +kernel
theorem dX2_copy_53 : decode cX2_copy 53 = .ok (.checkcast 77, 3) := dk_192 0 77 (dk_at dksX2_copy_2 5 rfl rfl)
theorem dX2_copy_56 : decode cX2_copy 56 = .ok (.astore_n 3, 1) := dk_78 (dk_at dksX2_copy_2 8 rfl rfl)
theorem dX2_copy_57 : decode cX2_copy 57 = .ok (.aload_n 1, 1) := dk_43 (dk_at dksX2_copy_2 9 rfl rfl)
theorem dX2_copy_58 : decode cX2_copy 58 = .ok (.aload_n 3, 1) := dk_45 (dk_at dksX2_copy_2 10 rfl rfl)
theorem dX2_copy_59 : decode cX2_copy 59 = .ok (.invokevirtual 120, 3) := dk_182 0 120 (dk_at dksX2_copy_2 11 rfl rfl)
theorem dX2_copy_62 : decode cX2_copy 62 = .ok (.invokevirtual 124, 3) := dk_182 0 124 (dk_at dksX2_copy_2 14 rfl rfl)
theorem dX2_copy_65 : decode cX2_copy 65 = .ok (.goto (-27), 3) := dk_167 255 229 (dk_at dksX2_copy_2 17 rfl rfl)
theorem dX2_copy_68 : decode cX2_copy 68 = .ok (.aload_n 0, 1) := dk_42 (dk_at dksX2_copy_2 20 rfl rfl)
theorem dX2_copy_69 : decode cX2_copy 69 = .ok (.getfield 32, 3) := dk_180 0 32 (dk_at dksX2_copy_2 21 rfl rfl)
theorem dX2_copy_72 : decode cX2_copy 72 = .ok (.invokeinterface 106 1, 5) := by decide +kernel
theorem dX2_copy_77 : decode cX2_copy 77 = .ok (.astore_n 2, 1) := dk_77 (dk_at dksX2_copy_3 5 rfl rfl)
theorem dX2_copy_78 : decode cX2_copy 78 = .ok (.aload_n 2, 1) := dk_44 (dk_at dksX2_copy_3 6 rfl rfl)
theorem dX2_copy_79 : decode cX2_copy 79 = .ok (.invokeinterface 110 1, 5) := by decide +kernel
theorem dX2_copy_84 : decode cX2_copy 84 = .ok (.ifCond .eq 24, 3) := dk_153 0 24 (dk_at dksX2_copy_3 12 rfl rfl)
theorem dX2_copy_87 : decode cX2_copy 87 = .ok (.aload_n 2, 1) := dk_44 (dk_at dksX2_copy_3 15 rfl rfl)
theorem dX2_copy_88 : decode cX2_copy 88 = .ok (.invokeinterface 116 1, 5) := by decide +kernel
theorem dX2_copy_93 : decode cX2_copy 93 = .ok (.checkcast 88, 3) := dk_192 0 88 (dk_at dksX2_copy_3 21 rfl rfl)
theorem dX2_copy_96 : decode cX2_copy 96 = .ok (.astore_n 3, 1) := dk_78 (dk_at dksX2_copy_4 0 rfl rfl)
theorem dX2_copy_97 : decode cX2_copy 97 = .ok (.aload_n 1, 1) := dk_43 (dk_at dksX2_copy_4 1 rfl rfl)
theorem dX2_copy_98 : decode cX2_copy 98 = .ok (.aload_n 3, 1) := dk_45 (dk_at dksX2_copy_4 2 rfl rfl)
theorem dX2_copy_99 : decode cX2_copy 99 = .ok (.invokevirtual 128, 3) := dk_182 0 128 (dk_at dksX2_copy_4 3 rfl rfl)
theorem dX2_copy_102 : decode cX2_copy 102 = .ok (.invokevirtual 131, 3) := dk_182 0 131 (dk_at dksX2_copy_4 6 rfl rfl)
theorem dX2_copy_105 : decode cX2_copy 105 = .ok (.goto (-27), 3) := dk_167 255 229 (dk_at dksX2_copy_4 9 rfl rfl)
theorem dX2_copy_108 : decode cX2_copy 108 = .ok (.aload_n 0, 1) := dk_42 (dk_at dksX2_copy_4 12 rfl rfl)
theorem dX2_copy_109 : decode cX2_copy 109 = .ok (.getfield 35, 3) := dk_180 0 35 (dk_at dksX2_copy_4 13 rfl rfl)
theorem dX2_copy_112 : decode cX2_copy 112 = .ok (.invokeinterface 106 1, 5) := by decide +kernel
theorem dX2_copy_117 : decode cX2_copy 117 = .ok (.astore_n 2, 1) := dk_77 (dk_at dksX2_copy_4 21 rfl rfl)
theorem dX2_copy_118 : decode cX2_copy 118 = .ok (.aload_n 2, 1) := dk_44 (dk_at dksX2_copy_4 22 rfl rfl)
theorem dX2_copy_119 : decode cX2_copy 119 = .ok (.invokeinterface 110 1, 5) := by decide +kernel
theorem dX2_copy_124 : decode cX2_copy 124 = .ok (.ifCond .eq 46, 3) := dk_153 0 46 (dk_at dksX2_copy_5 5 rfl rfl)
theorem dX2_copy_127 : decode cX2_copy 127 = .ok (.aload_n 2, 1) := dk_44 (dk_at dksX2_copy_5 8 rfl rfl)
theorem dX2_copy_128 : decode cX2_copy 128 = .ok (.invokeinterface 116 1, 5) := by decide +kernel
theorem dX2_copy_133 : decode cX2_copy 133 = .ok (.checkcast 90, 3) := dk_192 0 90 (dk_at dksX2_copy_5 14 rfl rfl)
theorem dX2_copy_136 : decode cX2_copy 136 = .ok (.astore_n 3, 1) := dk_78 (dk_at dksX2_copy_5 17 rfl rfl)
theorem dX2_copy_137 : decode cX2_copy 137 = .ok (.aload_n 1, 1) := dk_43 (dk_at dksX2_copy_5 18 rfl rfl)
theorem dX2_copy_138 : decode cX2_copy 138 = .ok (.aload_n 3, 1) := dk_45 (dk_at dksX2_copy_5 19 rfl rfl)
theorem dX2_copy_139 : decode cX2_copy 139 = .ok (.getfield 135, 3) := dk_180 0 135 (dk_at dksX2_copy_5 20 rfl rfl)
theorem dX2_copy_142 : decode cX2_copy 142 = .ok (.aload_n 3, 1) := dk_45 (dk_at dksX2_copy_5 23 rfl rfl)
theorem dX2_copy_143 : decode cX2_copy 143 = .ok (.getfield 138, 3) := dk_180 0 138 (dk_at dksX2_copy_6 0 rfl rfl)
theorem dX2_copy_146 : decode cX2_copy 146 = .ok (.aload_n 3, 1) := dk_45 (dk_at dksX2_copy_6 3 rfl rfl)
theorem dX2_copy_147 : decode cX2_copy 147 = .ok (.getfield 99, 3) := dk_180 0 99 (dk_at dksX2_copy_6 4 rfl rfl)
theorem dX2_copy_150 : decode cX2_copy 150 = .ok (.ifnonnull 7, 3) := dk_199 0 7 (dk_at dksX2_copy_6 7 rfl rfl)
theorem dX2_copy_153 : decode cX2_copy 153 = .ok (.aconst_null, 1) := dk_1 (dk_at dksX2_copy_6 10 rfl rfl)
theorem dX2_copy_154 : decode cX2_copy 154 = .ok (.goto 10, 3) := dk_167 0 10 (dk_at dksX2_copy_6 11 rfl rfl)
theorem dX2_copy_157 : decode cX2_copy 157 = .ok (.aload_n 3, 1) := dk_45 (dk_at dksX2_copy_6 14 rfl rfl)
theorem dX2_copy_158 : decode cX2_copy 158 = .ok (.getfield 99, 3) := dk_180 0 99 (dk_at dksX2_copy_6 15 rfl rfl)
theorem dX2_copy_161 : decode cX2_copy 161 = .ok (.invokevirtual 141, 3) := dk_182 0 141 (dk_at dksX2_copy_6 18 rfl rfl)
theorem dX2_copy_164 : decode cX2_copy 164 = .ok (.invokevirtual 146, 3) := dk_182 0 146 (dk_at dksX2_copy_6 21 rfl rfl)
theorem dX2_copy_167 : decode cX2_copy 167 = .ok (.goto (-49), 3) := dk_167 255 207 (dk_at dksX2_copy_7 0 rfl rfl)
theorem dX2_copy_170 : decode cX2_copy 170 = .ok (.aload_n 0, 1) := dk_42 (dk_at dksX2_copy_7 3 rfl rfl)
theorem dX2_copy_171 : decode cX2_copy 171 = .ok (.getfield 41, 3) := dk_180 0 41 (dk_at dksX2_copy_7 4 rfl rfl)
theorem dX2_copy_174 : decode cX2_copy 174 = .ok (.invokevirtual 150, 3) := dk_182 0 150 (dk_at dksX2_copy_7 7 rfl rfl)
theorem dX2_copy_177 : decode cX2_copy 177 = .ok (.astore_n 2, 1) := dk_77 (dk_at dksX2_copy_7 10 rfl rfl)
theorem dX2_copy_178 : decode cX2_copy 178 = .ok (.aload_n 2, 1) := dk_44 (dk_at dksX2_copy_7 11 rfl rfl)
theorem dX2_copy_179 : decode cX2_copy 179 = .ok (.invokeinterface 110 1, 5) := by decide +kernel
theorem dX2_copy_184 : decode cX2_copy 184 = .ok (.ifCond .eq 24, 3) := dk_153 0 24 (dk_at dksX2_copy_7 17 rfl rfl)
theorem dX2_copy_187 : decode cX2_copy 187 = .ok (.aload_n 2, 1) := dk_44 (dk_at dksX2_copy_7 20 rfl rfl)
theorem dX2_copy_188 : decode cX2_copy 188 = .ok (.invokeinterface 116 1, 5) := by decide +kernel
theorem dX2_copy_193 : decode cX2_copy 193 = .ok (.checkcast 151, 3) := dk_192 0 151 (dk_at dksX2_copy_8 5 rfl rfl)
theorem dX2_copy_196 : decode cX2_copy 196 = .ok (.astore_n 3, 1) := dk_78 (dk_at dksX2_copy_8 8 rfl rfl)
theorem dX2_copy_197 : decode cX2_copy 197 = .ok (.aload_n 1, 1) := dk_43 (dk_at dksX2_copy_8 9 rfl rfl)
theorem dX2_copy_198 : decode cX2_copy 198 = .ok (.getfield 41, 3) := dk_180 0 41 (dk_at dksX2_copy_8 10 rfl rfl)
theorem dX2_copy_201 : decode cX2_copy 201 = .ok (.aload_n 3, 1) := dk_45 (dk_at dksX2_copy_8 13 rfl rfl)
theorem dX2_copy_202 : decode cX2_copy 202 = .ok (.invokevirtual 153, 3) := dk_182 0 153 (dk_at dksX2_copy_8 14 rfl rfl)
theorem dX2_copy_205 : decode cX2_copy 205 = .ok (.goto (-27), 3) := dk_167 255 229 (dk_at dksX2_copy_8 17 rfl rfl)
theorem dX2_copy_208 : decode cX2_copy 208 = .ok (.aload_n 1, 1) := dk_43 (dk_at dksX2_copy_8 20 rfl rfl)
theorem dX2_copy_209 : decode cX2_copy 209 = .ok (.getfield 50, 3) := dk_180 0 50 (dk_at dksX2_copy_8 21 rfl rfl)
theorem dX2_copy_212 : decode cX2_copy 212 = .ok (.aload_n 0, 1) := dk_42 (dk_at dksX2_copy_9 0 rfl rfl)
theorem dX2_copy_213 : decode cX2_copy 213 = .ok (.getfield 50, 3) := dk_180 0 50 (dk_at dksX2_copy_9 1 rfl rfl)
theorem dX2_copy_216 : decode cX2_copy 216 = .ok (.invokevirtual 157, 3) := dk_182 0 157 (dk_at dksX2_copy_9 4 rfl rfl)
theorem dX2_copy_219 : decode cX2_copy 219 = .ok (.aload_n 1, 1) := dk_43 (dk_at dksX2_copy_9 7 rfl rfl)
theorem dX2_copy_220 : decode cX2_copy 220 = .ok (.aload_n 0, 1) := dk_42 (dk_at dksX2_copy_9 8 rfl rfl)
theorem dX2_copy_221 : decode cX2_copy 221 = .ok (.getfield 161, 3) := dk_180 0 161 (dk_at dksX2_copy_9 9 rfl rfl)
theorem dX2_copy_224 : decode cX2_copy 224 = .ok (.putfield 161, 3) := dk_181 0 161 (dk_at dksX2_copy_9 12 rfl rfl)
theorem dX2_copy_227 : decode cX2_copy 227 = .ok (.aload_n 1, 1) := dk_43 (dk_at dksX2_copy_9 15 rfl rfl)
theorem dX2_copy_228 : decode cX2_copy 228 = .ok (.aload_n 0, 1) := dk_42 (dk_at dksX2_copy_9 16 rfl rfl)
theorem dX2_copy_229 : decode cX2_copy 229 = .ok (.getfield 164, 3) := dk_180 0 164 (dk_at dksX2_copy_9 17 rfl rfl)
theorem dX2_copy_232 : decode cX2_copy 232 = .ok (.putfield 164, 3) := dk_181 0 164 (dk_at dksX2_copy_9 20 rfl rfl)
theorem dX2_copy_235 : decode cX2_copy 235 = .ok (.aload_n 1, 1) := dk_43 (dk_at dksX2_copy_9 23 rfl rfl)
theorem dX2_copy_236 : decode cX2_copy 236 = .ok (.aload_n 0, 1) := dk_42 (dk_at dksX2_copy_10 0 rfl rfl)
theorem dX2_copy_237 : decode cX2_copy 237 = .ok (.getfield 167, 3) := dk_180 0 167 (dk_at dksX2_copy_10 1 rfl rfl)
theorem dX2_copy_240 : decode cX2_copy 240 = .ok (.putfield 167, 3) := dk_181 0 167 (dk_at dksX2_copy_10 4 rfl rfl)
theorem dX2_copy_243 : decode cX2_copy 243 = .ok (.aload_n 1, 1) := dk_43 (dk_at dksX2_copy_10 7 rfl rfl)
theorem dX2_copy_244 : decode cX2_copy 244 = .ok (.aload_n 0, 1) := dk_42 (dk_at dksX2_copy_10 8 rfl rfl)
theorem dX2_copy_245 : decode cX2_copy 245 = .ok (.getfield 170, 3) := dk_180 0 170 (dk_at dksX2_copy_10 9 rfl rfl)
theorem dX2_copy_248 : decode cX2_copy 248 = .ok (.putfield 170, 3) := dk_181 0 170 (dk_at dksX2_copy_10 12 rfl rfl)
theorem dX2_copy_251 : decode cX2_copy 251 = .ok (.aload_n 1, 1) := dk_43 (dk_at dksX2_copy_10 15 rfl rfl)
theorem dX2_copy_252 : decode cX2_copy 252 = .ok (.aload_n 0, 1) := dk_42 (dk_at dksX2_copy_10 16 rfl rfl)
theorem dX2_copy_253 : decode cX2_copy 253 = .ok (.getfield 173, 3) := dk_180 0 173 (dk_at dksX2_copy_10 17 rfl rfl)
theorem dX2_copy_256 : decode cX2_copy 256 = .ok (.putfield 173, 3) := dk_181 0 173 (dk_at dksX2_copy_10 20 rfl rfl)
theorem dX2_copy_259 : decode cX2_copy 259 = .ok (.aload_n 1, 1) := dk_43 (dk_at dksX2_copy_10 23 rfl rfl)
theorem dX2_copy_260 : decode cX2_copy 260 = .ok (.aload_n 0, 1) := dk_42 (dk_at dksX2_copy_11 0 rfl rfl)
theorem dX2_copy_261 : decode cX2_copy 261 = .ok (.getfield 176, 3) := dk_180 0 176 (dk_at dksX2_copy_11 1 rfl rfl)
theorem dX2_copy_264 : decode cX2_copy 264 = .ok (.putfield 176, 3) := dk_181 0 176 (dk_at dksX2_copy_11 4 rfl rfl)
theorem dX2_copy_267 : decode cX2_copy 267 = .ok (.aload_n 1, 1) := dk_43 (dk_at dksX2_copy_11 7 rfl rfl)
theorem dX2_copy_268 : decode cX2_copy 268 = .ok (.aload_n 0, 1) := dk_42 (dk_at dksX2_copy_11 8 rfl rfl)
theorem dX2_copy_269 : decode cX2_copy 269 = .ok (.getfield 179, 3) := dk_180 0 179 (dk_at dksX2_copy_11 9 rfl rfl)
theorem dX2_copy_272 : decode cX2_copy 272 = .ok (.putfield 179, 3) := dk_181 0 179 (dk_at dksX2_copy_11 12 rfl rfl)
theorem dX2_copy_275 : decode cX2_copy 275 = .ok (.aload_n 1, 1) := dk_43 (dk_at dksX2_copy_11 15 rfl rfl)
theorem dX2_copy_276 : decode cX2_copy 276 = .ok (.aload_n 0, 1) := dk_42 (dk_at dksX2_copy_11 16 rfl rfl)
theorem dX2_copy_277 : decode cX2_copy 277 = .ok (.getfield 182, 3) := dk_180 0 182 (dk_at dksX2_copy_11 17 rfl rfl)
theorem dX2_copy_280 : decode cX2_copy 280 = .ok (.putfield 182, 3) := dk_181 0 182 (dk_at dksX2_copy_11 20 rfl rfl)
theorem dX2_copy_283 : decode cX2_copy 283 = .ok (.aload_n 1, 1) := dk_43 (dk_at dksX2_copy_11 23 rfl rfl)
theorem dX2_copy_284 : decode cX2_copy 284 = .ok (.areturn, 1) := dk_176 (dk_at dksX2_copy_12 0 rfl rfl)
abbrev cX2_sign : ByteArray := prog_8_method_21_code
def yX2_sign : MethodName := ⟨RX2, "sign", "(IIII)I"⟩
def dkwX2_sign_3 : List UInt8 := [181, 0, 99, 21, 6, 172]
abbrev dktX2_sign_3 : List UInt8 := dkwX2_sign_3 ++ []
def dkwX2_sign_2 : List UInt8 := [167, 0, 4, 3, 178, 1, 43, 184, 0, 205, 25, 5, 187, 0, 142, 89, 28, 29, 21, 4, 183, 1, 62]
abbrev dktX2_sign_2 : List UInt8 := dkwX2_sign_2 ++ dktX2_sign_3
def dkwX2_sign_1 : List UInt8 := [21, 4, 4, 16, 30, 184, 0, 195, 178, 1, 40, 184, 0, 205, 25, 5, 180, 0, 99, 199, 0, 7, 4]
abbrev dktX2_sign_1 : List UInt8 := dkwX2_sign_1 ++ dktX2_sign_2
def dkwX2_sign_0 : List UInt8 := [42, 27, 182, 1, 52, 58, 5, 25, 5, 42, 28, 182, 1, 56, 42, 29, 182, 1, 59, 182, 0, 239, 54, 6]
abbrev dktX2_sign_0 : List UInt8 := dkwX2_sign_0 ++ dktX2_sign_1
theorem dksX2_sign_0 : cX2_sign.data.toList.drop 0 = dktX2_sign_0 := by decide +kernel
theorem dksX2_sign_1 : cX2_sign.data.toList.drop 24 = dktX2_sign_1 := dk_seg dksX2_sign_0 24 rfl rfl
theorem dksX2_sign_2 : cX2_sign.data.toList.drop 47 = dktX2_sign_2 := dk_seg dksX2_sign_1 23 rfl rfl
theorem dksX2_sign_3 : cX2_sign.data.toList.drop 70 = dktX2_sign_3 := dk_seg dksX2_sign_2 23 rfl rfl
theorem dX2_sign_0 : decode cX2_sign 0 = .ok (.aload_n 0, 1) := dk_42 (dk_at dksX2_sign_0 0 rfl rfl)
theorem dX2_sign_1 : decode cX2_sign 1 = .ok (.iload_n 1, 1) := dk_27 (dk_at dksX2_sign_0 1 rfl rfl)
theorem dX2_sign_2 : decode cX2_sign 2 = .ok (.invokevirtual 308, 3) := dk_182 1 52 (dk_at dksX2_sign_0 2 rfl rfl)
theorem dX2_sign_5 : decode cX2_sign 5 = .ok (.astore 5, 2) := dk_58 5 (dk_at dksX2_sign_0 5 rfl rfl)
theorem dX2_sign_7 : decode cX2_sign 7 = .ok (.aload 5, 2) := dk_25 5 (dk_at dksX2_sign_0 7 rfl rfl)
theorem dX2_sign_9 : decode cX2_sign 9 = .ok (.aload_n 0, 1) := dk_42 (dk_at dksX2_sign_0 9 rfl rfl)
theorem dX2_sign_10 : decode cX2_sign 10 = .ok (.iload_n 2, 1) := dk_28 (dk_at dksX2_sign_0 10 rfl rfl)
theorem dX2_sign_11 : decode cX2_sign 11 = .ok (.invokevirtual 312, 3) := dk_182 1 56 (dk_at dksX2_sign_0 11 rfl rfl)
theorem dX2_sign_14 : decode cX2_sign 14 = .ok (.aload_n 0, 1) := dk_42 (dk_at dksX2_sign_0 14 rfl rfl)
theorem dX2_sign_15 : decode cX2_sign 15 = .ok (.iload_n 3, 1) := dk_29 (dk_at dksX2_sign_0 15 rfl rfl)
theorem dX2_sign_16 : decode cX2_sign 16 = .ok (.invokevirtual 315, 3) := dk_182 1 59 (dk_at dksX2_sign_0 16 rfl rfl)
theorem dX2_sign_19 : decode cX2_sign 19 = .ok (.invokevirtual 239, 3) := dk_182 0 239 (dk_at dksX2_sign_0 19 rfl rfl)
theorem dX2_sign_22 : decode cX2_sign 22 = .ok (.istore 6, 2) := dk_54 6 (dk_at dksX2_sign_0 22 rfl rfl)
theorem dX2_sign_24 : decode cX2_sign 24 = .ok (.iload 4, 2) := dk_21 4 (dk_at dksX2_sign_1 0 rfl rfl)
theorem dX2_sign_26 : decode cX2_sign 26 = .ok (.iconst 1, 1) := dk_4 (dk_at dksX2_sign_1 2 rfl rfl)
theorem dX2_sign_27 : decode cX2_sign 27 = .ok (.bipush 30, 2) := dk_16 30 (dk_at dksX2_sign_1 3 rfl rfl)
theorem dX2_sign_29 : decode cX2_sign 29 = .ok (.invokestatic 195, 3) := dk_184 0 195 (dk_at dksX2_sign_1 5 rfl rfl)
theorem dX2_sign_32 : decode cX2_sign 32 = .ok (.getstatic 296, 3) := dk_178 1 40 (dk_at dksX2_sign_1 8 rfl rfl)
theorem dX2_sign_35 : decode cX2_sign 35 = .ok (.invokestatic 205, 3) := dk_184 0 205 (dk_at dksX2_sign_1 11 rfl rfl)
theorem dX2_sign_38 : decode cX2_sign 38 = .ok (.aload 5, 2) := dk_25 5 (dk_at dksX2_sign_1 14 rfl rfl)
theorem dX2_sign_40 : decode cX2_sign 40 = .ok (.getfield 99, 3) := dk_180 0 99 (dk_at dksX2_sign_1 16 rfl rfl)
theorem dX2_sign_43 : decode cX2_sign 43 = .ok (.ifnonnull 7, 3) := dk_199 0 7 (dk_at dksX2_sign_1 19 rfl rfl)
theorem dX2_sign_46 : decode cX2_sign 46 = .ok (.iconst 1, 1) := dk_4 (dk_at dksX2_sign_1 22 rfl rfl)
theorem dX2_sign_47 : decode cX2_sign 47 = .ok (.goto 4, 3) := dk_167 0 4 (dk_at dksX2_sign_2 0 rfl rfl)
theorem dX2_sign_50 : decode cX2_sign 50 = .ok (.iconst 0, 1) := dk_3 (dk_at dksX2_sign_2 3 rfl rfl)
theorem dX2_sign_51 : decode cX2_sign 51 = .ok (.getstatic 299, 3) := dk_178 1 43 (dk_at dksX2_sign_2 4 rfl rfl)
theorem dX2_sign_54 : decode cX2_sign 54 = .ok (.invokestatic 205, 3) := dk_184 0 205 (dk_at dksX2_sign_2 7 rfl rfl)
theorem dX2_sign_57 : decode cX2_sign 57 = .ok (.aload 5, 2) := dk_25 5 (dk_at dksX2_sign_2 10 rfl rfl)
theorem dX2_sign_59 : decode cX2_sign 59 = .ok (.new 142, 3) := dk_187 0 142 (dk_at dksX2_sign_2 12 rfl rfl)
theorem dX2_sign_62 : decode cX2_sign 62 = .ok (.dup, 1) := dk_89 (dk_at dksX2_sign_2 15 rfl rfl)
theorem dX2_sign_63 : decode cX2_sign 63 = .ok (.iload_n 2, 1) := dk_28 (dk_at dksX2_sign_2 16 rfl rfl)
theorem dX2_sign_64 : decode cX2_sign 64 = .ok (.iload_n 3, 1) := dk_29 (dk_at dksX2_sign_2 17 rfl rfl)
theorem dX2_sign_65 : decode cX2_sign 65 = .ok (.iload 4, 2) := dk_21 4 (dk_at dksX2_sign_2 18 rfl rfl)
theorem dX2_sign_67 : decode cX2_sign 67 = .ok (.invokespecial 318, 3) := dk_183 1 62 (dk_at dksX2_sign_2 20 rfl rfl)
theorem dX2_sign_70 : decode cX2_sign 70 = .ok (.putfield 99, 3) := dk_181 0 99 (dk_at dksX2_sign_3 0 rfl rfl)
theorem dX2_sign_73 : decode cX2_sign 73 = .ok (.iload 6, 2) := dk_21 6 (dk_at dksX2_sign_3 3 rfl rfl)
theorem dX2_sign_75 : decode cX2_sign 75 = .ok (.ireturn, 1) := dk_172 (dk_at dksX2_sign_3 5 rfl rfl)
abbrev cX2_cart : ByteArray := prog_8_method_10_code
def yX2_cart : MethodName := ⟨RX2, "cart", "(I)LRoseGuild$Cart;"⟩
def dkwX2_cart_1 : List UInt8 := [180, 0, 35, 27, 185, 0, 185, 2, 0, 192, 0, 90, 176]
abbrev dktX2_cart_1 : List UInt8 := dkwX2_cart_1 ++ []
def dkwX2_cart_0 : List UInt8 := [27, 3, 42, 180, 0, 35, 185, 0, 92, 1, 0, 4, 100, 184, 0, 195, 178, 0, 199, 184, 0, 205, 42]
abbrev dktX2_cart_0 : List UInt8 := dkwX2_cart_0 ++ dktX2_cart_1
theorem dksX2_cart_0 : cX2_cart.data.toList.drop 0 = dktX2_cart_0 := by decide +kernel
theorem dksX2_cart_1 : cX2_cart.data.toList.drop 23 = dktX2_cart_1 := dk_seg dksX2_cart_0 23 rfl rfl
theorem dX2_cart_0 : decode cX2_cart 0 = .ok (.iload_n 1, 1) := dk_27 (dk_at dksX2_cart_0 0 rfl rfl)
theorem dX2_cart_1 : decode cX2_cart 1 = .ok (.iconst 0, 1) := dk_3 (dk_at dksX2_cart_0 1 rfl rfl)
theorem dX2_cart_2 : decode cX2_cart 2 = .ok (.aload_n 0, 1) := dk_42 (dk_at dksX2_cart_0 2 rfl rfl)
theorem dX2_cart_3 : decode cX2_cart 3 = .ok (.getfield 35, 3) := dk_180 0 35 (dk_at dksX2_cart_0 3 rfl rfl)
theorem dX2_cart_6 : decode cX2_cart 6 = .ok (.invokeinterface 92 1, 5) := by decide +kernel
theorem dX2_cart_11 : decode cX2_cart 11 = .ok (.iconst 1, 1) := dk_4 (dk_at dksX2_cart_0 11 rfl rfl)
theorem dX2_cart_12 : decode cX2_cart 12 = .ok (.isub, 1) := dk_100 (dk_at dksX2_cart_0 12 rfl rfl)
theorem dX2_cart_13 : decode cX2_cart 13 = .ok (.invokestatic 195, 3) := dk_184 0 195 (dk_at dksX2_cart_0 13 rfl rfl)
theorem dX2_cart_16 : decode cX2_cart 16 = .ok (.getstatic 199, 3) := dk_178 0 199 (dk_at dksX2_cart_0 16 rfl rfl)
theorem dX2_cart_19 : decode cX2_cart 19 = .ok (.invokestatic 205, 3) := dk_184 0 205 (dk_at dksX2_cart_0 19 rfl rfl)
theorem dX2_cart_22 : decode cX2_cart 22 = .ok (.aload_n 0, 1) := dk_42 (dk_at dksX2_cart_0 22 rfl rfl)
theorem dX2_cart_23 : decode cX2_cart 23 = .ok (.getfield 35, 3) := dk_180 0 35 (dk_at dksX2_cart_1 0 rfl rfl)
theorem dX2_cart_26 : decode cX2_cart 26 = .ok (.iload_n 1, 1) := dk_27 (dk_at dksX2_cart_1 3 rfl rfl)
theorem dX2_cart_27 : decode cX2_cart 27 = .ok (.invokeinterface 185 2, 5) := by decide +kernel
theorem dX2_cart_32 : decode cX2_cart 32 = .ok (.checkcast 90, 3) := dk_192 0 90 (dk_at dksX2_cart_1 9 rfl rfl)
theorem dX2_cart_35 : decode cX2_cart 35 = .ok (.areturn, 1) := dk_176 (dk_at dksX2_cart_1 12 rfl rfl)
abbrev cX2_street : ByteArray := prog_8_method_8_code
def yX2_street : MethodName := ⟨RX2, "street", "(I)LRoseGuild$Street;"⟩
def dkwX2_street_1 : List UInt8 := [180, 0, 28, 27, 185, 0, 185, 2, 0, 192, 0, 77, 176]
abbrev dktX2_street_1 : List UInt8 := dkwX2_street_1 ++ []
def dkwX2_street_0 : List UInt8 := [27, 3, 42, 180, 0, 28, 185, 0, 92, 1, 0, 4, 100, 184, 0, 195, 178, 0, 199, 184, 0, 205, 42]
abbrev dktX2_street_0 : List UInt8 := dkwX2_street_0 ++ dktX2_street_1
theorem dksX2_street_0 : cX2_street.data.toList.drop 0 = dktX2_street_0 := by decide +kernel
theorem dksX2_street_1 : cX2_street.data.toList.drop 23 = dktX2_street_1 := dk_seg dksX2_street_0 23 rfl rfl
theorem dX2_street_0 : decode cX2_street 0 = .ok (.iload_n 1, 1) := dk_27 (dk_at dksX2_street_0 0 rfl rfl)
theorem dX2_street_1 : decode cX2_street 1 = .ok (.iconst 0, 1) := dk_3 (dk_at dksX2_street_0 1 rfl rfl)
theorem dX2_street_2 : decode cX2_street 2 = .ok (.aload_n 0, 1) := dk_42 (dk_at dksX2_street_0 2 rfl rfl)
theorem dX2_street_3 : decode cX2_street 3 = .ok (.getfield 28, 3) := dk_180 0 28 (dk_at dksX2_street_0 3 rfl rfl)
theorem dX2_street_6 : decode cX2_street 6 = .ok (.invokeinterface 92 1, 5) := by decide +kernel
theorem dX2_street_11 : decode cX2_street 11 = .ok (.iconst 1, 1) := dk_4 (dk_at dksX2_street_0 11 rfl rfl)
theorem dX2_street_12 : decode cX2_street 12 = .ok (.isub, 1) := dk_100 (dk_at dksX2_street_0 12 rfl rfl)
theorem dX2_street_13 : decode cX2_street 13 = .ok (.invokestatic 195, 3) := dk_184 0 195 (dk_at dksX2_street_0 13 rfl rfl)
theorem dX2_street_16 : decode cX2_street 16 = .ok (.getstatic 199, 3) := dk_178 0 199 (dk_at dksX2_street_0 16 rfl rfl)
theorem dX2_street_19 : decode cX2_street 19 = .ok (.invokestatic 205, 3) := dk_184 0 205 (dk_at dksX2_street_0 19 rfl rfl)
theorem dX2_street_22 : decode cX2_street 22 = .ok (.aload_n 0, 1) := dk_42 (dk_at dksX2_street_0 22 rfl rfl)
theorem dX2_street_23 : decode cX2_street 23 = .ok (.getfield 28, 3) := dk_180 0 28 (dk_at dksX2_street_1 0 rfl rfl)
theorem dX2_street_26 : decode cX2_street 26 = .ok (.iload_n 1, 1) := dk_27 (dk_at dksX2_street_1 3 rfl rfl)
theorem dX2_street_27 : decode cX2_street 27 = .ok (.invokeinterface 185 2, 5) := by decide +kernel
theorem dX2_street_32 : decode cX2_street 32 = .ok (.checkcast 77, 3) := dk_192 0 77 (dk_at dksX2_street_1 9 rfl rfl)
theorem dX2_street_35 : decode cX2_street 35 = .ok (.areturn, 1) := dk_176 (dk_at dksX2_street_1 12 rfl rfl)
abbrev cX2_garden : ByteArray := prog_8_method_9_code
def yX2_garden : MethodName := ⟨RX2, "garden", "(I)LRoseGuild$Garden;"⟩
def dkwX2_garden_1 : List UInt8 := [180, 0, 32, 27, 185, 0, 185, 2, 0, 192, 0, 88, 176]
abbrev dktX2_garden_1 : List UInt8 := dkwX2_garden_1 ++ []
def dkwX2_garden_0 : List UInt8 := [27, 3, 42, 180, 0, 32, 185, 0, 92, 1, 0, 4, 100, 184, 0, 195, 178, 0, 199, 184, 0, 205, 42]
abbrev dktX2_garden_0 : List UInt8 := dkwX2_garden_0 ++ dktX2_garden_1
theorem dksX2_garden_0 : cX2_garden.data.toList.drop 0 = dktX2_garden_0 := by decide +kernel
theorem dksX2_garden_1 : cX2_garden.data.toList.drop 23 = dktX2_garden_1 := dk_seg dksX2_garden_0 23 rfl rfl
theorem dX2_garden_0 : decode cX2_garden 0 = .ok (.iload_n 1, 1) := dk_27 (dk_at dksX2_garden_0 0 rfl rfl)
theorem dX2_garden_1 : decode cX2_garden 1 = .ok (.iconst 0, 1) := dk_3 (dk_at dksX2_garden_0 1 rfl rfl)
theorem dX2_garden_2 : decode cX2_garden 2 = .ok (.aload_n 0, 1) := dk_42 (dk_at dksX2_garden_0 2 rfl rfl)
theorem dX2_garden_3 : decode cX2_garden 3 = .ok (.getfield 32, 3) := dk_180 0 32 (dk_at dksX2_garden_0 3 rfl rfl)
theorem dX2_garden_6 : decode cX2_garden 6 = .ok (.invokeinterface 92 1, 5) := by decide +kernel
theorem dX2_garden_11 : decode cX2_garden 11 = .ok (.iconst 1, 1) := dk_4 (dk_at dksX2_garden_0 11 rfl rfl)
theorem dX2_garden_12 : decode cX2_garden 12 = .ok (.isub, 1) := dk_100 (dk_at dksX2_garden_0 12 rfl rfl)
theorem dX2_garden_13 : decode cX2_garden 13 = .ok (.invokestatic 195, 3) := dk_184 0 195 (dk_at dksX2_garden_0 13 rfl rfl)
theorem dX2_garden_16 : decode cX2_garden 16 = .ok (.getstatic 199, 3) := dk_178 0 199 (dk_at dksX2_garden_0 16 rfl rfl)
theorem dX2_garden_19 : decode cX2_garden 19 = .ok (.invokestatic 205, 3) := dk_184 0 205 (dk_at dksX2_garden_0 19 rfl rfl)
theorem dX2_garden_22 : decode cX2_garden 22 = .ok (.aload_n 0, 1) := dk_42 (dk_at dksX2_garden_0 22 rfl rfl)
theorem dX2_garden_23 : decode cX2_garden 23 = .ok (.getfield 32, 3) := dk_180 0 32 (dk_at dksX2_garden_1 0 rfl rfl)
theorem dX2_garden_26 : decode cX2_garden 26 = .ok (.iload_n 1, 1) := dk_27 (dk_at dksX2_garden_1 3 rfl rfl)
theorem dX2_garden_27 : decode cX2_garden 27 = .ok (.invokeinterface 185 2, 5) := by decide +kernel
theorem dX2_garden_32 : decode cX2_garden 32 = .ok (.checkcast 88, 3) := dk_192 0 88 (dk_at dksX2_garden_1 9 rfl rfl)
theorem dX2_garden_35 : decode cX2_garden 35 = .ok (.areturn, 1) := dk_176 (dk_at dksX2_garden_1 12 rfl rfl)
abbrev cX2_cancel : ByteArray := prog_8_method_22_code
def yX2_cancel : MethodName := ⟨RX2, "cancel", "(I)I"⟩
def dkwX2_cancel_1 : List UInt8 := [44, 180, 0, 99, 180, 1, 18, 62, 44, 1, 181, 0, 99, 29, 172]
abbrev dktX2_cancel_1 : List UInt8 := dkwX2_cancel_1 ++ []
def dkwX2_cancel_0 : List UInt8 := [42, 27, 182, 1, 52, 77, 44, 180, 0, 99, 198, 0, 7, 4, 167, 0, 4, 3, 178, 1, 43, 184, 0, 205]
abbrev dktX2_cancel_0 : List UInt8 := dkwX2_cancel_0 ++ dktX2_cancel_1
theorem dksX2_cancel_0 : cX2_cancel.data.toList.drop 0 = dktX2_cancel_0 := by decide +kernel
theorem dksX2_cancel_1 : cX2_cancel.data.toList.drop 24 = dktX2_cancel_1 := dk_seg dksX2_cancel_0 24 rfl rfl
theorem dX2_cancel_0 : decode cX2_cancel 0 = .ok (.aload_n 0, 1) := dk_42 (dk_at dksX2_cancel_0 0 rfl rfl)
theorem dX2_cancel_1 : decode cX2_cancel 1 = .ok (.iload_n 1, 1) := dk_27 (dk_at dksX2_cancel_0 1 rfl rfl)
theorem dX2_cancel_2 : decode cX2_cancel 2 = .ok (.invokevirtual 308, 3) := dk_182 1 52 (dk_at dksX2_cancel_0 2 rfl rfl)
theorem dX2_cancel_5 : decode cX2_cancel 5 = .ok (.astore_n 2, 1) := dk_77 (dk_at dksX2_cancel_0 5 rfl rfl)
theorem dX2_cancel_6 : decode cX2_cancel 6 = .ok (.aload_n 2, 1) := dk_44 (dk_at dksX2_cancel_0 6 rfl rfl)
theorem dX2_cancel_7 : decode cX2_cancel 7 = .ok (.getfield 99, 3) := dk_180 0 99 (dk_at dksX2_cancel_0 7 rfl rfl)
theorem dX2_cancel_10 : decode cX2_cancel 10 = .ok (.ifnull 7, 3) := dk_198 0 7 (dk_at dksX2_cancel_0 10 rfl rfl)
theorem dX2_cancel_13 : decode cX2_cancel 13 = .ok (.iconst 1, 1) := dk_4 (dk_at dksX2_cancel_0 13 rfl rfl)
theorem dX2_cancel_14 : decode cX2_cancel 14 = .ok (.goto 4, 3) := dk_167 0 4 (dk_at dksX2_cancel_0 14 rfl rfl)
theorem dX2_cancel_17 : decode cX2_cancel 17 = .ok (.iconst 0, 1) := dk_3 (dk_at dksX2_cancel_0 17 rfl rfl)
theorem dX2_cancel_18 : decode cX2_cancel 18 = .ok (.getstatic 299, 3) := dk_178 1 43 (dk_at dksX2_cancel_0 18 rfl rfl)
theorem dX2_cancel_21 : decode cX2_cancel 21 = .ok (.invokestatic 205, 3) := dk_184 0 205 (dk_at dksX2_cancel_0 21 rfl rfl)
theorem dX2_cancel_24 : decode cX2_cancel 24 = .ok (.aload_n 2, 1) := dk_44 (dk_at dksX2_cancel_1 0 rfl rfl)
theorem dX2_cancel_25 : decode cX2_cancel 25 = .ok (.getfield 99, 3) := dk_180 0 99 (dk_at dksX2_cancel_1 1 rfl rfl)
theorem dX2_cancel_28 : decode cX2_cancel 28 = .ok (.getfield 274, 3) := dk_180 1 18 (dk_at dksX2_cancel_1 4 rfl rfl)
theorem dX2_cancel_31 : decode cX2_cancel 31 = .ok (.istore_n 3, 1) := dk_62 (dk_at dksX2_cancel_1 7 rfl rfl)
theorem dX2_cancel_32 : decode cX2_cancel 32 = .ok (.aload_n 2, 1) := dk_44 (dk_at dksX2_cancel_1 8 rfl rfl)
theorem dX2_cancel_33 : decode cX2_cancel 33 = .ok (.aconst_null, 1) := dk_1 (dk_at dksX2_cancel_1 9 rfl rfl)
theorem dX2_cancel_34 : decode cX2_cancel 34 = .ok (.putfield 99, 3) := dk_181 0 99 (dk_at dksX2_cancel_1 10 rfl rfl)
theorem dX2_cancel_37 : decode cX2_cancel 37 = .ok (.iload_n 3, 1) := dk_29 (dk_at dksX2_cancel_1 13 rfl rfl)
theorem dX2_cancel_38 : decode cX2_cancel 38 = .ok (.ireturn, 1) := dk_172 (dk_at dksX2_cancel_1 14 rfl rfl)
abbrev cX2_advance : ByteArray := prog_8_method_19_code
def yX2_advance : MethodName := ⟨RX2, "advance", "(I)I"⟩
def dkwX2_advance_2 : List UInt8 := [162, 0, 13, 42, 182, 1, 46, 132, 3, 1, 167, 255, 244, 42, 180, 0, 170, 28, 100, 172]
abbrev dktX2_advance_2 : List UInt8 := dkwX2_advance_2 ++ []
def dkwX2_advance_1 : List UInt8 := [163, 0, 7, 4, 167, 0, 4, 3, 178, 1, 43, 184, 0, 205, 42, 180, 0, 170, 61, 3, 62, 29, 27]
abbrev dktX2_advance_1 : List UInt8 := dkwX2_advance_1 ++ dktX2_advance_2
def dkwX2_advance_0 : List UInt8 := [27, 4, 16, 30, 184, 0, 195, 178, 1, 40, 184, 0, 205, 42, 180, 0, 161, 27, 96, 17, 39, 15]
abbrev dktX2_advance_0 : List UInt8 := dkwX2_advance_0 ++ dktX2_advance_1
theorem dksX2_advance_0 : cX2_advance.data.toList.drop 0 = dktX2_advance_0 := by decide +kernel
theorem dksX2_advance_1 : cX2_advance.data.toList.drop 22 = dktX2_advance_1 := dk_seg dksX2_advance_0 22 rfl rfl
theorem dksX2_advance_2 : cX2_advance.data.toList.drop 45 = dktX2_advance_2 := dk_seg dksX2_advance_1 23 rfl rfl
theorem dX2_advance_0 : decode cX2_advance 0 = .ok (.iload_n 1, 1) := dk_27 (dk_at dksX2_advance_0 0 rfl rfl)
theorem dX2_advance_1 : decode cX2_advance 1 = .ok (.iconst 1, 1) := dk_4 (dk_at dksX2_advance_0 1 rfl rfl)
theorem dX2_advance_2 : decode cX2_advance 2 = .ok (.bipush 30, 2) := dk_16 30 (dk_at dksX2_advance_0 2 rfl rfl)
theorem dX2_advance_4 : decode cX2_advance 4 = .ok (.invokestatic 195, 3) := dk_184 0 195 (dk_at dksX2_advance_0 4 rfl rfl)
theorem dX2_advance_7 : decode cX2_advance 7 = .ok (.getstatic 296, 3) := dk_178 1 40 (dk_at dksX2_advance_0 7 rfl rfl)
theorem dX2_advance_10 : decode cX2_advance 10 = .ok (.invokestatic 205, 3) := dk_184 0 205 (dk_at dksX2_advance_0 10 rfl rfl)
theorem dX2_advance_13 : decode cX2_advance 13 = .ok (.aload_n 0, 1) := dk_42 (dk_at dksX2_advance_0 13 rfl rfl)
theorem dX2_advance_14 : decode cX2_advance 14 = .ok (.getfield 161, 3) := dk_180 0 161 (dk_at dksX2_advance_0 14 rfl rfl)
theorem dX2_advance_17 : decode cX2_advance 17 = .ok (.iload_n 1, 1) := dk_27 (dk_at dksX2_advance_0 17 rfl rfl)
theorem dX2_advance_18 : decode cX2_advance 18 = .ok (.iadd, 1) := dk_96 (dk_at dksX2_advance_0 18 rfl rfl)
theorem dX2_advance_19 : decode cX2_advance 19 = .ok (.sipush 9999, 3) := dk_17 39 15 (dk_at dksX2_advance_0 19 rfl rfl)
theorem dX2_advance_22 : decode cX2_advance 22 = .ok (.if_icmp .gt 7, 3) := dk_163 0 7 (dk_at dksX2_advance_1 0 rfl rfl)
theorem dX2_advance_25 : decode cX2_advance 25 = .ok (.iconst 1, 1) := dk_4 (dk_at dksX2_advance_1 3 rfl rfl)
theorem dX2_advance_26 : decode cX2_advance 26 = .ok (.goto 4, 3) := dk_167 0 4 (dk_at dksX2_advance_1 4 rfl rfl)
theorem dX2_advance_29 : decode cX2_advance 29 = .ok (.iconst 0, 1) := dk_3 (dk_at dksX2_advance_1 7 rfl rfl)
theorem dX2_advance_30 : decode cX2_advance 30 = .ok (.getstatic 299, 3) := dk_178 1 43 (dk_at dksX2_advance_1 8 rfl rfl)
theorem dX2_advance_33 : decode cX2_advance 33 = .ok (.invokestatic 205, 3) := dk_184 0 205 (dk_at dksX2_advance_1 11 rfl rfl)
theorem dX2_advance_36 : decode cX2_advance 36 = .ok (.aload_n 0, 1) := dk_42 (dk_at dksX2_advance_1 14 rfl rfl)
theorem dX2_advance_37 : decode cX2_advance 37 = .ok (.getfield 170, 3) := dk_180 0 170 (dk_at dksX2_advance_1 15 rfl rfl)
theorem dX2_advance_40 : decode cX2_advance 40 = .ok (.istore_n 2, 1) := dk_61 (dk_at dksX2_advance_1 18 rfl rfl)
theorem dX2_advance_41 : decode cX2_advance 41 = .ok (.iconst 0, 1) := dk_3 (dk_at dksX2_advance_1 19 rfl rfl)
theorem dX2_advance_42 : decode cX2_advance 42 = .ok (.istore_n 3, 1) := dk_62 (dk_at dksX2_advance_1 20 rfl rfl)
theorem dX2_advance_43 : decode cX2_advance 43 = .ok (.iload_n 3, 1) := dk_29 (dk_at dksX2_advance_1 21 rfl rfl)
theorem dX2_advance_44 : decode cX2_advance 44 = .ok (.iload_n 1, 1) := dk_27 (dk_at dksX2_advance_1 22 rfl rfl)
theorem dX2_advance_45 : decode cX2_advance 45 = .ok (.if_icmp .ge 13, 3) := dk_162 0 13 (dk_at dksX2_advance_2 0 rfl rfl)
theorem dX2_advance_48 : decode cX2_advance 48 = .ok (.aload_n 0, 1) := dk_42 (dk_at dksX2_advance_2 3 rfl rfl)
theorem dX2_advance_49 : decode cX2_advance 49 = .ok (.invokevirtual 302, 3) := dk_182 1 46 (dk_at dksX2_advance_2 4 rfl rfl)
theorem dX2_advance_52 : decode cX2_advance 52 = .ok (.iinc 3 1, 3) := dk_132 3 1 (dk_at dksX2_advance_2 7 rfl rfl)
theorem dX2_advance_55 : decode cX2_advance 55 = .ok (.goto (-12), 3) := dk_167 255 244 (dk_at dksX2_advance_2 10 rfl rfl)
theorem dX2_advance_58 : decode cX2_advance 58 = .ok (.aload_n 0, 1) := dk_42 (dk_at dksX2_advance_2 13 rfl rfl)
theorem dX2_advance_59 : decode cX2_advance 59 = .ok (.getfield 170, 3) := dk_180 0 170 (dk_at dksX2_advance_2 14 rfl rfl)
theorem dX2_advance_62 : decode cX2_advance 62 = .ok (.iload_n 2, 1) := dk_28 (dk_at dksX2_advance_2 17 rfl rfl)
theorem dX2_advance_63 : decode cX2_advance 63 = .ok (.isub, 1) := dk_100 (dk_at dksX2_advance_2 18 rfl rfl)
theorem dX2_advance_64 : decode cX2_advance 64 = .ok (.ireturn, 1) := dk_172 (dk_at dksX2_advance_2 19 rfl rfl)
abbrev cX2_passOneNight : ByteArray := prog_8_method_18_code
def yX2_passOneNight : MethodName := ⟨RX2, "passOneNight", "()V"⟩
def dkwX2_passOneNight_8 : List UInt8 := [180, 0, 161, 16, 7, 112, 154, 0, 7, 42, 182, 1, 37, 177]
abbrev dktX2_passOneNight_8 : List UInt8 := dkwX2_passOneNight_8 ++ []
def dkwX2_passOneNight_7 : List UInt8 := [180, 0, 35, 27, 185, 0, 185, 2, 0, 192, 0, 90, 182, 1, 34, 132, 1, 1, 167, 255, 223, 42]
abbrev dktX2_passOneNight_7 : List UInt8 := dkwX2_passOneNight_7 ++ dktX2_passOneNight_8
def dkwX2_passOneNight_6 : List UInt8 := [132, 1, 1, 167, 255, 224, 3, 60, 27, 42, 180, 0, 35, 185, 0, 92, 1, 0, 162, 0, 26, 42, 42]
abbrev dktX2_passOneNight_6 : List UInt8 := dkwX2_passOneNight_6 ++ dktX2_passOneNight_7
def dkwX2_passOneNight_5 : List UInt8 := [185, 0, 92, 1, 0, 162, 0, 25, 42, 180, 0, 32, 27, 185, 0, 185, 2, 0, 192, 0, 88, 182, 1, 31]
abbrev dktX2_passOneNight_5 : List UInt8 := dkwX2_passOneNight_5 ++ dktX2_passOneNight_6
def dkwX2_passOneNight_4 : List UInt8 := [185, 0, 185, 2, 0, 192, 0, 90, 182, 1, 27, 132, 1, 1, 167, 255, 204, 3, 60, 27, 42, 180, 0, 32]
abbrev dktX2_passOneNight_4 : List UInt8 := dkwX2_passOneNight_4 ++ dktX2_passOneNight_5
def dkwX2_passOneNight_3 : List UInt8 := [180, 0, 35, 27, 185, 0, 185, 2, 0, 192, 0, 90, 180, 0, 99, 198, 0, 20, 42, 42, 180, 0, 35, 27]
abbrev dktX2_passOneNight_3 : List UInt8 := dkwX2_passOneNight_3 ++ dktX2_passOneNight_4
def dkwX2_passOneNight_2 : List UInt8 := [132, 1, 1, 167, 255, 224, 3, 60, 27, 42, 180, 0, 35, 185, 0, 92, 1, 0, 162, 0, 45, 42]
abbrev dktX2_passOneNight_2 : List UInt8 := dkwX2_passOneNight_2 ++ dktX2_passOneNight_3
def dkwX2_passOneNight_1 : List UInt8 := [185, 0, 92, 1, 0, 162, 0, 25, 42, 180, 0, 28, 27, 185, 0, 185, 2, 0, 192, 0, 77, 182, 1, 24]
abbrev dktX2_passOneNight_1 : List UInt8 := dkwX2_passOneNight_1 ++ dktX2_passOneNight_2
def dkwX2_passOneNight_0 : List UInt8 := [42, 89, 180, 0, 161, 4, 96, 181, 0, 161, 42, 180, 0, 50, 182, 1, 21, 3, 60, 27, 42, 180, 0, 28]
abbrev dktX2_passOneNight_0 : List UInt8 := dkwX2_passOneNight_0 ++ dktX2_passOneNight_1
theorem dksX2_passOneNight_0 : cX2_passOneNight.data.toList.drop 0 = dktX2_passOneNight_0 := by decide +kernel
theorem dksX2_passOneNight_1 : cX2_passOneNight.data.toList.drop 24 = dktX2_passOneNight_1 := dk_seg dksX2_passOneNight_0 24 rfl rfl
theorem dksX2_passOneNight_2 : cX2_passOneNight.data.toList.drop 48 = dktX2_passOneNight_2 := dk_seg dksX2_passOneNight_1 24 rfl rfl
theorem dksX2_passOneNight_3 : cX2_passOneNight.data.toList.drop 70 = dktX2_passOneNight_3 := dk_seg dksX2_passOneNight_2 22 rfl rfl
theorem dksX2_passOneNight_4 : cX2_passOneNight.data.toList.drop 94 = dktX2_passOneNight_4 := dk_seg dksX2_passOneNight_3 24 rfl rfl
theorem dksX2_passOneNight_5 : cX2_passOneNight.data.toList.drop 118 = dktX2_passOneNight_5 := dk_seg dksX2_passOneNight_4 24 rfl rfl
theorem dksX2_passOneNight_6 : cX2_passOneNight.data.toList.drop 142 = dktX2_passOneNight_6 := dk_seg dksX2_passOneNight_5 24 rfl rfl
theorem dksX2_passOneNight_7 : cX2_passOneNight.data.toList.drop 165 = dktX2_passOneNight_7 := dk_seg dksX2_passOneNight_6 23 rfl rfl
theorem dksX2_passOneNight_8 : cX2_passOneNight.data.toList.drop 187 = dktX2_passOneNight_8 := dk_seg dksX2_passOneNight_7 22 rfl rfl
theorem dX2_passOneNight_0 : decode cX2_passOneNight 0 = .ok (.aload_n 0, 1) := dk_42 (dk_at dksX2_passOneNight_0 0 rfl rfl)
theorem dX2_passOneNight_1 : decode cX2_passOneNight 1 = .ok (.dup, 1) := dk_89 (dk_at dksX2_passOneNight_0 1 rfl rfl)
theorem dX2_passOneNight_2 : decode cX2_passOneNight 2 = .ok (.getfield 161, 3) := dk_180 0 161 (dk_at dksX2_passOneNight_0 2 rfl rfl)
theorem dX2_passOneNight_5 : decode cX2_passOneNight 5 = .ok (.iconst 1, 1) := dk_4 (dk_at dksX2_passOneNight_0 5 rfl rfl)
theorem dX2_passOneNight_6 : decode cX2_passOneNight 6 = .ok (.iadd, 1) := dk_96 (dk_at dksX2_passOneNight_0 6 rfl rfl)
theorem dX2_passOneNight_7 : decode cX2_passOneNight 7 = .ok (.putfield 161, 3) := dk_181 0 161 (dk_at dksX2_passOneNight_0 7 rfl rfl)
theorem dX2_passOneNight_10 : decode cX2_passOneNight 10 = .ok (.aload_n 0, 1) := dk_42 (dk_at dksX2_passOneNight_0 10 rfl rfl)
theorem dX2_passOneNight_11 : decode cX2_passOneNight 11 = .ok (.getfield 50, 3) := dk_180 0 50 (dk_at dksX2_passOneNight_0 11 rfl rfl)
theorem dX2_passOneNight_14 : decode cX2_passOneNight 14 = .ok (.invokevirtual 277, 3) := dk_182 1 21 (dk_at dksX2_passOneNight_0 14 rfl rfl)
theorem dX2_passOneNight_17 : decode cX2_passOneNight 17 = .ok (.iconst 0, 1) := dk_3 (dk_at dksX2_passOneNight_0 17 rfl rfl)
theorem dX2_passOneNight_18 : decode cX2_passOneNight 18 = .ok (.istore_n 1, 1) := dk_60 (dk_at dksX2_passOneNight_0 18 rfl rfl)
theorem dX2_passOneNight_19 : decode cX2_passOneNight 19 = .ok (.iload_n 1, 1) := dk_27 (dk_at dksX2_passOneNight_0 19 rfl rfl)
theorem dX2_passOneNight_20 : decode cX2_passOneNight 20 = .ok (.aload_n 0, 1) := dk_42 (dk_at dksX2_passOneNight_0 20 rfl rfl)
theorem dX2_passOneNight_21 : decode cX2_passOneNight 21 = .ok (.getfield 28, 3) := dk_180 0 28 (dk_at dksX2_passOneNight_0 21 rfl rfl)
theorem dX2_passOneNight_24 : decode cX2_passOneNight 24 = .ok (.invokeinterface 92 1, 5) := by decide +kernel
theorem dX2_passOneNight_29 : decode cX2_passOneNight 29 = .ok (.if_icmp .ge 25, 3) := dk_162 0 25 (dk_at dksX2_passOneNight_1 5 rfl rfl)
theorem dX2_passOneNight_32 : decode cX2_passOneNight 32 = .ok (.aload_n 0, 1) := dk_42 (dk_at dksX2_passOneNight_1 8 rfl rfl)
theorem dX2_passOneNight_33 : decode cX2_passOneNight 33 = .ok (.getfield 28, 3) := dk_180 0 28 (dk_at dksX2_passOneNight_1 9 rfl rfl)
theorem dX2_passOneNight_36 : decode cX2_passOneNight 36 = .ok (.iload_n 1, 1) := dk_27 (dk_at dksX2_passOneNight_1 12 rfl rfl)
theorem dX2_passOneNight_37 : decode cX2_passOneNight 37 = .ok (.invokeinterface 185 2, 5) := by decide +kernel
theorem dX2_passOneNight_42 : decode cX2_passOneNight 42 = .ok (.checkcast 77, 3) := dk_192 0 77 (dk_at dksX2_passOneNight_1 18 rfl rfl)
theorem dX2_passOneNight_45 : decode cX2_passOneNight 45 = .ok (.invokevirtual 280, 3) := dk_182 1 24 (dk_at dksX2_passOneNight_1 21 rfl rfl)
theorem dX2_passOneNight_48 : decode cX2_passOneNight 48 = .ok (.iinc 1 1, 3) := dk_132 1 1 (dk_at dksX2_passOneNight_2 0 rfl rfl)
theorem dX2_passOneNight_51 : decode cX2_passOneNight 51 = .ok (.goto (-32), 3) := dk_167 255 224 (dk_at dksX2_passOneNight_2 3 rfl rfl)
theorem dX2_passOneNight_54 : decode cX2_passOneNight 54 = .ok (.iconst 0, 1) := dk_3 (dk_at dksX2_passOneNight_2 6 rfl rfl)
theorem dX2_passOneNight_55 : decode cX2_passOneNight 55 = .ok (.istore_n 1, 1) := dk_60 (dk_at dksX2_passOneNight_2 7 rfl rfl)
theorem dX2_passOneNight_56 : decode cX2_passOneNight 56 = .ok (.iload_n 1, 1) := dk_27 (dk_at dksX2_passOneNight_2 8 rfl rfl)
theorem dX2_passOneNight_57 : decode cX2_passOneNight 57 = .ok (.aload_n 0, 1) := dk_42 (dk_at dksX2_passOneNight_2 9 rfl rfl)
theorem dX2_passOneNight_58 : decode cX2_passOneNight 58 = .ok (.getfield 35, 3) := dk_180 0 35 (dk_at dksX2_passOneNight_2 10 rfl rfl)
theorem dX2_passOneNight_61 : decode cX2_passOneNight 61 = .ok (.invokeinterface 92 1, 5) := by decide +kernel
theorem dX2_passOneNight_66 : decode cX2_passOneNight 66 = .ok (.if_icmp .ge 45, 3) := dk_162 0 45 (dk_at dksX2_passOneNight_2 18 rfl rfl)
theorem dX2_passOneNight_69 : decode cX2_passOneNight 69 = .ok (.aload_n 0, 1) := dk_42 (dk_at dksX2_passOneNight_2 21 rfl rfl)
theorem dX2_passOneNight_70 : decode cX2_passOneNight 70 = .ok (.getfield 35, 3) := dk_180 0 35 (dk_at dksX2_passOneNight_3 0 rfl rfl)
theorem dX2_passOneNight_73 : decode cX2_passOneNight 73 = .ok (.iload_n 1, 1) := dk_27 (dk_at dksX2_passOneNight_3 3 rfl rfl)
theorem dX2_passOneNight_74 : decode cX2_passOneNight 74 = .ok (.invokeinterface 185 2, 5) := by decide +kernel
theorem dX2_passOneNight_79 : decode cX2_passOneNight 79 = .ok (.checkcast 90, 3) := dk_192 0 90 (dk_at dksX2_passOneNight_3 9 rfl rfl)
theorem dX2_passOneNight_82 : decode cX2_passOneNight 82 = .ok (.getfield 99, 3) := dk_180 0 99 (dk_at dksX2_passOneNight_3 12 rfl rfl)
theorem dX2_passOneNight_85 : decode cX2_passOneNight 85 = .ok (.ifnull 20, 3) := dk_198 0 20 (dk_at dksX2_passOneNight_3 15 rfl rfl)
theorem dX2_passOneNight_88 : decode cX2_passOneNight 88 = .ok (.aload_n 0, 1) := dk_42 (dk_at dksX2_passOneNight_3 18 rfl rfl)
theorem dX2_passOneNight_89 : decode cX2_passOneNight 89 = .ok (.aload_n 0, 1) := dk_42 (dk_at dksX2_passOneNight_3 19 rfl rfl)
theorem dX2_passOneNight_90 : decode cX2_passOneNight 90 = .ok (.getfield 35, 3) := dk_180 0 35 (dk_at dksX2_passOneNight_3 20 rfl rfl)
theorem dX2_passOneNight_93 : decode cX2_passOneNight 93 = .ok (.iload_n 1, 1) := dk_27 (dk_at dksX2_passOneNight_3 23 rfl rfl)
theorem dX2_passOneNight_94 : decode cX2_passOneNight 94 = .ok (.invokeinterface 185 2, 5) := by decide +kernel
theorem dX2_passOneNight_99 : decode cX2_passOneNight 99 = .ok (.checkcast 90, 3) := dk_192 0 90 (dk_at dksX2_passOneNight_4 5 rfl rfl)
theorem dX2_passOneNight_102 : decode cX2_passOneNight 102 = .ok (.invokevirtual 283, 3) := dk_182 1 27 (dk_at dksX2_passOneNight_4 8 rfl rfl)
theorem dX2_passOneNight_105 : decode cX2_passOneNight 105 = .ok (.iinc 1 1, 3) := dk_132 1 1 (dk_at dksX2_passOneNight_4 11 rfl rfl)
theorem dX2_passOneNight_108 : decode cX2_passOneNight 108 = .ok (.goto (-52), 3) := dk_167 255 204 (dk_at dksX2_passOneNight_4 14 rfl rfl)
theorem dX2_passOneNight_111 : decode cX2_passOneNight 111 = .ok (.iconst 0, 1) := dk_3 (dk_at dksX2_passOneNight_4 17 rfl rfl)
theorem dX2_passOneNight_112 : decode cX2_passOneNight 112 = .ok (.istore_n 1, 1) := dk_60 (dk_at dksX2_passOneNight_4 18 rfl rfl)
theorem dX2_passOneNight_113 : decode cX2_passOneNight 113 = .ok (.iload_n 1, 1) := dk_27 (dk_at dksX2_passOneNight_4 19 rfl rfl)
theorem dX2_passOneNight_114 : decode cX2_passOneNight 114 = .ok (.aload_n 0, 1) := dk_42 (dk_at dksX2_passOneNight_4 20 rfl rfl)
theorem dX2_passOneNight_115 : decode cX2_passOneNight 115 = .ok (.getfield 32, 3) := dk_180 0 32 (dk_at dksX2_passOneNight_4 21 rfl rfl)
theorem dX2_passOneNight_118 : decode cX2_passOneNight 118 = .ok (.invokeinterface 92 1, 5) := by decide +kernel
theorem dX2_passOneNight_123 : decode cX2_passOneNight 123 = .ok (.if_icmp .ge 25, 3) := dk_162 0 25 (dk_at dksX2_passOneNight_5 5 rfl rfl)
theorem dX2_passOneNight_126 : decode cX2_passOneNight 126 = .ok (.aload_n 0, 1) := dk_42 (dk_at dksX2_passOneNight_5 8 rfl rfl)
theorem dX2_passOneNight_127 : decode cX2_passOneNight 127 = .ok (.getfield 32, 3) := dk_180 0 32 (dk_at dksX2_passOneNight_5 9 rfl rfl)
theorem dX2_passOneNight_130 : decode cX2_passOneNight 130 = .ok (.iload_n 1, 1) := dk_27 (dk_at dksX2_passOneNight_5 12 rfl rfl)
theorem dX2_passOneNight_131 : decode cX2_passOneNight 131 = .ok (.invokeinterface 185 2, 5) := by decide +kernel
theorem dX2_passOneNight_136 : decode cX2_passOneNight 136 = .ok (.checkcast 88, 3) := dk_192 0 88 (dk_at dksX2_passOneNight_5 18 rfl rfl)
theorem dX2_passOneNight_139 : decode cX2_passOneNight 139 = .ok (.invokevirtual 287, 3) := dk_182 1 31 (dk_at dksX2_passOneNight_5 21 rfl rfl)
theorem dX2_passOneNight_142 : decode cX2_passOneNight 142 = .ok (.iinc 1 1, 3) := dk_132 1 1 (dk_at dksX2_passOneNight_6 0 rfl rfl)
theorem dX2_passOneNight_145 : decode cX2_passOneNight 145 = .ok (.goto (-32), 3) := dk_167 255 224 (dk_at dksX2_passOneNight_6 3 rfl rfl)
theorem dX2_passOneNight_148 : decode cX2_passOneNight 148 = .ok (.iconst 0, 1) := dk_3 (dk_at dksX2_passOneNight_6 6 rfl rfl)
theorem dX2_passOneNight_149 : decode cX2_passOneNight 149 = .ok (.istore_n 1, 1) := dk_60 (dk_at dksX2_passOneNight_6 7 rfl rfl)
theorem dX2_passOneNight_150 : decode cX2_passOneNight 150 = .ok (.iload_n 1, 1) := dk_27 (dk_at dksX2_passOneNight_6 8 rfl rfl)
theorem dX2_passOneNight_151 : decode cX2_passOneNight 151 = .ok (.aload_n 0, 1) := dk_42 (dk_at dksX2_passOneNight_6 9 rfl rfl)
theorem dX2_passOneNight_152 : decode cX2_passOneNight 152 = .ok (.getfield 35, 3) := dk_180 0 35 (dk_at dksX2_passOneNight_6 10 rfl rfl)
theorem dX2_passOneNight_155 : decode cX2_passOneNight 155 = .ok (.invokeinterface 92 1, 5) := by decide +kernel
theorem dX2_passOneNight_160 : decode cX2_passOneNight 160 = .ok (.if_icmp .ge 26, 3) := dk_162 0 26 (dk_at dksX2_passOneNight_6 18 rfl rfl)
theorem dX2_passOneNight_163 : decode cX2_passOneNight 163 = .ok (.aload_n 0, 1) := dk_42 (dk_at dksX2_passOneNight_6 21 rfl rfl)
theorem dX2_passOneNight_164 : decode cX2_passOneNight 164 = .ok (.aload_n 0, 1) := dk_42 (dk_at dksX2_passOneNight_6 22 rfl rfl)
theorem dX2_passOneNight_165 : decode cX2_passOneNight 165 = .ok (.getfield 35, 3) := dk_180 0 35 (dk_at dksX2_passOneNight_7 0 rfl rfl)
theorem dX2_passOneNight_168 : decode cX2_passOneNight 168 = .ok (.iload_n 1, 1) := dk_27 (dk_at dksX2_passOneNight_7 3 rfl rfl)
theorem dX2_passOneNight_169 : decode cX2_passOneNight 169 = .ok (.invokeinterface 185 2, 5) := by decide +kernel
theorem dX2_passOneNight_174 : decode cX2_passOneNight 174 = .ok (.checkcast 90, 3) := dk_192 0 90 (dk_at dksX2_passOneNight_7 9 rfl rfl)
theorem dX2_passOneNight_177 : decode cX2_passOneNight 177 = .ok (.invokevirtual 290, 3) := dk_182 1 34 (dk_at dksX2_passOneNight_7 12 rfl rfl)
theorem dX2_passOneNight_180 : decode cX2_passOneNight 180 = .ok (.iinc 1 1, 3) := dk_132 1 1 (dk_at dksX2_passOneNight_7 15 rfl rfl)
theorem dX2_passOneNight_183 : decode cX2_passOneNight 183 = .ok (.goto (-33), 3) := dk_167 255 223 (dk_at dksX2_passOneNight_7 18 rfl rfl)
theorem dX2_passOneNight_186 : decode cX2_passOneNight 186 = .ok (.aload_n 0, 1) := dk_42 (dk_at dksX2_passOneNight_7 21 rfl rfl)
theorem dX2_passOneNight_187 : decode cX2_passOneNight 187 = .ok (.getfield 161, 3) := dk_180 0 161 (dk_at dksX2_passOneNight_8 0 rfl rfl)
theorem dX2_passOneNight_190 : decode cX2_passOneNight 190 = .ok (.bipush 7, 2) := dk_16 7 (dk_at dksX2_passOneNight_8 3 rfl rfl)
theorem dX2_passOneNight_192 : decode cX2_passOneNight 192 = .ok (.irem, 1) := dk_112 (dk_at dksX2_passOneNight_8 5 rfl rfl)
theorem dX2_passOneNight_193 : decode cX2_passOneNight 193 = .ok (.ifCond .ne 7, 3) := dk_154 0 7 (dk_at dksX2_passOneNight_8 6 rfl rfl)
theorem dX2_passOneNight_196 : decode cX2_passOneNight 196 = .ok (.aload_n 0, 1) := dk_42 (dk_at dksX2_passOneNight_8 9 rfl rfl)
theorem dX2_passOneNight_197 : decode cX2_passOneNight 197 = .ok (.invokevirtual 293, 3) := dk_182 1 37 (dk_at dksX2_passOneNight_8 10 rfl rfl)
theorem dX2_passOneNight_200 : decode cX2_passOneNight 200 = .ok (.return_, 1) := dk_177 (dk_at dksX2_passOneNight_8 13 rfl rfl)
abbrev cX2_deliver : ByteArray := prog_8_method_14_code
def yX2_deliver : MethodName := ⟨RX2, "deliver", "(LRoseGuild$Cart;)V"⟩
def dkwX2_deliver_9 : List UInt8 := [180, 0, 254, 21, 4, 21, 5, 183, 0, 255, 182, 1, 2, 42, 44, 21, 4, 182, 1, 6, 177]
abbrev dktX2_deliver_9 : List UInt8 := dkwX2_deliver_9 ++ []
def dkwX2_deliver_8 : List UInt8 := [181, 0, 179, 42, 180, 0, 50, 44, 180, 0, 248, 182, 0, 251, 42, 187, 0, 151, 89, 42, 180, 0, 161, 43]
abbrev dktX2_deliver_8 : List UInt8 := dkwX2_deliver_8 ++ dktX2_deliver_9
def dkwX2_deliver_7 : List UInt8 := [42, 89, 180, 0, 164, 42, 180, 0, 61, 100, 181, 0, 164, 42, 89, 180, 0, 179, 42, 180, 0, 61, 96]
abbrev dktX2_deliver_7 : List UInt8 := dkwX2_deliver_7 ++ dktX2_deliver_8
def dkwX2_deliver_6 : List UInt8 := [180, 0, 170, 21, 4, 96, 181, 0, 170, 21, 5, 153, 0, 39, 42, 89, 180, 0, 173, 4, 96, 181, 0, 173]
abbrev dktX2_deliver_6 : List UInt8 := dkwX2_deliver_6 ++ dktX2_deliver_7
def dkwX2_deliver_5 : List UInt8 := [180, 0, 58, 21, 4, 104, 96, 181, 0, 176, 42, 89, 180, 0, 167, 4, 96, 181, 0, 167, 42, 89]
abbrev dktX2_deliver_5 : List UInt8 := dkwX2_deliver_5 ++ dktX2_deliver_6
def dkwX2_deliver_4 : List UInt8 := [42, 89, 180, 0, 164, 42, 180, 0, 58, 21, 4, 104, 96, 181, 0, 164, 42, 89, 180, 0, 176, 42]
abbrev dktX2_deliver_4 : List UInt8 := dkwX2_deliver_4 ++ dktX2_deliver_5
def dkwX2_deliver_3 : List UInt8 := [54, 5, 44, 89, 180, 0, 242, 21, 4, 100, 181, 0, 242, 45, 89, 180, 0, 245, 21, 4, 96, 181, 0, 245]
abbrev dktX2_deliver_3 : List UInt8 := dkwX2_deliver_3 ++ dktX2_deliver_4
def dkwX2_deliver_2 : List UInt8 := [21, 4, 154, 0, 4, 177, 43, 44, 45, 182, 0, 239, 42, 180, 0, 54, 164, 0, 7, 4, 167, 0, 4, 3]
abbrev dktX2_deliver_2 : List UInt8 := dkwX2_deliver_2 ++ dktX2_deliver_3
def dkwX2_deliver_1 : List UInt8 := [43, 180, 0, 99, 180, 0, 232, 185, 0, 185, 2, 0, 192, 0, 88, 78, 43, 44, 182, 0, 235, 54, 4]
abbrev dktX2_deliver_1 : List UInt8 := dkwX2_deliver_1 ++ dktX2_deliver_2
def dkwX2_deliver_0 : List UInt8 := [42, 180, 0, 28, 43, 180, 0, 99, 180, 0, 229, 185, 0, 185, 2, 0, 192, 0, 77, 77, 42, 180, 0, 32]
abbrev dktX2_deliver_0 : List UInt8 := dkwX2_deliver_0 ++ dktX2_deliver_1
theorem dksX2_deliver_0 : cX2_deliver.data.toList.drop 0 = dktX2_deliver_0 := by decide +kernel
theorem dksX2_deliver_1 : cX2_deliver.data.toList.drop 24 = dktX2_deliver_1 := dk_seg dksX2_deliver_0 24 rfl rfl
theorem dksX2_deliver_2 : cX2_deliver.data.toList.drop 47 = dktX2_deliver_2 := dk_seg dksX2_deliver_1 23 rfl rfl
theorem dksX2_deliver_3 : cX2_deliver.data.toList.drop 71 = dktX2_deliver_3 := dk_seg dksX2_deliver_2 24 rfl rfl
theorem dksX2_deliver_4 : cX2_deliver.data.toList.drop 95 = dktX2_deliver_4 := dk_seg dksX2_deliver_3 24 rfl rfl
theorem dksX2_deliver_5 : cX2_deliver.data.toList.drop 117 = dktX2_deliver_5 := dk_seg dksX2_deliver_4 22 rfl rfl
theorem dksX2_deliver_6 : cX2_deliver.data.toList.drop 139 = dktX2_deliver_6 := dk_seg dksX2_deliver_5 22 rfl rfl
theorem dksX2_deliver_7 : cX2_deliver.data.toList.drop 163 = dktX2_deliver_7 := dk_seg dksX2_deliver_6 24 rfl rfl
theorem dksX2_deliver_8 : cX2_deliver.data.toList.drop 186 = dktX2_deliver_8 := dk_seg dksX2_deliver_7 23 rfl rfl
theorem dksX2_deliver_9 : cX2_deliver.data.toList.drop 210 = dktX2_deliver_9 := dk_seg dksX2_deliver_8 24 rfl rfl
theorem dX2_deliver_0 : decode cX2_deliver 0 = .ok (.aload_n 0, 1) := dk_42 (dk_at dksX2_deliver_0 0 rfl rfl)
theorem dX2_deliver_1 : decode cX2_deliver 1 = .ok (.getfield 28, 3) := dk_180 0 28 (dk_at dksX2_deliver_0 1 rfl rfl)
theorem dX2_deliver_4 : decode cX2_deliver 4 = .ok (.aload_n 1, 1) := dk_43 (dk_at dksX2_deliver_0 4 rfl rfl)
theorem dX2_deliver_5 : decode cX2_deliver 5 = .ok (.getfield 99, 3) := dk_180 0 99 (dk_at dksX2_deliver_0 5 rfl rfl)
theorem dX2_deliver_8 : decode cX2_deliver 8 = .ok (.getfield 229, 3) := dk_180 0 229 (dk_at dksX2_deliver_0 8 rfl rfl)
theorem dX2_deliver_11 : decode cX2_deliver 11 = .ok (.invokeinterface 185 2, 5) := by decide +kernel
theorem dX2_deliver_16 : decode cX2_deliver 16 = .ok (.checkcast 77, 3) := dk_192 0 77 (dk_at dksX2_deliver_0 16 rfl rfl)
theorem dX2_deliver_19 : decode cX2_deliver 19 = .ok (.astore_n 2, 1) := dk_77 (dk_at dksX2_deliver_0 19 rfl rfl)
theorem dX2_deliver_20 : decode cX2_deliver 20 = .ok (.aload_n 0, 1) := dk_42 (dk_at dksX2_deliver_0 20 rfl rfl)
theorem dX2_deliver_21 : decode cX2_deliver 21 = .ok (.getfield 32, 3) := dk_180 0 32 (dk_at dksX2_deliver_0 21 rfl rfl)
theorem dX2_deliver_24 : decode cX2_deliver 24 = .ok (.aload_n 1, 1) := dk_43 (dk_at dksX2_deliver_1 0 rfl rfl)
theorem dX2_deliver_25 : decode cX2_deliver 25 = .ok (.getfield 99, 3) := dk_180 0 99 (dk_at dksX2_deliver_1 1 rfl rfl)
theorem dX2_deliver_28 : decode cX2_deliver 28 = .ok (.getfield 232, 3) := dk_180 0 232 (dk_at dksX2_deliver_1 4 rfl rfl)
theorem dX2_deliver_31 : decode cX2_deliver 31 = .ok (.invokeinterface 185 2, 5) := by decide +kernel
theorem dX2_deliver_36 : decode cX2_deliver 36 = .ok (.checkcast 88, 3) := dk_192 0 88 (dk_at dksX2_deliver_1 12 rfl rfl)
theorem dX2_deliver_39 : decode cX2_deliver 39 = .ok (.astore_n 3, 1) := dk_78 (dk_at dksX2_deliver_1 15 rfl rfl)
theorem dX2_deliver_40 : decode cX2_deliver 40 = .ok (.aload_n 1, 1) := dk_43 (dk_at dksX2_deliver_1 16 rfl rfl)
theorem dX2_deliver_41 : decode cX2_deliver 41 = .ok (.aload_n 2, 1) := dk_44 (dk_at dksX2_deliver_1 17 rfl rfl)
theorem dX2_deliver_42 : decode cX2_deliver 42 = .ok (.invokevirtual 235, 3) := dk_182 0 235 (dk_at dksX2_deliver_1 18 rfl rfl)
theorem dX2_deliver_45 : decode cX2_deliver 45 = .ok (.istore 4, 2) := dk_54 4 (dk_at dksX2_deliver_1 21 rfl rfl)
theorem dX2_deliver_47 : decode cX2_deliver 47 = .ok (.iload 4, 2) := dk_21 4 (dk_at dksX2_deliver_2 0 rfl rfl)
theorem dX2_deliver_49 : decode cX2_deliver 49 = .ok (.ifCond .ne 4, 3) := dk_154 0 4 (dk_at dksX2_deliver_2 2 rfl rfl)
theorem dX2_deliver_52 : decode cX2_deliver 52 = .ok (.return_, 1) := dk_177 (dk_at dksX2_deliver_2 5 rfl rfl)
theorem dX2_deliver_53 : decode cX2_deliver 53 = .ok (.aload_n 1, 1) := dk_43 (dk_at dksX2_deliver_2 6 rfl rfl)
theorem dX2_deliver_54 : decode cX2_deliver 54 = .ok (.aload_n 2, 1) := dk_44 (dk_at dksX2_deliver_2 7 rfl rfl)
theorem dX2_deliver_55 : decode cX2_deliver 55 = .ok (.aload_n 3, 1) := dk_45 (dk_at dksX2_deliver_2 8 rfl rfl)
theorem dX2_deliver_56 : decode cX2_deliver 56 = .ok (.invokevirtual 239, 3) := dk_182 0 239 (dk_at dksX2_deliver_2 9 rfl rfl)
theorem dX2_deliver_59 : decode cX2_deliver 59 = .ok (.aload_n 0, 1) := dk_42 (dk_at dksX2_deliver_2 12 rfl rfl)
theorem dX2_deliver_60 : decode cX2_deliver 60 = .ok (.getfield 54, 3) := dk_180 0 54 (dk_at dksX2_deliver_2 13 rfl rfl)
theorem dX2_deliver_63 : decode cX2_deliver 63 = .ok (.if_icmp .le 7, 3) := dk_164 0 7 (dk_at dksX2_deliver_2 16 rfl rfl)
theorem dX2_deliver_66 : decode cX2_deliver 66 = .ok (.iconst 1, 1) := dk_4 (dk_at dksX2_deliver_2 19 rfl rfl)
theorem dX2_deliver_67 : decode cX2_deliver 67 = .ok (.goto 4, 3) := dk_167 0 4 (dk_at dksX2_deliver_2 20 rfl rfl)
theorem dX2_deliver_70 : decode cX2_deliver 70 = .ok (.iconst 0, 1) := dk_3 (dk_at dksX2_deliver_2 23 rfl rfl)
theorem dX2_deliver_71 : decode cX2_deliver 71 = .ok (.istore 5, 2) := dk_54 5 (dk_at dksX2_deliver_3 0 rfl rfl)
theorem dX2_deliver_73 : decode cX2_deliver 73 = .ok (.aload_n 2, 1) := dk_44 (dk_at dksX2_deliver_3 2 rfl rfl)
theorem dX2_deliver_74 : decode cX2_deliver 74 = .ok (.dup, 1) := dk_89 (dk_at dksX2_deliver_3 3 rfl rfl)
theorem dX2_deliver_75 : decode cX2_deliver 75 = .ok (.getfield 242, 3) := dk_180 0 242 (dk_at dksX2_deliver_3 4 rfl rfl)
theorem dX2_deliver_78 : decode cX2_deliver 78 = .ok (.iload 4, 2) := dk_21 4 (dk_at dksX2_deliver_3 7 rfl rfl)
theorem dX2_deliver_80 : decode cX2_deliver 80 = .ok (.isub, 1) := dk_100 (dk_at dksX2_deliver_3 9 rfl rfl)
theorem dX2_deliver_81 : decode cX2_deliver 81 = .ok (.putfield 242, 3) := dk_181 0 242 (dk_at dksX2_deliver_3 10 rfl rfl)
theorem dX2_deliver_84 : decode cX2_deliver 84 = .ok (.aload_n 3, 1) := dk_45 (dk_at dksX2_deliver_3 13 rfl rfl)
theorem dX2_deliver_85 : decode cX2_deliver 85 = .ok (.dup, 1) := dk_89 (dk_at dksX2_deliver_3 14 rfl rfl)
theorem dX2_deliver_86 : decode cX2_deliver 86 = .ok (.getfield 245, 3) := dk_180 0 245 (dk_at dksX2_deliver_3 15 rfl rfl)
theorem dX2_deliver_89 : decode cX2_deliver 89 = .ok (.iload 4, 2) := dk_21 4 (dk_at dksX2_deliver_3 18 rfl rfl)
theorem dX2_deliver_91 : decode cX2_deliver 91 = .ok (.iadd, 1) := dk_96 (dk_at dksX2_deliver_3 20 rfl rfl)
theorem dX2_deliver_92 : decode cX2_deliver 92 = .ok (.putfield 245, 3) := dk_181 0 245 (dk_at dksX2_deliver_3 21 rfl rfl)
theorem dX2_deliver_95 : decode cX2_deliver 95 = .ok (.aload_n 0, 1) := dk_42 (dk_at dksX2_deliver_4 0 rfl rfl)
theorem dX2_deliver_96 : decode cX2_deliver 96 = .ok (.dup, 1) := dk_89 (dk_at dksX2_deliver_4 1 rfl rfl)
theorem dX2_deliver_97 : decode cX2_deliver 97 = .ok (.getfield 164, 3) := dk_180 0 164 (dk_at dksX2_deliver_4 2 rfl rfl)
theorem dX2_deliver_100 : decode cX2_deliver 100 = .ok (.aload_n 0, 1) := dk_42 (dk_at dksX2_deliver_4 5 rfl rfl)
theorem dX2_deliver_101 : decode cX2_deliver 101 = .ok (.getfield 58, 3) := dk_180 0 58 (dk_at dksX2_deliver_4 6 rfl rfl)
theorem dX2_deliver_104 : decode cX2_deliver 104 = .ok (.iload 4, 2) := dk_21 4 (dk_at dksX2_deliver_4 9 rfl rfl)
theorem dX2_deliver_106 : decode cX2_deliver 106 = .ok (.imul, 1) := dk_104 (dk_at dksX2_deliver_4 11 rfl rfl)
theorem dX2_deliver_107 : decode cX2_deliver 107 = .ok (.iadd, 1) := dk_96 (dk_at dksX2_deliver_4 12 rfl rfl)
theorem dX2_deliver_108 : decode cX2_deliver 108 = .ok (.putfield 164, 3) := dk_181 0 164 (dk_at dksX2_deliver_4 13 rfl rfl)
theorem dX2_deliver_111 : decode cX2_deliver 111 = .ok (.aload_n 0, 1) := dk_42 (dk_at dksX2_deliver_4 16 rfl rfl)
theorem dX2_deliver_112 : decode cX2_deliver 112 = .ok (.dup, 1) := dk_89 (dk_at dksX2_deliver_4 17 rfl rfl)
theorem dX2_deliver_113 : decode cX2_deliver 113 = .ok (.getfield 176, 3) := dk_180 0 176 (dk_at dksX2_deliver_4 18 rfl rfl)
theorem dX2_deliver_116 : decode cX2_deliver 116 = .ok (.aload_n 0, 1) := dk_42 (dk_at dksX2_deliver_4 21 rfl rfl)
theorem dX2_deliver_117 : decode cX2_deliver 117 = .ok (.getfield 58, 3) := dk_180 0 58 (dk_at dksX2_deliver_5 0 rfl rfl)
theorem dX2_deliver_120 : decode cX2_deliver 120 = .ok (.iload 4, 2) := dk_21 4 (dk_at dksX2_deliver_5 3 rfl rfl)
theorem dX2_deliver_122 : decode cX2_deliver 122 = .ok (.imul, 1) := dk_104 (dk_at dksX2_deliver_5 5 rfl rfl)
theorem dX2_deliver_123 : decode cX2_deliver 123 = .ok (.iadd, 1) := dk_96 (dk_at dksX2_deliver_5 6 rfl rfl)
theorem dX2_deliver_124 : decode cX2_deliver 124 = .ok (.putfield 176, 3) := dk_181 0 176 (dk_at dksX2_deliver_5 7 rfl rfl)
theorem dX2_deliver_127 : decode cX2_deliver 127 = .ok (.aload_n 0, 1) := dk_42 (dk_at dksX2_deliver_5 10 rfl rfl)
theorem dX2_deliver_128 : decode cX2_deliver 128 = .ok (.dup, 1) := dk_89 (dk_at dksX2_deliver_5 11 rfl rfl)
theorem dX2_deliver_129 : decode cX2_deliver 129 = .ok (.getfield 167, 3) := dk_180 0 167 (dk_at dksX2_deliver_5 12 rfl rfl)
theorem dX2_deliver_132 : decode cX2_deliver 132 = .ok (.iconst 1, 1) := dk_4 (dk_at dksX2_deliver_5 15 rfl rfl)
theorem dX2_deliver_133 : decode cX2_deliver 133 = .ok (.iadd, 1) := dk_96 (dk_at dksX2_deliver_5 16 rfl rfl)
theorem dX2_deliver_134 : decode cX2_deliver 134 = .ok (.putfield 167, 3) := dk_181 0 167 (dk_at dksX2_deliver_5 17 rfl rfl)
theorem dX2_deliver_137 : decode cX2_deliver 137 = .ok (.aload_n 0, 1) := dk_42 (dk_at dksX2_deliver_5 20 rfl rfl)
theorem dX2_deliver_138 : decode cX2_deliver 138 = .ok (.dup, 1) := dk_89 (dk_at dksX2_deliver_5 21 rfl rfl)
theorem dX2_deliver_139 : decode cX2_deliver 139 = .ok (.getfield 170, 3) := dk_180 0 170 (dk_at dksX2_deliver_6 0 rfl rfl)
theorem dX2_deliver_142 : decode cX2_deliver 142 = .ok (.iload 4, 2) := dk_21 4 (dk_at dksX2_deliver_6 3 rfl rfl)
theorem dX2_deliver_144 : decode cX2_deliver 144 = .ok (.iadd, 1) := dk_96 (dk_at dksX2_deliver_6 5 rfl rfl)
theorem dX2_deliver_145 : decode cX2_deliver 145 = .ok (.putfield 170, 3) := dk_181 0 170 (dk_at dksX2_deliver_6 6 rfl rfl)
theorem dX2_deliver_148 : decode cX2_deliver 148 = .ok (.iload 5, 2) := dk_21 5 (dk_at dksX2_deliver_6 9 rfl rfl)
theorem dX2_deliver_150 : decode cX2_deliver 150 = .ok (.ifCond .eq 39, 3) := dk_153 0 39 (dk_at dksX2_deliver_6 11 rfl rfl)
theorem dX2_deliver_153 : decode cX2_deliver 153 = .ok (.aload_n 0, 1) := dk_42 (dk_at dksX2_deliver_6 14 rfl rfl)
theorem dX2_deliver_154 : decode cX2_deliver 154 = .ok (.dup, 1) := dk_89 (dk_at dksX2_deliver_6 15 rfl rfl)
theorem dX2_deliver_155 : decode cX2_deliver 155 = .ok (.getfield 173, 3) := dk_180 0 173 (dk_at dksX2_deliver_6 16 rfl rfl)
theorem dX2_deliver_158 : decode cX2_deliver 158 = .ok (.iconst 1, 1) := dk_4 (dk_at dksX2_deliver_6 19 rfl rfl)
theorem dX2_deliver_159 : decode cX2_deliver 159 = .ok (.iadd, 1) := dk_96 (dk_at dksX2_deliver_6 20 rfl rfl)
theorem dX2_deliver_160 : decode cX2_deliver 160 = .ok (.putfield 173, 3) := dk_181 0 173 (dk_at dksX2_deliver_6 21 rfl rfl)
theorem dX2_deliver_163 : decode cX2_deliver 163 = .ok (.aload_n 0, 1) := dk_42 (dk_at dksX2_deliver_7 0 rfl rfl)
theorem dX2_deliver_164 : decode cX2_deliver 164 = .ok (.dup, 1) := dk_89 (dk_at dksX2_deliver_7 1 rfl rfl)
theorem dX2_deliver_165 : decode cX2_deliver 165 = .ok (.getfield 164, 3) := dk_180 0 164 (dk_at dksX2_deliver_7 2 rfl rfl)
theorem dX2_deliver_168 : decode cX2_deliver 168 = .ok (.aload_n 0, 1) := dk_42 (dk_at dksX2_deliver_7 5 rfl rfl)
theorem dX2_deliver_169 : decode cX2_deliver 169 = .ok (.getfield 61, 3) := dk_180 0 61 (dk_at dksX2_deliver_7 6 rfl rfl)
theorem dX2_deliver_172 : decode cX2_deliver 172 = .ok (.isub, 1) := dk_100 (dk_at dksX2_deliver_7 9 rfl rfl)
theorem dX2_deliver_173 : decode cX2_deliver 173 = .ok (.putfield 164, 3) := dk_181 0 164 (dk_at dksX2_deliver_7 10 rfl rfl)
theorem dX2_deliver_176 : decode cX2_deliver 176 = .ok (.aload_n 0, 1) := dk_42 (dk_at dksX2_deliver_7 13 rfl rfl)
theorem dX2_deliver_177 : decode cX2_deliver 177 = .ok (.dup, 1) := dk_89 (dk_at dksX2_deliver_7 14 rfl rfl)
theorem dX2_deliver_178 : decode cX2_deliver 178 = .ok (.getfield 179, 3) := dk_180 0 179 (dk_at dksX2_deliver_7 15 rfl rfl)
theorem dX2_deliver_181 : decode cX2_deliver 181 = .ok (.aload_n 0, 1) := dk_42 (dk_at dksX2_deliver_7 18 rfl rfl)
theorem dX2_deliver_182 : decode cX2_deliver 182 = .ok (.getfield 61, 3) := dk_180 0 61 (dk_at dksX2_deliver_7 19 rfl rfl)
theorem dX2_deliver_185 : decode cX2_deliver 185 = .ok (.iadd, 1) := dk_96 (dk_at dksX2_deliver_7 22 rfl rfl)
theorem dX2_deliver_186 : decode cX2_deliver 186 = .ok (.putfield 179, 3) := dk_181 0 179 (dk_at dksX2_deliver_8 0 rfl rfl)
theorem dX2_deliver_189 : decode cX2_deliver 189 = .ok (.aload_n 0, 1) := dk_42 (dk_at dksX2_deliver_8 3 rfl rfl)
theorem dX2_deliver_190 : decode cX2_deliver 190 = .ok (.getfield 50, 3) := dk_180 0 50 (dk_at dksX2_deliver_8 4 rfl rfl)
theorem dX2_deliver_193 : decode cX2_deliver 193 = .ok (.aload_n 2, 1) := dk_44 (dk_at dksX2_deliver_8 7 rfl rfl)
theorem dX2_deliver_194 : decode cX2_deliver 194 = .ok (.getfield 248, 3) := dk_180 0 248 (dk_at dksX2_deliver_8 8 rfl rfl)
theorem dX2_deliver_197 : decode cX2_deliver 197 = .ok (.invokevirtual 251, 3) := dk_182 0 251 (dk_at dksX2_deliver_8 11 rfl rfl)
theorem dX2_deliver_200 : decode cX2_deliver 200 = .ok (.aload_n 0, 1) := dk_42 (dk_at dksX2_deliver_8 14 rfl rfl)
theorem dX2_deliver_201 : decode cX2_deliver 201 = .ok (.new 151, 3) := dk_187 0 151 (dk_at dksX2_deliver_8 15 rfl rfl)
theorem dX2_deliver_204 : decode cX2_deliver 204 = .ok (.dup, 1) := dk_89 (dk_at dksX2_deliver_8 18 rfl rfl)
theorem dX2_deliver_205 : decode cX2_deliver 205 = .ok (.aload_n 0, 1) := dk_42 (dk_at dksX2_deliver_8 19 rfl rfl)
theorem dX2_deliver_206 : decode cX2_deliver 206 = .ok (.getfield 161, 3) := dk_180 0 161 (dk_at dksX2_deliver_8 20 rfl rfl)
theorem dX2_deliver_209 : decode cX2_deliver 209 = .ok (.aload_n 1, 1) := dk_43 (dk_at dksX2_deliver_8 23 rfl rfl)
theorem dX2_deliver_210 : decode cX2_deliver 210 = .ok (.getfield 254, 3) := dk_180 0 254 (dk_at dksX2_deliver_9 0 rfl rfl)
theorem dX2_deliver_213 : decode cX2_deliver 213 = .ok (.iload 4, 2) := dk_21 4 (dk_at dksX2_deliver_9 3 rfl rfl)
theorem dX2_deliver_215 : decode cX2_deliver 215 = .ok (.iload 5, 2) := dk_21 5 (dk_at dksX2_deliver_9 5 rfl rfl)
theorem dX2_deliver_217 : decode cX2_deliver 217 = .ok (.invokespecial 255, 3) := dk_183 0 255 (dk_at dksX2_deliver_9 7 rfl rfl)
theorem dX2_deliver_220 : decode cX2_deliver 220 = .ok (.invokevirtual 258, 3) := dk_182 1 2 (dk_at dksX2_deliver_9 10 rfl rfl)
theorem dX2_deliver_223 : decode cX2_deliver 223 = .ok (.aload_n 0, 1) := dk_42 (dk_at dksX2_deliver_9 13 rfl rfl)
theorem dX2_deliver_224 : decode cX2_deliver 224 = .ok (.aload_n 2, 1) := dk_44 (dk_at dksX2_deliver_9 14 rfl rfl)
theorem dX2_deliver_225 : decode cX2_deliver 225 = .ok (.iload 4, 2) := dk_21 4 (dk_at dksX2_deliver_9 15 rfl rfl)
theorem dX2_deliver_227 : decode cX2_deliver 227 = .ok (.invokevirtual 262, 3) := dk_182 1 6 (dk_at dksX2_deliver_9 17 rfl rfl)
theorem dX2_deliver_230 : decode cX2_deliver 230 = .ok (.return_, 1) := dk_177 (dk_at dksX2_deliver_9 20 rfl rfl)
abbrev cX2_remember : ByteArray := prog_8_method_13_code
def yX2_remember : MethodName := ⟨RX2, "remember", "(LRoseGuild$Delivery;)V"⟩
def dkwX2_remember_1 : List UInt8 := [182, 0, 226, 192, 0, 151, 77, 177]
abbrev dktX2_remember_1 : List UInt8 := dkwX2_remember_1 ++ []
def dkwX2_remember_0 : List UInt8 := [42, 180, 0, 41, 43, 182, 0, 153, 42, 180, 0, 41, 182, 0, 225, 16, 10, 164, 0, 14, 42, 180, 0, 41]
abbrev dktX2_remember_0 : List UInt8 := dkwX2_remember_0 ++ dktX2_remember_1
theorem dksX2_remember_0 : cX2_remember.data.toList.drop 0 = dktX2_remember_0 := by decide +kernel
theorem dksX2_remember_1 : cX2_remember.data.toList.drop 24 = dktX2_remember_1 := dk_seg dksX2_remember_0 24 rfl rfl
theorem dX2_remember_0 : decode cX2_remember 0 = .ok (.aload_n 0, 1) := dk_42 (dk_at dksX2_remember_0 0 rfl rfl)
theorem dX2_remember_1 : decode cX2_remember 1 = .ok (.getfield 41, 3) := dk_180 0 41 (dk_at dksX2_remember_0 1 rfl rfl)
theorem dX2_remember_4 : decode cX2_remember 4 = .ok (.aload_n 1, 1) := dk_43 (dk_at dksX2_remember_0 4 rfl rfl)
theorem dX2_remember_5 : decode cX2_remember 5 = .ok (.invokevirtual 153, 3) := dk_182 0 153 (dk_at dksX2_remember_0 5 rfl rfl)
theorem dX2_remember_8 : decode cX2_remember 8 = .ok (.aload_n 0, 1) := dk_42 (dk_at dksX2_remember_0 8 rfl rfl)
theorem dX2_remember_9 : decode cX2_remember 9 = .ok (.getfield 41, 3) := dk_180 0 41 (dk_at dksX2_remember_0 9 rfl rfl)
theorem dX2_remember_12 : decode cX2_remember 12 = .ok (.invokevirtual 225, 3) := dk_182 0 225 (dk_at dksX2_remember_0 12 rfl rfl)
theorem dX2_remember_15 : decode cX2_remember 15 = .ok (.bipush 10, 2) := dk_16 10 (dk_at dksX2_remember_0 15 rfl rfl)
theorem dX2_remember_17 : decode cX2_remember 17 = .ok (.if_icmp .le 14, 3) := dk_164 0 14 (dk_at dksX2_remember_0 17 rfl rfl)
theorem dX2_remember_20 : decode cX2_remember 20 = .ok (.aload_n 0, 1) := dk_42 (dk_at dksX2_remember_0 20 rfl rfl)
theorem dX2_remember_21 : decode cX2_remember 21 = .ok (.getfield 41, 3) := dk_180 0 41 (dk_at dksX2_remember_0 21 rfl rfl)
theorem dX2_remember_24 : decode cX2_remember 24 = .ok (.invokevirtual 226, 3) := dk_182 0 226 (dk_at dksX2_remember_1 0 rfl rfl)
theorem dX2_remember_27 : decode cX2_remember 27 = .ok (.checkcast 151, 3) := dk_192 0 151 (dk_at dksX2_remember_1 3 rfl rfl)
theorem dX2_remember_30 : decode cX2_remember 30 = .ok (.astore_n 2, 1) := dk_77 (dk_at dksX2_remember_1 6 rfl rfl)
theorem dX2_remember_31 : decode cX2_remember 31 = .ok (.return_, 1) := dk_177 (dk_at dksX2_remember_1 7 rfl rfl)
abbrev cX2_complain : ByteArray := prog_8_method_12_code
def yX2_complain : MethodName := ⟨RX2, "complain", "(LRoseGuild$Street;I)V"⟩
def dkwX2_complain_3 : List UInt8 := [132, 3, 1, 167, 255, 192, 177]
abbrev dktX2_complain_3 : List UInt8 := dkwX2_complain_3 ++ []
def dkwX2_complain_2 : List UInt8 := [185, 0, 185, 2, 0, 192, 0, 77, 182, 0, 221, 153, 0, 7, 4, 167, 0, 4, 3, 96, 181, 0, 218]
abbrev dktX2_complain_2 : List UInt8 := dkwX2_complain_2 ++ dktX2_complain_3
def dkwX2_complain_1 : List UInt8 := [185, 0, 185, 2, 0, 192, 0, 77, 89, 180, 0, 218, 42, 43, 28, 42, 180, 0, 28, 29]
abbrev dktX2_complain_1 : List UInt8 := dkwX2_complain_1 ++ dktX2_complain_2
def dkwX2_complain_0 : List UInt8 := [3, 62, 29, 42, 180, 0, 28, 185, 0, 92, 1, 0, 162, 0, 57, 42, 180, 0, 28, 29]
abbrev dktX2_complain_0 : List UInt8 := dkwX2_complain_0 ++ dktX2_complain_1
theorem dksX2_complain_0 : cX2_complain.data.toList.drop 0 = dktX2_complain_0 := by decide +kernel
theorem dksX2_complain_1 : cX2_complain.data.toList.drop 20 = dktX2_complain_1 := dk_seg dksX2_complain_0 20 rfl rfl
theorem dksX2_complain_2 : cX2_complain.data.toList.drop 40 = dktX2_complain_2 := dk_seg dksX2_complain_1 20 rfl rfl
theorem dksX2_complain_3 : cX2_complain.data.toList.drop 63 = dktX2_complain_3 := dk_seg dksX2_complain_2 23 rfl rfl
theorem dX2_complain_0 : decode cX2_complain 0 = .ok (.iconst 0, 1) := dk_3 (dk_at dksX2_complain_0 0 rfl rfl)
theorem dX2_complain_1 : decode cX2_complain 1 = .ok (.istore_n 3, 1) := dk_62 (dk_at dksX2_complain_0 1 rfl rfl)
theorem dX2_complain_2 : decode cX2_complain 2 = .ok (.iload_n 3, 1) := dk_29 (dk_at dksX2_complain_0 2 rfl rfl)
theorem dX2_complain_3 : decode cX2_complain 3 = .ok (.aload_n 0, 1) := dk_42 (dk_at dksX2_complain_0 3 rfl rfl)
theorem dX2_complain_4 : decode cX2_complain 4 = .ok (.getfield 28, 3) := dk_180 0 28 (dk_at dksX2_complain_0 4 rfl rfl)
theorem dX2_complain_7 : decode cX2_complain 7 = .ok (.invokeinterface 92 1, 5) := by decide +kernel
theorem dX2_complain_12 : decode cX2_complain 12 = .ok (.if_icmp .ge 57, 3) := dk_162 0 57 (dk_at dksX2_complain_0 12 rfl rfl)
theorem dX2_complain_15 : decode cX2_complain 15 = .ok (.aload_n 0, 1) := dk_42 (dk_at dksX2_complain_0 15 rfl rfl)
theorem dX2_complain_16 : decode cX2_complain 16 = .ok (.getfield 28, 3) := dk_180 0 28 (dk_at dksX2_complain_0 16 rfl rfl)
theorem dX2_complain_19 : decode cX2_complain 19 = .ok (.iload_n 3, 1) := dk_29 (dk_at dksX2_complain_0 19 rfl rfl)
theorem dX2_complain_20 : decode cX2_complain 20 = .ok (.invokeinterface 185 2, 5) := by decide +kernel
theorem dX2_complain_25 : decode cX2_complain 25 = .ok (.checkcast 77, 3) := dk_192 0 77 (dk_at dksX2_complain_1 5 rfl rfl)
theorem dX2_complain_28 : decode cX2_complain 28 = .ok (.dup, 1) := dk_89 (dk_at dksX2_complain_1 8 rfl rfl)
theorem dX2_complain_29 : decode cX2_complain 29 = .ok (.getfield 218, 3) := dk_180 0 218 (dk_at dksX2_complain_1 9 rfl rfl)
theorem dX2_complain_32 : decode cX2_complain 32 = .ok (.aload_n 0, 1) := dk_42 (dk_at dksX2_complain_1 12 rfl rfl)
theorem dX2_complain_33 : decode cX2_complain 33 = .ok (.aload_n 1, 1) := dk_43 (dk_at dksX2_complain_1 13 rfl rfl)
theorem dX2_complain_34 : decode cX2_complain 34 = .ok (.iload_n 2, 1) := dk_28 (dk_at dksX2_complain_1 14 rfl rfl)
theorem dX2_complain_35 : decode cX2_complain 35 = .ok (.aload_n 0, 1) := dk_42 (dk_at dksX2_complain_1 15 rfl rfl)
theorem dX2_complain_36 : decode cX2_complain 36 = .ok (.getfield 28, 3) := dk_180 0 28 (dk_at dksX2_complain_1 16 rfl rfl)
theorem dX2_complain_39 : decode cX2_complain 39 = .ok (.iload_n 3, 1) := dk_29 (dk_at dksX2_complain_1 19 rfl rfl)
theorem dX2_complain_40 : decode cX2_complain 40 = .ok (.invokeinterface 185 2, 5) := by decide +kernel
theorem dX2_complain_45 : decode cX2_complain 45 = .ok (.checkcast 77, 3) := dk_192 0 77 (dk_at dksX2_complain_2 5 rfl rfl)
theorem dX2_complain_48 : decode cX2_complain 48 = .ok (.invokevirtual 221, 3) := dk_182 0 221 (dk_at dksX2_complain_2 8 rfl rfl)
theorem dX2_complain_51 : decode cX2_complain 51 = .ok (.ifCond .eq 7, 3) := dk_153 0 7 (dk_at dksX2_complain_2 11 rfl rfl)
theorem dX2_complain_54 : decode cX2_complain 54 = .ok (.iconst 1, 1) := dk_4 (dk_at dksX2_complain_2 14 rfl rfl)
theorem dX2_complain_55 : decode cX2_complain 55 = .ok (.goto 4, 3) := dk_167 0 4 (dk_at dksX2_complain_2 15 rfl rfl)
theorem dX2_complain_58 : decode cX2_complain 58 = .ok (.iconst 0, 1) := dk_3 (dk_at dksX2_complain_2 18 rfl rfl)
theorem dX2_complain_59 : decode cX2_complain 59 = .ok (.iadd, 1) := dk_96 (dk_at dksX2_complain_2 19 rfl rfl)
theorem dX2_complain_60 : decode cX2_complain 60 = .ok (.putfield 218, 3) := dk_181 0 218 (dk_at dksX2_complain_2 20 rfl rfl)
theorem dX2_complain_63 : decode cX2_complain 63 = .ok (.iinc 3 1, 3) := dk_132 3 1 (dk_at dksX2_complain_3 0 rfl rfl)
theorem dX2_complain_66 : decode cX2_complain 66 = .ok (.goto (-64), 3) := dk_167 255 192 (dk_at dksX2_complain_3 3 rfl rfl)
theorem dX2_complain_69 : decode cX2_complain 69 = .ok (.return_, 1) := dk_177 (dk_at dksX2_complain_3 6 rfl rfl)
abbrev cX2_reaches : ByteArray := prog_8_method_11_code
def yX2_reaches : MethodName := ⟨RX2, "reaches", "(LRoseGuild$Street;ILRoseGuild$Street;)Z"⟩
def dkwX2_reaches_0 : List UInt8 := [43, 45, 42, 182, 0, 211, 182, 0, 214, 4, 28, 16, 10, 108, 184, 0, 195, 172]
abbrev dktX2_reaches_0 : List UInt8 := dkwX2_reaches_0 ++ []
theorem dksX2_reaches_0 : cX2_reaches.data.toList.drop 0 = dktX2_reaches_0 := by decide +kernel
theorem dX2_reaches_0 : decode cX2_reaches 0 = .ok (.aload_n 1, 1) := dk_43 (dk_at dksX2_reaches_0 0 rfl rfl)
theorem dX2_reaches_1 : decode cX2_reaches 1 = .ok (.aload_n 3, 1) := dk_45 (dk_at dksX2_reaches_0 1 rfl rfl)
theorem dX2_reaches_2 : decode cX2_reaches 2 = .ok (.aload_n 0, 1) := dk_42 (dk_at dksX2_reaches_0 2 rfl rfl)
theorem dX2_reaches_3 : decode cX2_reaches 3 = .ok (.invokevirtual 211, 3) := dk_182 0 211 (dk_at dksX2_reaches_0 3 rfl rfl)
theorem dX2_reaches_6 : decode cX2_reaches 6 = .ok (.invokevirtual 214, 3) := dk_182 0 214 (dk_at dksX2_reaches_0 6 rfl rfl)
theorem dX2_reaches_9 : decode cX2_reaches 9 = .ok (.iconst 1, 1) := dk_4 (dk_at dksX2_reaches_0 9 rfl rfl)
theorem dX2_reaches_10 : decode cX2_reaches 10 = .ok (.iload_n 2, 1) := dk_28 (dk_at dksX2_reaches_0 10 rfl rfl)
theorem dX2_reaches_11 : decode cX2_reaches 11 = .ok (.bipush 10, 2) := dk_16 10 (dk_at dksX2_reaches_0 11 rfl rfl)
theorem dX2_reaches_13 : decode cX2_reaches 13 = .ok (.idiv, 1) := dk_108 (dk_at dksX2_reaches_0 13 rfl rfl)
theorem dX2_reaches_14 : decode cX2_reaches 14 = .ok (.invokestatic 195, 3) := dk_184 0 195 (dk_at dksX2_reaches_0 14 rfl rfl)
theorem dX2_reaches_17 : decode cX2_reaches 17 = .ok (.ireturn, 1) := dk_172 (dk_at dksX2_reaches_0 17 rfl rfl)
abbrev cX2_wind : ByteArray := prog_8_method_7_code
def yX2_wind : MethodName := ⟨RX2, "wind", "()I"⟩
def dkwX2_wind_0 : List UInt8 := [42, 180, 0, 67, 42, 180, 0, 161, 96, 7, 112, 172]
abbrev dktX2_wind_0 : List UInt8 := dkwX2_wind_0 ++ []
theorem dksX2_wind_0 : cX2_wind.data.toList.drop 0 = dktX2_wind_0 := by decide +kernel
theorem dX2_wind_0 : decode cX2_wind 0 = .ok (.aload_n 0, 1) := dk_42 (dk_at dksX2_wind_0 0 rfl rfl)
theorem dX2_wind_1 : decode cX2_wind 1 = .ok (.getfield 67, 3) := dk_180 0 67 (dk_at dksX2_wind_0 1 rfl rfl)
theorem dX2_wind_4 : decode cX2_wind 4 = .ok (.aload_n 0, 1) := dk_42 (dk_at dksX2_wind_0 4 rfl rfl)
theorem dX2_wind_5 : decode cX2_wind 5 = .ok (.getfield 161, 3) := dk_180 0 161 (dk_at dksX2_wind_0 5 rfl rfl)
theorem dX2_wind_8 : decode cX2_wind 8 = .ok (.iadd, 1) := dk_96 (dk_at dksX2_wind_0 8 rfl rfl)
theorem dX2_wind_9 : decode cX2_wind 9 = .ok (.iconst 4, 1) := dk_7 (dk_at dksX2_wind_0 9 rfl rfl)
theorem dX2_wind_10 : decode cX2_wind 10 = .ok (.irem, 1) := dk_112 (dk_at dksX2_wind_0 10 rfl rfl)
theorem dX2_wind_11 : decode cX2_wind 11 = .ok (.ireturn, 1) := dk_172 (dk_at dksX2_wind_0 11 rfl rfl)
abbrev cX2_expire : ByteArray := prog_8_method_17_code
def yX2_expire : MethodName := ⟨RX2, "expire", "(LRoseGuild$Cart;)V"⟩
def dkwX2_expire_1 : List UInt8 := [180, 0, 99, 180, 1, 18, 154, 0, 8, 43, 1, 181, 0, 99, 177]
abbrev dktX2_expire_1 : List UInt8 := dkwX2_expire_1 ++ []
def dkwX2_expire_0 : List UInt8 := [43, 180, 0, 99, 199, 0, 4, 177, 43, 180, 0, 99, 89, 180, 1, 18, 4, 100, 181, 1, 18, 43]
abbrev dktX2_expire_0 : List UInt8 := dkwX2_expire_0 ++ dktX2_expire_1
theorem dksX2_expire_0 : cX2_expire.data.toList.drop 0 = dktX2_expire_0 := by decide +kernel
theorem dksX2_expire_1 : cX2_expire.data.toList.drop 22 = dktX2_expire_1 := dk_seg dksX2_expire_0 22 rfl rfl
theorem dX2_expire_0 : decode cX2_expire 0 = .ok (.aload_n 1, 1) := dk_43 (dk_at dksX2_expire_0 0 rfl rfl)
theorem dX2_expire_1 : decode cX2_expire 1 = .ok (.getfield 99, 3) := dk_180 0 99 (dk_at dksX2_expire_0 1 rfl rfl)
theorem dX2_expire_4 : decode cX2_expire 4 = .ok (.ifnonnull 4, 3) := dk_199 0 4 (dk_at dksX2_expire_0 4 rfl rfl)
theorem dX2_expire_7 : decode cX2_expire 7 = .ok (.return_, 1) := dk_177 (dk_at dksX2_expire_0 7 rfl rfl)
theorem dX2_expire_8 : decode cX2_expire 8 = .ok (.aload_n 1, 1) := dk_43 (dk_at dksX2_expire_0 8 rfl rfl)
theorem dX2_expire_9 : decode cX2_expire 9 = .ok (.getfield 99, 3) := dk_180 0 99 (dk_at dksX2_expire_0 9 rfl rfl)
theorem dX2_expire_12 : decode cX2_expire 12 = .ok (.dup, 1) := dk_89 (dk_at dksX2_expire_0 12 rfl rfl)
theorem dX2_expire_13 : decode cX2_expire 13 = .ok (.getfield 274, 3) := dk_180 1 18 (dk_at dksX2_expire_0 13 rfl rfl)
theorem dX2_expire_16 : decode cX2_expire 16 = .ok (.iconst 1, 1) := dk_4 (dk_at dksX2_expire_0 16 rfl rfl)
theorem dX2_expire_17 : decode cX2_expire 17 = .ok (.isub, 1) := dk_100 (dk_at dksX2_expire_0 17 rfl rfl)
theorem dX2_expire_18 : decode cX2_expire 18 = .ok (.putfield 274, 3) := dk_181 1 18 (dk_at dksX2_expire_0 18 rfl rfl)
theorem dX2_expire_21 : decode cX2_expire 21 = .ok (.aload_n 1, 1) := dk_43 (dk_at dksX2_expire_0 21 rfl rfl)
theorem dX2_expire_22 : decode cX2_expire 22 = .ok (.getfield 99, 3) := dk_180 0 99 (dk_at dksX2_expire_1 0 rfl rfl)
theorem dX2_expire_25 : decode cX2_expire 25 = .ok (.getfield 274, 3) := dk_180 1 18 (dk_at dksX2_expire_1 3 rfl rfl)
theorem dX2_expire_28 : decode cX2_expire 28 = .ok (.ifCond .ne 8, 3) := dk_154 0 8 (dk_at dksX2_expire_1 6 rfl rfl)
theorem dX2_expire_31 : decode cX2_expire 31 = .ok (.aload_n 1, 1) := dk_43 (dk_at dksX2_expire_1 9 rfl rfl)
theorem dX2_expire_32 : decode cX2_expire 32 = .ok (.aconst_null, 1) := dk_1 (dk_at dksX2_expire_1 10 rfl rfl)
theorem dX2_expire_33 : decode cX2_expire 33 = .ok (.putfield 99, 3) := dk_181 0 99 (dk_at dksX2_expire_1 11 rfl rfl)
theorem dX2_expire_36 : decode cX2_expire 36 = .ok (.return_, 1) := dk_177 (dk_at dksX2_expire_1 14 rfl rfl)
abbrev cX2_award : ByteArray := prog_8_method_16_code
def yX2_award : MethodName := ⟨RX2, "award", "()V"⟩
def dkwX2_award_4 : List UInt8 := [167, 255, 223, 177]
abbrev dktX2_award_4 : List UInt8 := dkwX2_award_4 ++ []
def dkwX2_award_3 : List UInt8 := [162, 0, 26, 42, 180, 0, 32, 28, 185, 0, 185, 2, 0, 192, 0, 88, 3, 181, 1, 10, 132, 2, 1]
abbrev dktX2_award_3 : List UInt8 := dkwX2_award_3 ++ dktX2_award_4
def dkwX2_award_2 : List UInt8 := [180, 0, 182, 42, 180, 0, 64, 96, 181, 0, 182, 3, 61, 28, 42, 180, 0, 32, 185, 0, 92, 1, 0]
abbrev dktX2_award_2 : List UInt8 := dkwX2_award_2 ++ dktX2_award_3
def dkwX2_award_1 : List UInt8 := [180, 1, 17, 4, 96, 181, 1, 17, 42, 89, 180, 0, 164, 42, 180, 0, 64, 100, 181, 0, 164, 42, 89]
abbrev dktX2_award_1 : List UInt8 := dkwX2_award_1 ++ dktX2_award_2
def dkwX2_award_0 : List UInt8 := [42, 182, 1, 14, 60, 27, 2, 159, 0, 51, 42, 180, 0, 32, 27, 185, 0, 185, 2, 0, 192, 0, 88, 89]
abbrev dktX2_award_0 : List UInt8 := dkwX2_award_0 ++ dktX2_award_1
theorem dksX2_award_0 : cX2_award.data.toList.drop 0 = dktX2_award_0 := by decide +kernel
theorem dksX2_award_1 : cX2_award.data.toList.drop 24 = dktX2_award_1 := dk_seg dksX2_award_0 24 rfl rfl
theorem dksX2_award_2 : cX2_award.data.toList.drop 47 = dktX2_award_2 := dk_seg dksX2_award_1 23 rfl rfl
theorem dksX2_award_3 : cX2_award.data.toList.drop 70 = dktX2_award_3 := dk_seg dksX2_award_2 23 rfl rfl
theorem dksX2_award_4 : cX2_award.data.toList.drop 93 = dktX2_award_4 := dk_seg dksX2_award_3 23 rfl rfl
theorem dX2_award_0 : decode cX2_award 0 = .ok (.aload_n 0, 1) := dk_42 (dk_at dksX2_award_0 0 rfl rfl)
theorem dX2_award_1 : decode cX2_award 1 = .ok (.invokevirtual 270, 3) := dk_182 1 14 (dk_at dksX2_award_0 1 rfl rfl)
theorem dX2_award_4 : decode cX2_award 4 = .ok (.istore_n 1, 1) := dk_60 (dk_at dksX2_award_0 4 rfl rfl)
theorem dX2_award_5 : decode cX2_award 5 = .ok (.iload_n 1, 1) := dk_27 (dk_at dksX2_award_0 5 rfl rfl)
theorem dX2_award_6 : decode cX2_award 6 = .ok (.iconst (-1), 1) := dk_2 (dk_at dksX2_award_0 6 rfl rfl)
theorem dX2_award_7 : decode cX2_award 7 = .ok (.if_icmp .eq 51, 3) := dk_159 0 51 (dk_at dksX2_award_0 7 rfl rfl)
theorem dX2_award_10 : decode cX2_award 10 = .ok (.aload_n 0, 1) := dk_42 (dk_at dksX2_award_0 10 rfl rfl)
theorem dX2_award_11 : decode cX2_award 11 = .ok (.getfield 32, 3) := dk_180 0 32 (dk_at dksX2_award_0 11 rfl rfl)
theorem dX2_award_14 : decode cX2_award 14 = .ok (.iload_n 1, 1) := dk_27 (dk_at dksX2_award_0 14 rfl rfl)
theorem dX2_award_15 : decode cX2_award 15 = .ok (.invokeinterface 185 2, 5) := by decide +kernel
theorem dX2_award_20 : decode cX2_award 20 = .ok (.checkcast 88, 3) := dk_192 0 88 (dk_at dksX2_award_0 20 rfl rfl)
theorem dX2_award_23 : decode cX2_award 23 = .ok (.dup, 1) := dk_89 (dk_at dksX2_award_0 23 rfl rfl)
theorem dX2_award_24 : decode cX2_award 24 = .ok (.getfield 273, 3) := dk_180 1 17 (dk_at dksX2_award_1 0 rfl rfl)
theorem dX2_award_27 : decode cX2_award 27 = .ok (.iconst 1, 1) := dk_4 (dk_at dksX2_award_1 3 rfl rfl)
theorem dX2_award_28 : decode cX2_award 28 = .ok (.iadd, 1) := dk_96 (dk_at dksX2_award_1 4 rfl rfl)
theorem dX2_award_29 : decode cX2_award 29 = .ok (.putfield 273, 3) := dk_181 1 17 (dk_at dksX2_award_1 5 rfl rfl)
theorem dX2_award_32 : decode cX2_award 32 = .ok (.aload_n 0, 1) := dk_42 (dk_at dksX2_award_1 8 rfl rfl)
theorem dX2_award_33 : decode cX2_award 33 = .ok (.dup, 1) := dk_89 (dk_at dksX2_award_1 9 rfl rfl)
theorem dX2_award_34 : decode cX2_award 34 = .ok (.getfield 164, 3) := dk_180 0 164 (dk_at dksX2_award_1 10 rfl rfl)
theorem dX2_award_37 : decode cX2_award 37 = .ok (.aload_n 0, 1) := dk_42 (dk_at dksX2_award_1 13 rfl rfl)
theorem dX2_award_38 : decode cX2_award 38 = .ok (.getfield 64, 3) := dk_180 0 64 (dk_at dksX2_award_1 14 rfl rfl)
theorem dX2_award_41 : decode cX2_award 41 = .ok (.isub, 1) := dk_100 (dk_at dksX2_award_1 17 rfl rfl)
theorem dX2_award_42 : decode cX2_award 42 = .ok (.putfield 164, 3) := dk_181 0 164 (dk_at dksX2_award_1 18 rfl rfl)
theorem dX2_award_45 : decode cX2_award 45 = .ok (.aload_n 0, 1) := dk_42 (dk_at dksX2_award_1 21 rfl rfl)
theorem dX2_award_46 : decode cX2_award 46 = .ok (.dup, 1) := dk_89 (dk_at dksX2_award_1 22 rfl rfl)
theorem dX2_award_47 : decode cX2_award 47 = .ok (.getfield 182, 3) := dk_180 0 182 (dk_at dksX2_award_2 0 rfl rfl)
theorem dX2_award_50 : decode cX2_award 50 = .ok (.aload_n 0, 1) := dk_42 (dk_at dksX2_award_2 3 rfl rfl)
theorem dX2_award_51 : decode cX2_award 51 = .ok (.getfield 64, 3) := dk_180 0 64 (dk_at dksX2_award_2 4 rfl rfl)
theorem dX2_award_54 : decode cX2_award 54 = .ok (.iadd, 1) := dk_96 (dk_at dksX2_award_2 7 rfl rfl)
theorem dX2_award_55 : decode cX2_award 55 = .ok (.putfield 182, 3) := dk_181 0 182 (dk_at dksX2_award_2 8 rfl rfl)
theorem dX2_award_58 : decode cX2_award 58 = .ok (.iconst 0, 1) := dk_3 (dk_at dksX2_award_2 11 rfl rfl)
theorem dX2_award_59 : decode cX2_award 59 = .ok (.istore_n 2, 1) := dk_61 (dk_at dksX2_award_2 12 rfl rfl)
theorem dX2_award_60 : decode cX2_award 60 = .ok (.iload_n 2, 1) := dk_28 (dk_at dksX2_award_2 13 rfl rfl)
theorem dX2_award_61 : decode cX2_award 61 = .ok (.aload_n 0, 1) := dk_42 (dk_at dksX2_award_2 14 rfl rfl)
theorem dX2_award_62 : decode cX2_award 62 = .ok (.getfield 32, 3) := dk_180 0 32 (dk_at dksX2_award_2 15 rfl rfl)
theorem dX2_award_65 : decode cX2_award 65 = .ok (.invokeinterface 92 1, 5) := by decide +kernel
theorem dX2_award_70 : decode cX2_award 70 = .ok (.if_icmp .ge 26, 3) := dk_162 0 26 (dk_at dksX2_award_3 0 rfl rfl)
theorem dX2_award_73 : decode cX2_award 73 = .ok (.aload_n 0, 1) := dk_42 (dk_at dksX2_award_3 3 rfl rfl)
theorem dX2_award_74 : decode cX2_award 74 = .ok (.getfield 32, 3) := dk_180 0 32 (dk_at dksX2_award_3 4 rfl rfl)
theorem dX2_award_77 : decode cX2_award 77 = .ok (.iload_n 2, 1) := dk_28 (dk_at dksX2_award_3 7 rfl rfl)
theorem dX2_award_78 : decode cX2_award 78 = .ok (.invokeinterface 185 2, 5) := by decide +kernel
theorem dX2_award_83 : decode cX2_award 83 = .ok (.checkcast 88, 3) := dk_192 0 88 (dk_at dksX2_award_3 13 rfl rfl)
theorem dX2_award_86 : decode cX2_award 86 = .ok (.iconst 0, 1) := dk_3 (dk_at dksX2_award_3 16 rfl rfl)
theorem dX2_award_87 : decode cX2_award 87 = .ok (.putfield 266, 3) := dk_181 1 10 (dk_at dksX2_award_3 17 rfl rfl)
theorem dX2_award_90 : decode cX2_award 90 = .ok (.iinc 2 1, 3) := dk_132 2 1 (dk_at dksX2_award_3 20 rfl rfl)
theorem dX2_award_93 : decode cX2_award 93 = .ok (.goto (-33), 3) := dk_167 255 223 (dk_at dksX2_award_4 0 rfl rfl)
theorem dX2_award_96 : decode cX2_award 96 = .ok (.return_, 1) := dk_177 (dk_at dksX2_award_4 3 rfl rfl)
abbrev cX2_leader : ByteArray := prog_8_method_15_code
def yX2_leader : MethodName := ⟨RX2, "leader", "()I"⟩
def dkwX2_leader_3 : List UInt8 := [180, 1, 13, 172]
abbrev dktX2_leader_3 : List UInt8 := dkwX2_leader_3 ++ []
def dkwX2_leader_2 : List UInt8 := [43, 180, 1, 10, 164, 0, 5, 45, 76, 132, 2, 1, 167, 255, 202, 43, 199, 0, 7, 2, 167, 0, 7, 43]
abbrev dktX2_leader_2 : List UInt8 := dkwX2_leader_2 ++ dktX2_leader_3
def dkwX2_leader_1 : List UInt8 := [185, 0, 185, 2, 0, 192, 0, 88, 78, 45, 180, 1, 10, 158, 0, 20, 43, 198, 0, 14, 45, 180, 1, 10]
abbrev dktX2_leader_1 : List UInt8 := dkwX2_leader_1 ++ dktX2_leader_2
def dkwX2_leader_0 : List UInt8 := [1, 76, 3, 61, 28, 42, 180, 0, 32, 185, 0, 92, 1, 0, 162, 0, 47, 42, 180, 0, 32, 28]
abbrev dktX2_leader_0 : List UInt8 := dkwX2_leader_0 ++ dktX2_leader_1
theorem dksX2_leader_0 : cX2_leader.data.toList.drop 0 = dktX2_leader_0 := by decide +kernel
theorem dksX2_leader_1 : cX2_leader.data.toList.drop 22 = dktX2_leader_1 := dk_seg dksX2_leader_0 22 rfl rfl
theorem dksX2_leader_2 : cX2_leader.data.toList.drop 46 = dktX2_leader_2 := dk_seg dksX2_leader_1 24 rfl rfl
theorem dksX2_leader_3 : cX2_leader.data.toList.drop 70 = dktX2_leader_3 := dk_seg dksX2_leader_2 24 rfl rfl
theorem dX2_leader_0 : decode cX2_leader 0 = .ok (.aconst_null, 1) := dk_1 (dk_at dksX2_leader_0 0 rfl rfl)
theorem dX2_leader_1 : decode cX2_leader 1 = .ok (.astore_n 1, 1) := dk_76 (dk_at dksX2_leader_0 1 rfl rfl)
theorem dX2_leader_2 : decode cX2_leader 2 = .ok (.iconst 0, 1) := dk_3 (dk_at dksX2_leader_0 2 rfl rfl)
theorem dX2_leader_3 : decode cX2_leader 3 = .ok (.istore_n 2, 1) := dk_61 (dk_at dksX2_leader_0 3 rfl rfl)
theorem dX2_leader_4 : decode cX2_leader 4 = .ok (.iload_n 2, 1) := dk_28 (dk_at dksX2_leader_0 4 rfl rfl)
theorem dX2_leader_5 : decode cX2_leader 5 = .ok (.aload_n 0, 1) := dk_42 (dk_at dksX2_leader_0 5 rfl rfl)
theorem dX2_leader_6 : decode cX2_leader 6 = .ok (.getfield 32, 3) := dk_180 0 32 (dk_at dksX2_leader_0 6 rfl rfl)
theorem dX2_leader_9 : decode cX2_leader 9 = .ok (.invokeinterface 92 1, 5) := by decide +kernel
theorem dX2_leader_14 : decode cX2_leader 14 = .ok (.if_icmp .ge 47, 3) := dk_162 0 47 (dk_at dksX2_leader_0 14 rfl rfl)
theorem dX2_leader_17 : decode cX2_leader 17 = .ok (.aload_n 0, 1) := dk_42 (dk_at dksX2_leader_0 17 rfl rfl)
theorem dX2_leader_18 : decode cX2_leader 18 = .ok (.getfield 32, 3) := dk_180 0 32 (dk_at dksX2_leader_0 18 rfl rfl)
theorem dX2_leader_21 : decode cX2_leader 21 = .ok (.iload_n 2, 1) := dk_28 (dk_at dksX2_leader_0 21 rfl rfl)
theorem dX2_leader_22 : decode cX2_leader 22 = .ok (.invokeinterface 185 2, 5) := by decide +kernel
theorem dX2_leader_27 : decode cX2_leader 27 = .ok (.checkcast 88, 3) := dk_192 0 88 (dk_at dksX2_leader_1 5 rfl rfl)
theorem dX2_leader_30 : decode cX2_leader 30 = .ok (.astore_n 3, 1) := dk_78 (dk_at dksX2_leader_1 8 rfl rfl)
theorem dX2_leader_31 : decode cX2_leader 31 = .ok (.aload_n 3, 1) := dk_45 (dk_at dksX2_leader_1 9 rfl rfl)
theorem dX2_leader_32 : decode cX2_leader 32 = .ok (.getfield 266, 3) := dk_180 1 10 (dk_at dksX2_leader_1 10 rfl rfl)
theorem dX2_leader_35 : decode cX2_leader 35 = .ok (.ifCond .le 20, 3) := dk_158 0 20 (dk_at dksX2_leader_1 13 rfl rfl)
theorem dX2_leader_38 : decode cX2_leader 38 = .ok (.aload_n 1, 1) := dk_43 (dk_at dksX2_leader_1 16 rfl rfl)
theorem dX2_leader_39 : decode cX2_leader 39 = .ok (.ifnull 14, 3) := dk_198 0 14 (dk_at dksX2_leader_1 17 rfl rfl)
theorem dX2_leader_42 : decode cX2_leader 42 = .ok (.aload_n 3, 1) := dk_45 (dk_at dksX2_leader_1 20 rfl rfl)
theorem dX2_leader_43 : decode cX2_leader 43 = .ok (.getfield 266, 3) := dk_180 1 10 (dk_at dksX2_leader_1 21 rfl rfl)
theorem dX2_leader_46 : decode cX2_leader 46 = .ok (.aload_n 1, 1) := dk_43 (dk_at dksX2_leader_2 0 rfl rfl)
theorem dX2_leader_47 : decode cX2_leader 47 = .ok (.getfield 266, 3) := dk_180 1 10 (dk_at dksX2_leader_2 1 rfl rfl)
theorem dX2_leader_50 : decode cX2_leader 50 = .ok (.if_icmp .le 5, 3) := dk_164 0 5 (dk_at dksX2_leader_2 4 rfl rfl)
theorem dX2_leader_53 : decode cX2_leader 53 = .ok (.aload_n 3, 1) := dk_45 (dk_at dksX2_leader_2 7 rfl rfl)
theorem dX2_leader_54 : decode cX2_leader 54 = .ok (.astore_n 1, 1) := dk_76 (dk_at dksX2_leader_2 8 rfl rfl)
theorem dX2_leader_55 : decode cX2_leader 55 = .ok (.iinc 2 1, 3) := dk_132 2 1 (dk_at dksX2_leader_2 9 rfl rfl)
theorem dX2_leader_58 : decode cX2_leader 58 = .ok (.goto (-54), 3) := dk_167 255 202 (dk_at dksX2_leader_2 12 rfl rfl)
theorem dX2_leader_61 : decode cX2_leader 61 = .ok (.aload_n 1, 1) := dk_43 (dk_at dksX2_leader_2 15 rfl rfl)
theorem dX2_leader_62 : decode cX2_leader 62 = .ok (.ifnonnull 7, 3) := dk_199 0 7 (dk_at dksX2_leader_2 16 rfl rfl)
theorem dX2_leader_65 : decode cX2_leader 65 = .ok (.iconst (-1), 1) := dk_2 (dk_at dksX2_leader_2 19 rfl rfl)
theorem dX2_leader_66 : decode cX2_leader 66 = .ok (.goto 7, 3) := dk_167 0 7 (dk_at dksX2_leader_2 20 rfl rfl)
theorem dX2_leader_69 : decode cX2_leader 69 = .ok (.aload_n 1, 1) := dk_43 (dk_at dksX2_leader_2 23 rfl rfl)
theorem dX2_leader_70 : decode cX2_leader 70 = .ok (.getfield 269, 3) := dk_180 1 13 (dk_at dksX2_leader_3 0 rfl rfl)
theorem dX2_leader_73 : decode cX2_leader 73 = .ok (.ireturn, 1) := dk_172 (dk_at dksX2_leader_3 3 rfl rfl)
abbrev cX2_setWindOffset : ByteArray := prog_8_method_23_code
def yX2_setWindOffset : MethodName := ⟨RX2, "setWindOffset", "(I)I"⟩
def dkwX2_setWindOffset_0 : List UInt8 := [27, 3, 6, 184, 0, 195, 178, 1, 40, 184, 0, 205, 42, 180, 0, 67, 61, 42, 27, 181, 0, 67, 28, 172]
abbrev dktX2_setWindOffset_0 : List UInt8 := dkwX2_setWindOffset_0 ++ []
theorem dksX2_setWindOffset_0 : cX2_setWindOffset.data.toList.drop 0 = dktX2_setWindOffset_0 := by decide +kernel
theorem dX2_setWindOffset_0 : decode cX2_setWindOffset 0 = .ok (.iload_n 1, 1) := dk_27 (dk_at dksX2_setWindOffset_0 0 rfl rfl)
theorem dX2_setWindOffset_1 : decode cX2_setWindOffset 1 = .ok (.iconst 0, 1) := dk_3 (dk_at dksX2_setWindOffset_0 1 rfl rfl)
theorem dX2_setWindOffset_2 : decode cX2_setWindOffset 2 = .ok (.iconst 3, 1) := dk_6 (dk_at dksX2_setWindOffset_0 2 rfl rfl)
theorem dX2_setWindOffset_3 : decode cX2_setWindOffset 3 = .ok (.invokestatic 195, 3) := dk_184 0 195 (dk_at dksX2_setWindOffset_0 3 rfl rfl)
theorem dX2_setWindOffset_6 : decode cX2_setWindOffset 6 = .ok (.getstatic 296, 3) := dk_178 1 40 (dk_at dksX2_setWindOffset_0 6 rfl rfl)
theorem dX2_setWindOffset_9 : decode cX2_setWindOffset 9 = .ok (.invokestatic 205, 3) := dk_184 0 205 (dk_at dksX2_setWindOffset_0 9 rfl rfl)
theorem dX2_setWindOffset_12 : decode cX2_setWindOffset 12 = .ok (.aload_n 0, 1) := dk_42 (dk_at dksX2_setWindOffset_0 12 rfl rfl)
theorem dX2_setWindOffset_13 : decode cX2_setWindOffset 13 = .ok (.getfield 67, 3) := dk_180 0 67 (dk_at dksX2_setWindOffset_0 13 rfl rfl)
theorem dX2_setWindOffset_16 : decode cX2_setWindOffset 16 = .ok (.istore_n 2, 1) := dk_61 (dk_at dksX2_setWindOffset_0 16 rfl rfl)
theorem dX2_setWindOffset_17 : decode cX2_setWindOffset 17 = .ok (.aload_n 0, 1) := dk_42 (dk_at dksX2_setWindOffset_0 17 rfl rfl)
theorem dX2_setWindOffset_18 : decode cX2_setWindOffset 18 = .ok (.iload_n 1, 1) := dk_27 (dk_at dksX2_setWindOffset_0 18 rfl rfl)
theorem dX2_setWindOffset_19 : decode cX2_setWindOffset 19 = .ok (.putfield 67, 3) := dk_181 0 67 (dk_at dksX2_setWindOffset_0 19 rfl rfl)
theorem dX2_setWindOffset_22 : decode cX2_setWindOffset 22 = .ok (.iload_n 2, 1) := dk_28 (dk_at dksX2_setWindOffset_0 22 rfl rfl)
theorem dX2_setWindOffset_23 : decode cX2_setWindOffset 23 = .ok (.ireturn, 1) := dk_172 (dk_at dksX2_setWindOffset_0 23 rfl rfl)
abbrev cX2_setPrice : ByteArray := prog_8_method_24_code
def yX2_setPrice : MethodName := ⟨RX2, "setPrice", "(I)I"⟩
def dkwX2_setPrice_1 : List UInt8 := [172]
abbrev dktX2_setPrice_1 : List UInt8 := dkwX2_setPrice_1 ++ []
def dkwX2_setPrice_0 : List UInt8 := [27, 3, 16, 9, 184, 0, 195, 178, 1, 40, 184, 0, 205, 42, 180, 0, 58, 61, 42, 27, 181, 0, 58, 28]
abbrev dktX2_setPrice_0 : List UInt8 := dkwX2_setPrice_0 ++ dktX2_setPrice_1
theorem dksX2_setPrice_0 : cX2_setPrice.data.toList.drop 0 = dktX2_setPrice_0 := by decide +kernel
theorem dksX2_setPrice_1 : cX2_setPrice.data.toList.drop 24 = dktX2_setPrice_1 := dk_seg dksX2_setPrice_0 24 rfl rfl
theorem dX2_setPrice_0 : decode cX2_setPrice 0 = .ok (.iload_n 1, 1) := dk_27 (dk_at dksX2_setPrice_0 0 rfl rfl)
theorem dX2_setPrice_1 : decode cX2_setPrice 1 = .ok (.iconst 0, 1) := dk_3 (dk_at dksX2_setPrice_0 1 rfl rfl)
theorem dX2_setPrice_2 : decode cX2_setPrice 2 = .ok (.bipush 9, 2) := dk_16 9 (dk_at dksX2_setPrice_0 2 rfl rfl)
theorem dX2_setPrice_4 : decode cX2_setPrice 4 = .ok (.invokestatic 195, 3) := dk_184 0 195 (dk_at dksX2_setPrice_0 4 rfl rfl)
theorem dX2_setPrice_7 : decode cX2_setPrice 7 = .ok (.getstatic 296, 3) := dk_178 1 40 (dk_at dksX2_setPrice_0 7 rfl rfl)
theorem dX2_setPrice_10 : decode cX2_setPrice 10 = .ok (.invokestatic 205, 3) := dk_184 0 205 (dk_at dksX2_setPrice_0 10 rfl rfl)
theorem dX2_setPrice_13 : decode cX2_setPrice 13 = .ok (.aload_n 0, 1) := dk_42 (dk_at dksX2_setPrice_0 13 rfl rfl)
theorem dX2_setPrice_14 : decode cX2_setPrice 14 = .ok (.getfield 58, 3) := dk_180 0 58 (dk_at dksX2_setPrice_0 14 rfl rfl)
theorem dX2_setPrice_17 : decode cX2_setPrice 17 = .ok (.istore_n 2, 1) := dk_61 (dk_at dksX2_setPrice_0 17 rfl rfl)
theorem dX2_setPrice_18 : decode cX2_setPrice 18 = .ok (.aload_n 0, 1) := dk_42 (dk_at dksX2_setPrice_0 18 rfl rfl)
theorem dX2_setPrice_19 : decode cX2_setPrice 19 = .ok (.iload_n 1, 1) := dk_27 (dk_at dksX2_setPrice_0 19 rfl rfl)
theorem dX2_setPrice_20 : decode cX2_setPrice 20 = .ok (.putfield 58, 3) := dk_181 0 58 (dk_at dksX2_setPrice_0 20 rfl rfl)
theorem dX2_setPrice_23 : decode cX2_setPrice 23 = .ok (.iload_n 2, 1) := dk_28 (dk_at dksX2_setPrice_0 23 rfl rfl)
theorem dX2_setPrice_24 : decode cX2_setPrice 24 = .ok (.ireturn, 1) := dk_172 (dk_at dksX2_setPrice_1 0 rfl rfl)
abbrev cX2_contradictions : ByteArray := prog_8_method_28_code
def yX2_contradictions : MethodName := ⟨RX2, "contradictions", "()I"⟩
def dkwX2_contradictions_7 : List UInt8 := [172]
abbrev dktX2_contradictions_7 : List UInt8 := dkwX2_contradictions_7 ++ []
def dkwX2_contradictions_6 : List UInt8 := [96, 42, 180, 0, 164, 42, 180, 0, 176, 100, 42, 180, 0, 179, 96, 42, 180, 0, 182, 96, 184, 1, 86, 96]
abbrev dktX2_contradictions_6 : List UInt8 := dkwX2_contradictions_6 ++ dktX2_contradictions_7
def dkwX2_contradictions_5 : List UInt8 := [180, 1, 83, 96, 96, 62, 167, 255, 214, 27, 28, 100, 184, 1, 86, 42, 180, 0, 170, 29, 100, 184, 1, 86]
abbrev dktX2_contradictions_5 : List UInt8 := dkwX2_contradictions_5 ++ dktX2_contradictions_6
def dkwX2_contradictions_4 : List UInt8 := [185, 0, 116, 1, 0, 192, 0, 88, 58, 5, 29, 25, 5, 180, 0, 245, 25, 5, 180, 1, 77, 96, 25, 5]
abbrev dktX2_contradictions_4 : List UInt8 := dkwX2_contradictions_4 ++ dktX2_contradictions_5
def dkwX2_contradictions_3 : List UInt8 := [180, 0, 32, 185, 0, 106, 1, 0, 58, 4, 25, 4, 185, 0, 110, 1, 0, 153, 0, 38, 25, 4]
abbrev dktX2_contradictions_3 : List UInt8 := dkwX2_contradictions_3 ++ dktX2_contradictions_4
def dkwX2_contradictions_2 : List UInt8 := [104, 96, 60, 28, 25, 4, 180, 0, 242, 25, 4, 180, 1, 80, 96, 96, 61, 167, 255, 209, 3, 62, 42]
abbrev dktX2_contradictions_2 : List UInt8 := dkwX2_contradictions_2 ++ dktX2_contradictions_3
def dkwX2_contradictions_1 : List UInt8 := [153, 0, 44, 45, 185, 0, 116, 1, 0, 192, 0, 77, 58, 4, 27, 42, 180, 0, 161, 25, 4, 180, 1, 64]
abbrev dktX2_contradictions_1 : List UInt8 := dkwX2_contradictions_1 ++ dktX2_contradictions_2
def dkwX2_contradictions_0 : List UInt8 := [3, 60, 42, 180, 0, 170, 61, 42, 180, 0, 28, 185, 0, 106, 1, 0, 78, 45, 185, 0, 110, 1, 0]
abbrev dktX2_contradictions_0 : List UInt8 := dkwX2_contradictions_0 ++ dktX2_contradictions_1
theorem dksX2_contradictions_0 : cX2_contradictions.data.toList.drop 0 = dktX2_contradictions_0 := by decide +kernel
theorem dksX2_contradictions_1 : cX2_contradictions.data.toList.drop 23 = dktX2_contradictions_1 := dk_seg dksX2_contradictions_0 23 rfl rfl
theorem dksX2_contradictions_2 : cX2_contradictions.data.toList.drop 47 = dktX2_contradictions_2 := dk_seg dksX2_contradictions_1 24 rfl rfl
theorem dksX2_contradictions_3 : cX2_contradictions.data.toList.drop 70 = dktX2_contradictions_3 := dk_seg dksX2_contradictions_2 23 rfl rfl
theorem dksX2_contradictions_4 : cX2_contradictions.data.toList.drop 92 = dktX2_contradictions_4 := dk_seg dksX2_contradictions_3 22 rfl rfl
theorem dksX2_contradictions_5 : cX2_contradictions.data.toList.drop 116 = dktX2_contradictions_5 := dk_seg dksX2_contradictions_4 24 rfl rfl
theorem dksX2_contradictions_6 : cX2_contradictions.data.toList.drop 140 = dktX2_contradictions_6 := dk_seg dksX2_contradictions_5 24 rfl rfl
theorem dksX2_contradictions_7 : cX2_contradictions.data.toList.drop 164 = dktX2_contradictions_7 := dk_seg dksX2_contradictions_6 24 rfl rfl
theorem dX2_contradictions_0 : decode cX2_contradictions 0 = .ok (.iconst 0, 1) := dk_3 (dk_at dksX2_contradictions_0 0 rfl rfl)
theorem dX2_contradictions_1 : decode cX2_contradictions 1 = .ok (.istore_n 1, 1) := dk_60 (dk_at dksX2_contradictions_0 1 rfl rfl)
theorem dX2_contradictions_2 : decode cX2_contradictions 2 = .ok (.aload_n 0, 1) := dk_42 (dk_at dksX2_contradictions_0 2 rfl rfl)
theorem dX2_contradictions_3 : decode cX2_contradictions 3 = .ok (.getfield 170, 3) := dk_180 0 170 (dk_at dksX2_contradictions_0 3 rfl rfl)
theorem dX2_contradictions_6 : decode cX2_contradictions 6 = .ok (.istore_n 2, 1) := dk_61 (dk_at dksX2_contradictions_0 6 rfl rfl)
theorem dX2_contradictions_7 : decode cX2_contradictions 7 = .ok (.aload_n 0, 1) := dk_42 (dk_at dksX2_contradictions_0 7 rfl rfl)
theorem dX2_contradictions_8 : decode cX2_contradictions 8 = .ok (.getfield 28, 3) := dk_180 0 28 (dk_at dksX2_contradictions_0 8 rfl rfl)
theorem dX2_contradictions_11 : decode cX2_contradictions 11 = .ok (.invokeinterface 106 1, 5) := by decide +kernel
theorem dX2_contradictions_16 : decode cX2_contradictions 16 = .ok (.astore_n 3, 1) := dk_78 (dk_at dksX2_contradictions_0 16 rfl rfl)
theorem dX2_contradictions_17 : decode cX2_contradictions 17 = .ok (.aload_n 3, 1) := dk_45 (dk_at dksX2_contradictions_0 17 rfl rfl)
theorem dX2_contradictions_18 : decode cX2_contradictions 18 = .ok (.invokeinterface 110 1, 5) := by decide +kernel
theorem dX2_contradictions_23 : decode cX2_contradictions 23 = .ok (.ifCond .eq 44, 3) := dk_153 0 44 (dk_at dksX2_contradictions_1 0 rfl rfl)
theorem dX2_contradictions_26 : decode cX2_contradictions 26 = .ok (.aload_n 3, 1) := dk_45 (dk_at dksX2_contradictions_1 3 rfl rfl)
theorem dX2_contradictions_27 : decode cX2_contradictions 27 = .ok (.invokeinterface 116 1, 5) := by decide +kernel
theorem dX2_contradictions_32 : decode cX2_contradictions 32 = .ok (.checkcast 77, 3) := dk_192 0 77 (dk_at dksX2_contradictions_1 9 rfl rfl)
theorem dX2_contradictions_35 : decode cX2_contradictions 35 = .ok (.astore 4, 2) := dk_58 4 (dk_at dksX2_contradictions_1 12 rfl rfl)
theorem dX2_contradictions_37 : decode cX2_contradictions 37 = .ok (.iload_n 1, 1) := dk_27 (dk_at dksX2_contradictions_1 14 rfl rfl)
theorem dX2_contradictions_38 : decode cX2_contradictions 38 = .ok (.aload_n 0, 1) := dk_42 (dk_at dksX2_contradictions_1 15 rfl rfl)
theorem dX2_contradictions_39 : decode cX2_contradictions 39 = .ok (.getfield 161, 3) := dk_180 0 161 (dk_at dksX2_contradictions_1 16 rfl rfl)
theorem dX2_contradictions_42 : decode cX2_contradictions 42 = .ok (.aload 4, 2) := dk_25 4 (dk_at dksX2_contradictions_1 19 rfl rfl)
theorem dX2_contradictions_44 : decode cX2_contradictions 44 = .ok (.getfield 320, 3) := dk_180 1 64 (dk_at dksX2_contradictions_1 21 rfl rfl)
theorem dX2_contradictions_47 : decode cX2_contradictions 47 = .ok (.imul, 1) := dk_104 (dk_at dksX2_contradictions_2 0 rfl rfl)
theorem dX2_contradictions_48 : decode cX2_contradictions 48 = .ok (.iadd, 1) := dk_96 (dk_at dksX2_contradictions_2 1 rfl rfl)
theorem dX2_contradictions_49 : decode cX2_contradictions 49 = .ok (.istore_n 1, 1) := dk_60 (dk_at dksX2_contradictions_2 2 rfl rfl)
theorem dX2_contradictions_50 : decode cX2_contradictions 50 = .ok (.iload_n 2, 1) := dk_28 (dk_at dksX2_contradictions_2 3 rfl rfl)
theorem dX2_contradictions_51 : decode cX2_contradictions 51 = .ok (.aload 4, 2) := dk_25 4 (dk_at dksX2_contradictions_2 4 rfl rfl)
theorem dX2_contradictions_53 : decode cX2_contradictions 53 = .ok (.getfield 242, 3) := dk_180 0 242 (dk_at dksX2_contradictions_2 6 rfl rfl)
theorem dX2_contradictions_56 : decode cX2_contradictions 56 = .ok (.aload 4, 2) := dk_25 4 (dk_at dksX2_contradictions_2 9 rfl rfl)
theorem dX2_contradictions_58 : decode cX2_contradictions 58 = .ok (.getfield 336, 3) := dk_180 1 80 (dk_at dksX2_contradictions_2 11 rfl rfl)
theorem dX2_contradictions_61 : decode cX2_contradictions 61 = .ok (.iadd, 1) := dk_96 (dk_at dksX2_contradictions_2 14 rfl rfl)
theorem dX2_contradictions_62 : decode cX2_contradictions 62 = .ok (.iadd, 1) := dk_96 (dk_at dksX2_contradictions_2 15 rfl rfl)
theorem dX2_contradictions_63 : decode cX2_contradictions 63 = .ok (.istore_n 2, 1) := dk_61 (dk_at dksX2_contradictions_2 16 rfl rfl)
theorem dX2_contradictions_64 : decode cX2_contradictions 64 = .ok (.goto (-47), 3) := dk_167 255 209 (dk_at dksX2_contradictions_2 17 rfl rfl)
theorem dX2_contradictions_67 : decode cX2_contradictions 67 = .ok (.iconst 0, 1) := dk_3 (dk_at dksX2_contradictions_2 20 rfl rfl)
theorem dX2_contradictions_68 : decode cX2_contradictions 68 = .ok (.istore_n 3, 1) := dk_62 (dk_at dksX2_contradictions_2 21 rfl rfl)
theorem dX2_contradictions_69 : decode cX2_contradictions 69 = .ok (.aload_n 0, 1) := dk_42 (dk_at dksX2_contradictions_2 22 rfl rfl)
theorem dX2_contradictions_70 : decode cX2_contradictions 70 = .ok (.getfield 32, 3) := dk_180 0 32 (dk_at dksX2_contradictions_3 0 rfl rfl)
theorem dX2_contradictions_73 : decode cX2_contradictions 73 = .ok (.invokeinterface 106 1, 5) := by decide +kernel
theorem dX2_contradictions_78 : decode cX2_contradictions 78 = .ok (.astore 4, 2) := dk_58 4 (dk_at dksX2_contradictions_3 8 rfl rfl)
theorem dX2_contradictions_80 : decode cX2_contradictions 80 = .ok (.aload 4, 2) := dk_25 4 (dk_at dksX2_contradictions_3 10 rfl rfl)
theorem dX2_contradictions_82 : decode cX2_contradictions 82 = .ok (.invokeinterface 110 1, 5) := by decide +kernel
theorem dX2_contradictions_87 : decode cX2_contradictions 87 = .ok (.ifCond .eq 38, 3) := dk_153 0 38 (dk_at dksX2_contradictions_3 17 rfl rfl)
theorem dX2_contradictions_90 : decode cX2_contradictions 90 = .ok (.aload 4, 2) := dk_25 4 (dk_at dksX2_contradictions_3 20 rfl rfl)
theorem dX2_contradictions_92 : decode cX2_contradictions 92 = .ok (.invokeinterface 116 1, 5) := by decide +kernel
theorem dX2_contradictions_97 : decode cX2_contradictions 97 = .ok (.checkcast 88, 3) := dk_192 0 88 (dk_at dksX2_contradictions_4 5 rfl rfl)
theorem dX2_contradictions_100 : decode cX2_contradictions 100 = .ok (.astore 5, 2) := dk_58 5 (dk_at dksX2_contradictions_4 8 rfl rfl)
theorem dX2_contradictions_102 : decode cX2_contradictions 102 = .ok (.iload_n 3, 1) := dk_29 (dk_at dksX2_contradictions_4 10 rfl rfl)
theorem dX2_contradictions_103 : decode cX2_contradictions 103 = .ok (.aload 5, 2) := dk_25 5 (dk_at dksX2_contradictions_4 11 rfl rfl)
theorem dX2_contradictions_105 : decode cX2_contradictions 105 = .ok (.getfield 245, 3) := dk_180 0 245 (dk_at dksX2_contradictions_4 13 rfl rfl)
theorem dX2_contradictions_108 : decode cX2_contradictions 108 = .ok (.aload 5, 2) := dk_25 5 (dk_at dksX2_contradictions_4 16 rfl rfl)
theorem dX2_contradictions_110 : decode cX2_contradictions 110 = .ok (.getfield 333, 3) := dk_180 1 77 (dk_at dksX2_contradictions_4 18 rfl rfl)
theorem dX2_contradictions_113 : decode cX2_contradictions 113 = .ok (.iadd, 1) := dk_96 (dk_at dksX2_contradictions_4 21 rfl rfl)
theorem dX2_contradictions_114 : decode cX2_contradictions 114 = .ok (.aload 5, 2) := dk_25 5 (dk_at dksX2_contradictions_4 22 rfl rfl)
theorem dX2_contradictions_116 : decode cX2_contradictions 116 = .ok (.getfield 339, 3) := dk_180 1 83 (dk_at dksX2_contradictions_5 0 rfl rfl)
theorem dX2_contradictions_119 : decode cX2_contradictions 119 = .ok (.iadd, 1) := dk_96 (dk_at dksX2_contradictions_5 3 rfl rfl)
theorem dX2_contradictions_120 : decode cX2_contradictions 120 = .ok (.iadd, 1) := dk_96 (dk_at dksX2_contradictions_5 4 rfl rfl)
theorem dX2_contradictions_121 : decode cX2_contradictions 121 = .ok (.istore_n 3, 1) := dk_62 (dk_at dksX2_contradictions_5 5 rfl rfl)
theorem dX2_contradictions_122 : decode cX2_contradictions 122 = .ok (.goto (-42), 3) := dk_167 255 214 (dk_at dksX2_contradictions_5 6 rfl rfl)
theorem dX2_contradictions_125 : decode cX2_contradictions 125 = .ok (.iload_n 1, 1) := dk_27 (dk_at dksX2_contradictions_5 9 rfl rfl)
theorem dX2_contradictions_126 : decode cX2_contradictions 126 = .ok (.iload_n 2, 1) := dk_28 (dk_at dksX2_contradictions_5 10 rfl rfl)
theorem dX2_contradictions_127 : decode cX2_contradictions 127 = .ok (.isub, 1) := dk_100 (dk_at dksX2_contradictions_5 11 rfl rfl)
theorem dX2_contradictions_128 : decode cX2_contradictions 128 = .ok (.invokestatic 342, 3) := dk_184 1 86 (dk_at dksX2_contradictions_5 12 rfl rfl)
theorem dX2_contradictions_131 : decode cX2_contradictions 131 = .ok (.aload_n 0, 1) := dk_42 (dk_at dksX2_contradictions_5 15 rfl rfl)
theorem dX2_contradictions_132 : decode cX2_contradictions 132 = .ok (.getfield 170, 3) := dk_180 0 170 (dk_at dksX2_contradictions_5 16 rfl rfl)
theorem dX2_contradictions_135 : decode cX2_contradictions 135 = .ok (.iload_n 3, 1) := dk_29 (dk_at dksX2_contradictions_5 19 rfl rfl)
theorem dX2_contradictions_136 : decode cX2_contradictions 136 = .ok (.isub, 1) := dk_100 (dk_at dksX2_contradictions_5 20 rfl rfl)
theorem dX2_contradictions_137 : decode cX2_contradictions 137 = .ok (.invokestatic 342, 3) := dk_184 1 86 (dk_at dksX2_contradictions_5 21 rfl rfl)
theorem dX2_contradictions_140 : decode cX2_contradictions 140 = .ok (.iadd, 1) := dk_96 (dk_at dksX2_contradictions_6 0 rfl rfl)
theorem dX2_contradictions_141 : decode cX2_contradictions 141 = .ok (.aload_n 0, 1) := dk_42 (dk_at dksX2_contradictions_6 1 rfl rfl)
theorem dX2_contradictions_142 : decode cX2_contradictions 142 = .ok (.getfield 164, 3) := dk_180 0 164 (dk_at dksX2_contradictions_6 2 rfl rfl)
theorem dX2_contradictions_145 : decode cX2_contradictions 145 = .ok (.aload_n 0, 1) := dk_42 (dk_at dksX2_contradictions_6 5 rfl rfl)
theorem dX2_contradictions_146 : decode cX2_contradictions 146 = .ok (.getfield 176, 3) := dk_180 0 176 (dk_at dksX2_contradictions_6 6 rfl rfl)
theorem dX2_contradictions_149 : decode cX2_contradictions 149 = .ok (.isub, 1) := dk_100 (dk_at dksX2_contradictions_6 9 rfl rfl)
theorem dX2_contradictions_150 : decode cX2_contradictions 150 = .ok (.aload_n 0, 1) := dk_42 (dk_at dksX2_contradictions_6 10 rfl rfl)
theorem dX2_contradictions_151 : decode cX2_contradictions 151 = .ok (.getfield 179, 3) := dk_180 0 179 (dk_at dksX2_contradictions_6 11 rfl rfl)
theorem dX2_contradictions_154 : decode cX2_contradictions 154 = .ok (.iadd, 1) := dk_96 (dk_at dksX2_contradictions_6 14 rfl rfl)
theorem dX2_contradictions_155 : decode cX2_contradictions 155 = .ok (.aload_n 0, 1) := dk_42 (dk_at dksX2_contradictions_6 15 rfl rfl)
theorem dX2_contradictions_156 : decode cX2_contradictions 156 = .ok (.getfield 182, 3) := dk_180 0 182 (dk_at dksX2_contradictions_6 16 rfl rfl)
theorem dX2_contradictions_159 : decode cX2_contradictions 159 = .ok (.iadd, 1) := dk_96 (dk_at dksX2_contradictions_6 19 rfl rfl)
theorem dX2_contradictions_160 : decode cX2_contradictions 160 = .ok (.invokestatic 342, 3) := dk_184 1 86 (dk_at dksX2_contradictions_6 20 rfl rfl)
theorem dX2_contradictions_163 : decode cX2_contradictions 163 = .ok (.iadd, 1) := dk_96 (dk_at dksX2_contradictions_6 23 rfl rfl)
theorem dX2_contradictions_164 : decode cX2_contradictions 164 = .ok (.ireturn, 1) := dk_172 (dk_at dksX2_contradictions_7 0 rfl rfl)
abbrev cX2_after : ByteArray := prog_8_method_20_code
def yX2_after : MethodName := ⟨RX2, "after", "(I)LRoseGuild$Guild;"⟩
def dkwX2_after_0 : List UInt8 := [42, 182, 1, 49, 77, 3, 62, 29, 27, 162, 0, 13, 44, 182, 1, 46, 132, 3, 1, 167, 255, 244, 44, 176]
abbrev dktX2_after_0 : List UInt8 := dkwX2_after_0 ++ []
theorem dksX2_after_0 : cX2_after.data.toList.drop 0 = dktX2_after_0 := by decide +kernel
theorem dX2_after_0 : decode cX2_after 0 = .ok (.aload_n 0, 1) := dk_42 (dk_at dksX2_after_0 0 rfl rfl)
theorem dX2_after_1 : decode cX2_after 1 = .ok (.invokevirtual 305, 3) := dk_182 1 49 (dk_at dksX2_after_0 1 rfl rfl)
theorem dX2_after_4 : decode cX2_after 4 = .ok (.astore_n 2, 1) := dk_77 (dk_at dksX2_after_0 4 rfl rfl)
theorem dX2_after_5 : decode cX2_after 5 = .ok (.iconst 0, 1) := dk_3 (dk_at dksX2_after_0 5 rfl rfl)
theorem dX2_after_6 : decode cX2_after 6 = .ok (.istore_n 3, 1) := dk_62 (dk_at dksX2_after_0 6 rfl rfl)
theorem dX2_after_7 : decode cX2_after 7 = .ok (.iload_n 3, 1) := dk_29 (dk_at dksX2_after_0 7 rfl rfl)
theorem dX2_after_8 : decode cX2_after 8 = .ok (.iload_n 1, 1) := dk_27 (dk_at dksX2_after_0 8 rfl rfl)
theorem dX2_after_9 : decode cX2_after 9 = .ok (.if_icmp .ge 13, 3) := dk_162 0 13 (dk_at dksX2_after_0 9 rfl rfl)
theorem dX2_after_12 : decode cX2_after 12 = .ok (.aload_n 2, 1) := dk_44 (dk_at dksX2_after_0 12 rfl rfl)
theorem dX2_after_13 : decode cX2_after 13 = .ok (.invokevirtual 302, 3) := dk_182 1 46 (dk_at dksX2_after_0 13 rfl rfl)
theorem dX2_after_16 : decode cX2_after 16 = .ok (.iinc 3 1, 3) := dk_132 3 1 (dk_at dksX2_after_0 16 rfl rfl)
theorem dX2_after_19 : decode cX2_after 19 = .ok (.goto (-12), 3) := dk_167 255 244 (dk_at dksX2_after_0 19 rfl rfl)
theorem dX2_after_22 : decode cX2_after 22 = .ok (.aload_n 2, 1) := dk_44 (dk_at dksX2_after_0 22 rfl rfl)
theorem dX2_after_23 : decode cX2_after 23 = .ok (.areturn, 1) := dk_176 (dk_at dksX2_after_0 23 rfl rfl)
abbrev cX2_contractsInText : ByteArray := prog_8_method_30_code
def yX2_contractsInText : MethodName := ⟨RX2, "contractsInText", "()Ljava/lang/String;"⟩
def dkwX2_contractsInText_2 : List UInt8 := [182, 1, 111, 167, 255, 224, 43, 182, 1, 115, 176]
abbrev dktX2_contractsInText_2 : List UInt8 := dkwX2_contractsInText_2 ++ []
def dkwX2_contractsInText_1 : List UInt8 := [153, 0, 29, 44, 185, 0, 116, 1, 0, 192, 0, 90, 78, 45, 180, 0, 99, 198, 0, 9, 42, 45, 43]
abbrev dktX2_contractsInText_1 : List UInt8 := dkwX2_contractsInText_1 ++ dktX2_contractsInText_2
def dkwX2_contractsInText_0 : List UInt8 := [187, 1, 91, 89, 183, 1, 110, 76, 42, 180, 0, 35, 185, 0, 106, 1, 0, 77, 44, 185, 0, 110, 1, 0]
abbrev dktX2_contractsInText_0 : List UInt8 := dkwX2_contractsInText_0 ++ dktX2_contractsInText_1
theorem dksX2_contractsInText_0 : cX2_contractsInText.data.toList.drop 0 = dktX2_contractsInText_0 := by decide +kernel
theorem dksX2_contractsInText_1 : cX2_contractsInText.data.toList.drop 24 = dktX2_contractsInText_1 := dk_seg dksX2_contractsInText_0 24 rfl rfl
theorem dksX2_contractsInText_2 : cX2_contractsInText.data.toList.drop 47 = dktX2_contractsInText_2 := dk_seg dksX2_contractsInText_1 23 rfl rfl
theorem dX2_contractsInText_0 : decode cX2_contractsInText 0 = .ok (.new 347, 3) := dk_187 1 91 (dk_at dksX2_contractsInText_0 0 rfl rfl)
theorem dX2_contractsInText_3 : decode cX2_contractsInText 3 = .ok (.dup, 1) := dk_89 (dk_at dksX2_contractsInText_0 3 rfl rfl)
theorem dX2_contractsInText_4 : decode cX2_contractsInText 4 = .ok (.invokespecial 366, 3) := dk_183 1 110 (dk_at dksX2_contractsInText_0 4 rfl rfl)
theorem dX2_contractsInText_7 : decode cX2_contractsInText 7 = .ok (.astore_n 1, 1) := dk_76 (dk_at dksX2_contractsInText_0 7 rfl rfl)
theorem dX2_contractsInText_8 : decode cX2_contractsInText 8 = .ok (.aload_n 0, 1) := dk_42 (dk_at dksX2_contractsInText_0 8 rfl rfl)
theorem dX2_contractsInText_9 : decode cX2_contractsInText 9 = .ok (.getfield 35, 3) := dk_180 0 35 (dk_at dksX2_contractsInText_0 9 rfl rfl)
theorem dX2_contractsInText_12 : decode cX2_contractsInText 12 = .ok (.invokeinterface 106 1, 5) := by decide +kernel
theorem dX2_contractsInText_17 : decode cX2_contractsInText 17 = .ok (.astore_n 2, 1) := dk_77 (dk_at dksX2_contractsInText_0 17 rfl rfl)
theorem dX2_contractsInText_18 : decode cX2_contractsInText 18 = .ok (.aload_n 2, 1) := dk_44 (dk_at dksX2_contractsInText_0 18 rfl rfl)
theorem dX2_contractsInText_19 : decode cX2_contractsInText 19 = .ok (.invokeinterface 110 1, 5) := by decide +kernel
theorem dX2_contractsInText_24 : decode cX2_contractsInText 24 = .ok (.ifCond .eq 29, 3) := dk_153 0 29 (dk_at dksX2_contractsInText_1 0 rfl rfl)
theorem dX2_contractsInText_27 : decode cX2_contractsInText 27 = .ok (.aload_n 2, 1) := dk_44 (dk_at dksX2_contractsInText_1 3 rfl rfl)
theorem dX2_contractsInText_28 : decode cX2_contractsInText 28 = .ok (.invokeinterface 116 1, 5) := by decide +kernel
theorem dX2_contractsInText_33 : decode cX2_contractsInText 33 = .ok (.checkcast 90, 3) := dk_192 0 90 (dk_at dksX2_contractsInText_1 9 rfl rfl)
theorem dX2_contractsInText_36 : decode cX2_contractsInText 36 = .ok (.astore_n 3, 1) := dk_78 (dk_at dksX2_contractsInText_1 12 rfl rfl)
theorem dX2_contractsInText_37 : decode cX2_contractsInText 37 = .ok (.aload_n 3, 1) := dk_45 (dk_at dksX2_contractsInText_1 13 rfl rfl)
theorem dX2_contractsInText_38 : decode cX2_contractsInText 38 = .ok (.getfield 99, 3) := dk_180 0 99 (dk_at dksX2_contractsInText_1 14 rfl rfl)
theorem dX2_contractsInText_41 : decode cX2_contractsInText 41 = .ok (.ifnull 9, 3) := dk_198 0 9 (dk_at dksX2_contractsInText_1 17 rfl rfl)
theorem dX2_contractsInText_44 : decode cX2_contractsInText 44 = .ok (.aload_n 0, 1) := dk_42 (dk_at dksX2_contractsInText_1 20 rfl rfl)
theorem dX2_contractsInText_45 : decode cX2_contractsInText 45 = .ok (.aload_n 3, 1) := dk_45 (dk_at dksX2_contractsInText_1 21 rfl rfl)
theorem dX2_contractsInText_46 : decode cX2_contractsInText 46 = .ok (.aload_n 1, 1) := dk_43 (dk_at dksX2_contractsInText_1 22 rfl rfl)
theorem dX2_contractsInText_47 : decode cX2_contractsInText 47 = .ok (.invokevirtual 367, 3) := dk_182 1 111 (dk_at dksX2_contractsInText_2 0 rfl rfl)
theorem dX2_contractsInText_50 : decode cX2_contractsInText 50 = .ok (.goto (-32), 3) := dk_167 255 224 (dk_at dksX2_contractsInText_2 3 rfl rfl)
theorem dX2_contractsInText_53 : decode cX2_contractsInText 53 = .ok (.aload_n 1, 1) := dk_43 (dk_at dksX2_contractsInText_2 6 rfl rfl)
theorem dX2_contractsInText_54 : decode cX2_contractsInText 54 = .ok (.invokevirtual 371, 3) := dk_182 1 115 (dk_at dksX2_contractsInText_2 7 rfl rfl)
theorem dX2_contractsInText_57 : decode cX2_contractsInText 57 = .ok (.areturn, 1) := dk_176 (dk_at dksX2_contractsInText_2 10 rfl rfl)
abbrev cX2_tellContract : ByteArray := prog_8_method_29_code
def yX2_tellContract : MethodName := ⟨RX2, "tellContract", "(LRoseGuild$Cart;Ljava/lang/StringBuilder;)V"⟩
def dkwX2_tellContract_4 : List UInt8 := [180, 1, 18, 182, 1, 99, 87, 177]
abbrev dktX2_tellContract_4 : List UInt8 := dkwX2_tellContract_4 ++ []
def dkwX2_tellContract_3 : List UInt8 := [185, 0, 185, 2, 0, 192, 0, 88, 180, 1, 109, 182, 1, 106, 16, 42, 182, 1, 95, 43, 180, 0, 99]
abbrev dktX2_tellContract_3 : List UInt8 := dkwX2_tellContract_3 ++ dktX2_tellContract_4
def dkwX2_tellContract_2 : List UInt8 := [180, 1, 102, 182, 1, 106, 16, 62, 182, 1, 95, 42, 180, 0, 32, 43, 180, 0, 99, 180, 0, 232]
abbrev dktX2_tellContract_2 : List UInt8 := dkwX2_tellContract_2 ++ dktX2_tellContract_3
def dkwX2_tellContract_1 : List UInt8 := [182, 1, 95, 42, 180, 0, 28, 43, 180, 0, 99, 180, 0, 229, 185, 0, 185, 2, 0, 192, 0, 77]
abbrev dktX2_tellContract_1 : List UInt8 := dkwX2_tellContract_1 ++ dktX2_tellContract_2
def dkwX2_tellContract_0 : List UInt8 := [44, 182, 1, 90, 158, 0, 10, 44, 16, 32, 182, 1, 95, 87, 44, 43, 180, 0, 254, 182, 1, 99, 16, 58]
abbrev dktX2_tellContract_0 : List UInt8 := dkwX2_tellContract_0 ++ dktX2_tellContract_1
theorem dksX2_tellContract_0 : cX2_tellContract.data.toList.drop 0 = dktX2_tellContract_0 := by decide +kernel
theorem dksX2_tellContract_1 : cX2_tellContract.data.toList.drop 24 = dktX2_tellContract_1 := dk_seg dksX2_tellContract_0 24 rfl rfl
theorem dksX2_tellContract_2 : cX2_tellContract.data.toList.drop 46 = dktX2_tellContract_2 := dk_seg dksX2_tellContract_1 22 rfl rfl
theorem dksX2_tellContract_3 : cX2_tellContract.data.toList.drop 68 = dktX2_tellContract_3 := dk_seg dksX2_tellContract_2 22 rfl rfl
theorem dksX2_tellContract_4 : cX2_tellContract.data.toList.drop 91 = dktX2_tellContract_4 := dk_seg dksX2_tellContract_3 23 rfl rfl
theorem dX2_tellContract_0 : decode cX2_tellContract 0 = .ok (.aload_n 2, 1) := dk_44 (dk_at dksX2_tellContract_0 0 rfl rfl)
theorem dX2_tellContract_1 : decode cX2_tellContract 1 = .ok (.invokevirtual 346, 3) := dk_182 1 90 (dk_at dksX2_tellContract_0 1 rfl rfl)
theorem dX2_tellContract_4 : decode cX2_tellContract 4 = .ok (.ifCond .le 10, 3) := dk_158 0 10 (dk_at dksX2_tellContract_0 4 rfl rfl)
theorem dX2_tellContract_7 : decode cX2_tellContract 7 = .ok (.aload_n 2, 1) := dk_44 (dk_at dksX2_tellContract_0 7 rfl rfl)
theorem dX2_tellContract_8 : decode cX2_tellContract 8 = .ok (.bipush 32, 2) := dk_16 32 (dk_at dksX2_tellContract_0 8 rfl rfl)
theorem dX2_tellContract_10 : decode cX2_tellContract 10 = .ok (.invokevirtual 351, 3) := dk_182 1 95 (dk_at dksX2_tellContract_0 10 rfl rfl)
theorem dX2_tellContract_13 : decode cX2_tellContract 13 = .ok (.pop, 1) := dk_87 (dk_at dksX2_tellContract_0 13 rfl rfl)
theorem dX2_tellContract_14 : decode cX2_tellContract 14 = .ok (.aload_n 2, 1) := dk_44 (dk_at dksX2_tellContract_0 14 rfl rfl)
theorem dX2_tellContract_15 : decode cX2_tellContract 15 = .ok (.aload_n 1, 1) := dk_43 (dk_at dksX2_tellContract_0 15 rfl rfl)
theorem dX2_tellContract_16 : decode cX2_tellContract 16 = .ok (.getfield 254, 3) := dk_180 0 254 (dk_at dksX2_tellContract_0 16 rfl rfl)
theorem dX2_tellContract_19 : decode cX2_tellContract 19 = .ok (.invokevirtual 355, 3) := dk_182 1 99 (dk_at dksX2_tellContract_0 19 rfl rfl)
theorem dX2_tellContract_22 : decode cX2_tellContract 22 = .ok (.bipush 58, 2) := dk_16 58 (dk_at dksX2_tellContract_0 22 rfl rfl)
theorem dX2_tellContract_24 : decode cX2_tellContract 24 = .ok (.invokevirtual 351, 3) := dk_182 1 95 (dk_at dksX2_tellContract_1 0 rfl rfl)
theorem dX2_tellContract_27 : decode cX2_tellContract 27 = .ok (.aload_n 0, 1) := dk_42 (dk_at dksX2_tellContract_1 3 rfl rfl)
theorem dX2_tellContract_28 : decode cX2_tellContract 28 = .ok (.getfield 28, 3) := dk_180 0 28 (dk_at dksX2_tellContract_1 4 rfl rfl)
theorem dX2_tellContract_31 : decode cX2_tellContract 31 = .ok (.aload_n 1, 1) := dk_43 (dk_at dksX2_tellContract_1 7 rfl rfl)
theorem dX2_tellContract_32 : decode cX2_tellContract 32 = .ok (.getfield 99, 3) := dk_180 0 99 (dk_at dksX2_tellContract_1 8 rfl rfl)
theorem dX2_tellContract_35 : decode cX2_tellContract 35 = .ok (.getfield 229, 3) := dk_180 0 229 (dk_at dksX2_tellContract_1 11 rfl rfl)
theorem dX2_tellContract_38 : decode cX2_tellContract 38 = .ok (.invokeinterface 185 2, 5) := by decide +kernel
theorem dX2_tellContract_43 : decode cX2_tellContract 43 = .ok (.checkcast 77, 3) := dk_192 0 77 (dk_at dksX2_tellContract_1 19 rfl rfl)
theorem dX2_tellContract_46 : decode cX2_tellContract 46 = .ok (.getfield 358, 3) := dk_180 1 102 (dk_at dksX2_tellContract_2 0 rfl rfl)
theorem dX2_tellContract_49 : decode cX2_tellContract 49 = .ok (.invokevirtual 362, 3) := dk_182 1 106 (dk_at dksX2_tellContract_2 3 rfl rfl)
theorem dX2_tellContract_52 : decode cX2_tellContract 52 = .ok (.bipush 62, 2) := dk_16 62 (dk_at dksX2_tellContract_2 6 rfl rfl)
theorem dX2_tellContract_54 : decode cX2_tellContract 54 = .ok (.invokevirtual 351, 3) := dk_182 1 95 (dk_at dksX2_tellContract_2 8 rfl rfl)
theorem dX2_tellContract_57 : decode cX2_tellContract 57 = .ok (.aload_n 0, 1) := dk_42 (dk_at dksX2_tellContract_2 11 rfl rfl)
theorem dX2_tellContract_58 : decode cX2_tellContract 58 = .ok (.getfield 32, 3) := dk_180 0 32 (dk_at dksX2_tellContract_2 12 rfl rfl)
theorem dX2_tellContract_61 : decode cX2_tellContract 61 = .ok (.aload_n 1, 1) := dk_43 (dk_at dksX2_tellContract_2 15 rfl rfl)
theorem dX2_tellContract_62 : decode cX2_tellContract 62 = .ok (.getfield 99, 3) := dk_180 0 99 (dk_at dksX2_tellContract_2 16 rfl rfl)
theorem dX2_tellContract_65 : decode cX2_tellContract 65 = .ok (.getfield 232, 3) := dk_180 0 232 (dk_at dksX2_tellContract_2 19 rfl rfl)
theorem dX2_tellContract_68 : decode cX2_tellContract 68 = .ok (.invokeinterface 185 2, 5) := by decide +kernel
theorem dX2_tellContract_73 : decode cX2_tellContract 73 = .ok (.checkcast 88, 3) := dk_192 0 88 (dk_at dksX2_tellContract_3 5 rfl rfl)
theorem dX2_tellContract_76 : decode cX2_tellContract 76 = .ok (.getfield 365, 3) := dk_180 1 109 (dk_at dksX2_tellContract_3 8 rfl rfl)
theorem dX2_tellContract_79 : decode cX2_tellContract 79 = .ok (.invokevirtual 362, 3) := dk_182 1 106 (dk_at dksX2_tellContract_3 11 rfl rfl)
theorem dX2_tellContract_82 : decode cX2_tellContract 82 = .ok (.bipush 42, 2) := dk_16 42 (dk_at dksX2_tellContract_3 14 rfl rfl)
theorem dX2_tellContract_84 : decode cX2_tellContract 84 = .ok (.invokevirtual 351, 3) := dk_182 1 95 (dk_at dksX2_tellContract_3 16 rfl rfl)
theorem dX2_tellContract_87 : decode cX2_tellContract 87 = .ok (.aload_n 1, 1) := dk_43 (dk_at dksX2_tellContract_3 19 rfl rfl)
theorem dX2_tellContract_88 : decode cX2_tellContract 88 = .ok (.getfield 99, 3) := dk_180 0 99 (dk_at dksX2_tellContract_3 20 rfl rfl)
theorem dX2_tellContract_91 : decode cX2_tellContract 91 = .ok (.getfield 274, 3) := dk_180 1 18 (dk_at dksX2_tellContract_4 0 rfl rfl)
theorem dX2_tellContract_94 : decode cX2_tellContract 94 = .ok (.invokevirtual 355, 3) := dk_182 1 99 (dk_at dksX2_tellContract_4 3 rfl rfl)
theorem dX2_tellContract_97 : decode cX2_tellContract 97 = .ok (.pop, 1) := dk_87 (dk_at dksX2_tellContract_4 6 rfl rfl)
theorem dX2_tellContract_98 : decode cX2_tellContract 98 = .ok (.return_, 1) := dk_177 (dk_at dksX2_tellContract_4 7 rfl rfl)
abbrev cX2_deliveriesInText : ByteArray := prog_8_method_31_code
def yX2_deliveriesInText : MethodName := ⟨RX2, "deliveriesInText", "()Ljava/lang/String;"⟩
def dkwX2_deliveriesInText_4 : List UInt8 := [167, 0, 6, 19, 1, 130, 182, 1, 106, 87, 167, 255, 171, 43, 182, 1, 115, 176]
abbrev dktX2_deliveriesInText_4 : List UInt8 := dkwX2_deliveriesInText_4 ++ []
def dkwX2_deliveriesInText_3 : List UInt8 := [16, 43, 182, 1, 95, 45, 180, 1, 122, 182, 1, 99, 45, 180, 1, 124, 153, 0, 9, 19, 1, 128]
abbrev dktX2_deliveriesInText_3 : List UInt8 := dkwX2_deliveriesInText_3 ++ dktX2_deliveriesInText_4
def dkwX2_deliveriesInText_2 : List UInt8 := [182, 1, 95, 87, 43, 45, 180, 1, 119, 182, 1, 99, 16, 47, 182, 1, 95, 45, 180, 1, 120, 182, 1, 99]
abbrev dktX2_deliveriesInText_2 : List UInt8 := dkwX2_deliveriesInText_2 ++ dktX2_deliveriesInText_3
def dkwX2_deliveriesInText_1 : List UInt8 := [153, 0, 82, 44, 185, 0, 116, 1, 0, 192, 0, 151, 78, 43, 182, 1, 90, 158, 0, 10, 43, 16, 32]
abbrev dktX2_deliveriesInText_1 : List UInt8 := dkwX2_deliveriesInText_1 ++ dktX2_deliveriesInText_2
def dkwX2_deliveriesInText_0 : List UInt8 := [187, 1, 91, 89, 183, 1, 110, 76, 42, 180, 0, 41, 182, 0, 150, 77, 44, 185, 0, 110, 1, 0]
abbrev dktX2_deliveriesInText_0 : List UInt8 := dkwX2_deliveriesInText_0 ++ dktX2_deliveriesInText_1
theorem dksX2_deliveriesInText_0 : cX2_deliveriesInText.data.toList.drop 0 = dktX2_deliveriesInText_0 := by decide +kernel
theorem dksX2_deliveriesInText_1 : cX2_deliveriesInText.data.toList.drop 22 = dktX2_deliveriesInText_1 := dk_seg dksX2_deliveriesInText_0 22 rfl rfl
theorem dksX2_deliveriesInText_2 : cX2_deliveriesInText.data.toList.drop 45 = dktX2_deliveriesInText_2 := dk_seg dksX2_deliveriesInText_1 23 rfl rfl
theorem dksX2_deliveriesInText_3 : cX2_deliveriesInText.data.toList.drop 69 = dktX2_deliveriesInText_3 := dk_seg dksX2_deliveriesInText_2 24 rfl rfl
theorem dksX2_deliveriesInText_4 : cX2_deliveriesInText.data.toList.drop 91 = dktX2_deliveriesInText_4 := dk_seg dksX2_deliveriesInText_3 22 rfl rfl
theorem dX2_deliveriesInText_0 : decode cX2_deliveriesInText 0 = .ok (.new 347, 3) := dk_187 1 91 (dk_at dksX2_deliveriesInText_0 0 rfl rfl)
theorem dX2_deliveriesInText_3 : decode cX2_deliveriesInText 3 = .ok (.dup, 1) := dk_89 (dk_at dksX2_deliveriesInText_0 3 rfl rfl)
theorem dX2_deliveriesInText_4 : decode cX2_deliveriesInText 4 = .ok (.invokespecial 366, 3) := dk_183 1 110 (dk_at dksX2_deliveriesInText_0 4 rfl rfl)
theorem dX2_deliveriesInText_7 : decode cX2_deliveriesInText 7 = .ok (.astore_n 1, 1) := dk_76 (dk_at dksX2_deliveriesInText_0 7 rfl rfl)
theorem dX2_deliveriesInText_8 : decode cX2_deliveriesInText 8 = .ok (.aload_n 0, 1) := dk_42 (dk_at dksX2_deliveriesInText_0 8 rfl rfl)
theorem dX2_deliveriesInText_9 : decode cX2_deliveriesInText 9 = .ok (.getfield 41, 3) := dk_180 0 41 (dk_at dksX2_deliveriesInText_0 9 rfl rfl)
theorem dX2_deliveriesInText_12 : decode cX2_deliveriesInText 12 = .ok (.invokevirtual 150, 3) := dk_182 0 150 (dk_at dksX2_deliveriesInText_0 12 rfl rfl)
theorem dX2_deliveriesInText_15 : decode cX2_deliveriesInText 15 = .ok (.astore_n 2, 1) := dk_77 (dk_at dksX2_deliveriesInText_0 15 rfl rfl)
theorem dX2_deliveriesInText_16 : decode cX2_deliveriesInText 16 = .ok (.aload_n 2, 1) := dk_44 (dk_at dksX2_deliveriesInText_0 16 rfl rfl)
theorem dX2_deliveriesInText_17 : decode cX2_deliveriesInText 17 = .ok (.invokeinterface 110 1, 5) := by decide +kernel
theorem dX2_deliveriesInText_22 : decode cX2_deliveriesInText 22 = .ok (.ifCond .eq 82, 3) := dk_153 0 82 (dk_at dksX2_deliveriesInText_1 0 rfl rfl)
theorem dX2_deliveriesInText_25 : decode cX2_deliveriesInText 25 = .ok (.aload_n 2, 1) := dk_44 (dk_at dksX2_deliveriesInText_1 3 rfl rfl)
theorem dX2_deliveriesInText_26 : decode cX2_deliveriesInText 26 = .ok (.invokeinterface 116 1, 5) := by decide +kernel
theorem dX2_deliveriesInText_31 : decode cX2_deliveriesInText 31 = .ok (.checkcast 151, 3) := dk_192 0 151 (dk_at dksX2_deliveriesInText_1 9 rfl rfl)
theorem dX2_deliveriesInText_34 : decode cX2_deliveriesInText 34 = .ok (.astore_n 3, 1) := dk_78 (dk_at dksX2_deliveriesInText_1 12 rfl rfl)
theorem dX2_deliveriesInText_35 : decode cX2_deliveriesInText 35 = .ok (.aload_n 1, 1) := dk_43 (dk_at dksX2_deliveriesInText_1 13 rfl rfl)
theorem dX2_deliveriesInText_36 : decode cX2_deliveriesInText 36 = .ok (.invokevirtual 346, 3) := dk_182 1 90 (dk_at dksX2_deliveriesInText_1 14 rfl rfl)
theorem dX2_deliveriesInText_39 : decode cX2_deliveriesInText 39 = .ok (.ifCond .le 10, 3) := dk_158 0 10 (dk_at dksX2_deliveriesInText_1 17 rfl rfl)
theorem dX2_deliveriesInText_42 : decode cX2_deliveriesInText 42 = .ok (.aload_n 1, 1) := dk_43 (dk_at dksX2_deliveriesInText_1 20 rfl rfl)
theorem dX2_deliveriesInText_43 : decode cX2_deliveriesInText 43 = .ok (.bipush 32, 2) := dk_16 32 (dk_at dksX2_deliveriesInText_1 21 rfl rfl)
theorem dX2_deliveriesInText_45 : decode cX2_deliveriesInText 45 = .ok (.invokevirtual 351, 3) := dk_182 1 95 (dk_at dksX2_deliveriesInText_2 0 rfl rfl)
theorem dX2_deliveriesInText_48 : decode cX2_deliveriesInText 48 = .ok (.pop, 1) := dk_87 (dk_at dksX2_deliveriesInText_2 3 rfl rfl)
theorem dX2_deliveriesInText_49 : decode cX2_deliveriesInText 49 = .ok (.aload_n 1, 1) := dk_43 (dk_at dksX2_deliveriesInText_2 4 rfl rfl)
theorem dX2_deliveriesInText_50 : decode cX2_deliveriesInText 50 = .ok (.aload_n 3, 1) := dk_45 (dk_at dksX2_deliveriesInText_2 5 rfl rfl)
theorem dX2_deliveriesInText_51 : decode cX2_deliveriesInText 51 = .ok (.getfield 375, 3) := dk_180 1 119 (dk_at dksX2_deliveriesInText_2 6 rfl rfl)
theorem dX2_deliveriesInText_54 : decode cX2_deliveriesInText 54 = .ok (.invokevirtual 355, 3) := dk_182 1 99 (dk_at dksX2_deliveriesInText_2 9 rfl rfl)
theorem dX2_deliveriesInText_57 : decode cX2_deliveriesInText 57 = .ok (.bipush 47, 2) := dk_16 47 (dk_at dksX2_deliveriesInText_2 12 rfl rfl)
theorem dX2_deliveriesInText_59 : decode cX2_deliveriesInText 59 = .ok (.invokevirtual 351, 3) := dk_182 1 95 (dk_at dksX2_deliveriesInText_2 14 rfl rfl)
theorem dX2_deliveriesInText_62 : decode cX2_deliveriesInText 62 = .ok (.aload_n 3, 1) := dk_45 (dk_at dksX2_deliveriesInText_2 17 rfl rfl)
theorem dX2_deliveriesInText_63 : decode cX2_deliveriesInText 63 = .ok (.getfield 376, 3) := dk_180 1 120 (dk_at dksX2_deliveriesInText_2 18 rfl rfl)
theorem dX2_deliveriesInText_66 : decode cX2_deliveriesInText 66 = .ok (.invokevirtual 355, 3) := dk_182 1 99 (dk_at dksX2_deliveriesInText_2 21 rfl rfl)
theorem dX2_deliveriesInText_69 : decode cX2_deliveriesInText 69 = .ok (.bipush 43, 2) := dk_16 43 (dk_at dksX2_deliveriesInText_3 0 rfl rfl)
theorem dX2_deliveriesInText_71 : decode cX2_deliveriesInText 71 = .ok (.invokevirtual 351, 3) := dk_182 1 95 (dk_at dksX2_deliveriesInText_3 2 rfl rfl)
theorem dX2_deliveriesInText_74 : decode cX2_deliveriesInText 74 = .ok (.aload_n 3, 1) := dk_45 (dk_at dksX2_deliveriesInText_3 5 rfl rfl)
theorem dX2_deliveriesInText_75 : decode cX2_deliveriesInText 75 = .ok (.getfield 378, 3) := dk_180 1 122 (dk_at dksX2_deliveriesInText_3 6 rfl rfl)
theorem dX2_deliveriesInText_78 : decode cX2_deliveriesInText 78 = .ok (.invokevirtual 355, 3) := dk_182 1 99 (dk_at dksX2_deliveriesInText_3 9 rfl rfl)
theorem dX2_deliveriesInText_81 : decode cX2_deliveriesInText 81 = .ok (.aload_n 3, 1) := dk_45 (dk_at dksX2_deliveriesInText_3 12 rfl rfl)
theorem dX2_deliveriesInText_82 : decode cX2_deliveriesInText 82 = .ok (.getfield 380, 3) := dk_180 1 124 (dk_at dksX2_deliveriesInText_3 13 rfl rfl)
theorem dX2_deliveriesInText_85 : decode cX2_deliveriesInText 85 = .ok (.ifCond .eq 9, 3) := dk_153 0 9 (dk_at dksX2_deliveriesInText_3 16 rfl rfl)
theorem dX2_deliveriesInText_88 : decode cX2_deliveriesInText 88 = .ok (.ldc_w 384, 3) := dk_19 1 128 (dk_at dksX2_deliveriesInText_3 19 rfl rfl)
theorem dX2_deliveriesInText_91 : decode cX2_deliveriesInText 91 = .ok (.goto 6, 3) := dk_167 0 6 (dk_at dksX2_deliveriesInText_4 0 rfl rfl)
theorem dX2_deliveriesInText_94 : decode cX2_deliveriesInText 94 = .ok (.ldc_w 386, 3) := dk_19 1 130 (dk_at dksX2_deliveriesInText_4 3 rfl rfl)
theorem dX2_deliveriesInText_97 : decode cX2_deliveriesInText 97 = .ok (.invokevirtual 362, 3) := dk_182 1 106 (dk_at dksX2_deliveriesInText_4 6 rfl rfl)
theorem dX2_deliveriesInText_100 : decode cX2_deliveriesInText 100 = .ok (.pop, 1) := dk_87 (dk_at dksX2_deliveriesInText_4 9 rfl rfl)
theorem dX2_deliveriesInText_101 : decode cX2_deliveriesInText 101 = .ok (.goto (-85), 3) := dk_167 255 171 (dk_at dksX2_deliveriesInText_4 10 rfl rfl)
theorem dX2_deliveriesInText_104 : decode cX2_deliveriesInText 104 = .ok (.aload_n 1, 1) := dk_43 (dk_at dksX2_deliveriesInText_4 13 rfl rfl)
theorem dX2_deliveriesInText_105 : decode cX2_deliveriesInText 105 = .ok (.invokevirtual 371, 3) := dk_182 1 115 (dk_at dksX2_deliveriesInText_4 14 rfl rfl)
theorem dX2_deliveriesInText_108 : decode cX2_deliveriesInText 108 = .ok (.areturn, 1) := dk_176 (dk_at dksX2_deliveriesInText_4 17 rfl rfl)
abbrev cX2_nextLoad : ByteArray := prog_8_method_25_code
def yX2_nextLoad : MethodName := ⟨RX2, "nextLoad", "(LRoseGuild$Cart;)I"⟩
def dkwX2_nextLoad_5 : List UInt8 := [132, 4, 1, 167, 255, 193, 29, 43, 180, 0, 135, 184, 1, 67, 172]
abbrev dktX2_nextLoad_5 : List UInt8 := dkwX2_nextLoad_5 ++ []
def dkwX2_nextLoad_4 : List UInt8 := [180, 0, 229, 44, 180, 0, 248, 160, 0, 15, 29, 29, 25, 5, 180, 0, 135, 184, 1, 67, 100, 62]
abbrev dktX2_nextLoad_4 : List UInt8 := dkwX2_nextLoad_4 ++ dktX2_nextLoad_5
def dkwX2_nextLoad_3 : List UInt8 := [185, 0, 185, 2, 0, 192, 0, 90, 58, 5, 25, 5, 180, 0, 99, 198, 0, 30, 25, 5, 180, 0, 99]
abbrev dktX2_nextLoad_3 : List UInt8 := dkwX2_nextLoad_3 ++ dktX2_nextLoad_4
def dkwX2_nextLoad_2 : List UInt8 := [184, 1, 67, 62, 3, 54, 4, 21, 4, 43, 180, 0, 254, 162, 0, 60, 42, 180, 0, 35, 21, 4]
abbrev dktX2_nextLoad_2 : List UInt8 := dkwX2_nextLoad_2 ++ dktX2_nextLoad_3
def dkwX2_nextLoad_1 : List UInt8 := [185, 0, 185, 2, 0, 192, 0, 77, 77, 44, 180, 1, 63, 44, 180, 0, 242, 44, 180, 1, 64, 96]
abbrev dktX2_nextLoad_1 : List UInt8 := dkwX2_nextLoad_1 ++ dktX2_nextLoad_2
def dkwX2_nextLoad_0 : List UInt8 := [43, 180, 0, 99, 199, 0, 5, 3, 172, 42, 180, 0, 28, 43, 180, 0, 99, 180, 0, 229]
abbrev dktX2_nextLoad_0 : List UInt8 := dkwX2_nextLoad_0 ++ dktX2_nextLoad_1
theorem dksX2_nextLoad_0 : cX2_nextLoad.data.toList.drop 0 = dktX2_nextLoad_0 := by decide +kernel
theorem dksX2_nextLoad_1 : cX2_nextLoad.data.toList.drop 20 = dktX2_nextLoad_1 := dk_seg dksX2_nextLoad_0 20 rfl rfl
theorem dksX2_nextLoad_2 : cX2_nextLoad.data.toList.drop 42 = dktX2_nextLoad_2 := dk_seg dksX2_nextLoad_1 22 rfl rfl
theorem dksX2_nextLoad_3 : cX2_nextLoad.data.toList.drop 64 = dktX2_nextLoad_3 := dk_seg dksX2_nextLoad_2 22 rfl rfl
theorem dksX2_nextLoad_4 : cX2_nextLoad.data.toList.drop 87 = dktX2_nextLoad_4 := dk_seg dksX2_nextLoad_3 23 rfl rfl
theorem dksX2_nextLoad_5 : cX2_nextLoad.data.toList.drop 109 = dktX2_nextLoad_5 := dk_seg dksX2_nextLoad_4 22 rfl rfl
theorem dX2_nextLoad_0 : decode cX2_nextLoad 0 = .ok (.aload_n 1, 1) := dk_43 (dk_at dksX2_nextLoad_0 0 rfl rfl)
theorem dX2_nextLoad_1 : decode cX2_nextLoad 1 = .ok (.getfield 99, 3) := dk_180 0 99 (dk_at dksX2_nextLoad_0 1 rfl rfl)
theorem dX2_nextLoad_4 : decode cX2_nextLoad 4 = .ok (.ifnonnull 5, 3) := dk_199 0 5 (dk_at dksX2_nextLoad_0 4 rfl rfl)
theorem dX2_nextLoad_7 : decode cX2_nextLoad 7 = .ok (.iconst 0, 1) := dk_3 (dk_at dksX2_nextLoad_0 7 rfl rfl)
theorem dX2_nextLoad_8 : decode cX2_nextLoad 8 = .ok (.ireturn, 1) := dk_172 (dk_at dksX2_nextLoad_0 8 rfl rfl)
theorem dX2_nextLoad_9 : decode cX2_nextLoad 9 = .ok (.aload_n 0, 1) := dk_42 (dk_at dksX2_nextLoad_0 9 rfl rfl)
theorem dX2_nextLoad_10 : decode cX2_nextLoad 10 = .ok (.getfield 28, 3) := dk_180 0 28 (dk_at dksX2_nextLoad_0 10 rfl rfl)
theorem dX2_nextLoad_13 : decode cX2_nextLoad 13 = .ok (.aload_n 1, 1) := dk_43 (dk_at dksX2_nextLoad_0 13 rfl rfl)
theorem dX2_nextLoad_14 : decode cX2_nextLoad 14 = .ok (.getfield 99, 3) := dk_180 0 99 (dk_at dksX2_nextLoad_0 14 rfl rfl)
theorem dX2_nextLoad_17 : decode cX2_nextLoad 17 = .ok (.getfield 229, 3) := dk_180 0 229 (dk_at dksX2_nextLoad_0 17 rfl rfl)
theorem dX2_nextLoad_20 : decode cX2_nextLoad 20 = .ok (.invokeinterface 185 2, 5) := by decide +kernel
theorem dX2_nextLoad_25 : decode cX2_nextLoad 25 = .ok (.checkcast 77, 3) := dk_192 0 77 (dk_at dksX2_nextLoad_1 5 rfl rfl)
theorem dX2_nextLoad_28 : decode cX2_nextLoad 28 = .ok (.astore_n 2, 1) := dk_77 (dk_at dksX2_nextLoad_1 8 rfl rfl)
theorem dX2_nextLoad_29 : decode cX2_nextLoad 29 = .ok (.aload_n 2, 1) := dk_44 (dk_at dksX2_nextLoad_1 9 rfl rfl)
theorem dX2_nextLoad_30 : decode cX2_nextLoad 30 = .ok (.getfield 319, 3) := dk_180 1 63 (dk_at dksX2_nextLoad_1 10 rfl rfl)
theorem dX2_nextLoad_33 : decode cX2_nextLoad 33 = .ok (.aload_n 2, 1) := dk_44 (dk_at dksX2_nextLoad_1 13 rfl rfl)
theorem dX2_nextLoad_34 : decode cX2_nextLoad 34 = .ok (.getfield 242, 3) := dk_180 0 242 (dk_at dksX2_nextLoad_1 14 rfl rfl)
theorem dX2_nextLoad_37 : decode cX2_nextLoad 37 = .ok (.aload_n 2, 1) := dk_44 (dk_at dksX2_nextLoad_1 17 rfl rfl)
theorem dX2_nextLoad_38 : decode cX2_nextLoad 38 = .ok (.getfield 320, 3) := dk_180 1 64 (dk_at dksX2_nextLoad_1 18 rfl rfl)
theorem dX2_nextLoad_41 : decode cX2_nextLoad 41 = .ok (.iadd, 1) := dk_96 (dk_at dksX2_nextLoad_1 21 rfl rfl)
theorem dX2_nextLoad_42 : decode cX2_nextLoad 42 = .ok (.invokestatic 323, 3) := dk_184 1 67 (dk_at dksX2_nextLoad_2 0 rfl rfl)
theorem dX2_nextLoad_45 : decode cX2_nextLoad 45 = .ok (.istore_n 3, 1) := dk_62 (dk_at dksX2_nextLoad_2 3 rfl rfl)
theorem dX2_nextLoad_46 : decode cX2_nextLoad 46 = .ok (.iconst 0, 1) := dk_3 (dk_at dksX2_nextLoad_2 4 rfl rfl)
theorem dX2_nextLoad_47 : decode cX2_nextLoad 47 = .ok (.istore 4, 2) := dk_54 4 (dk_at dksX2_nextLoad_2 5 rfl rfl)
theorem dX2_nextLoad_49 : decode cX2_nextLoad 49 = .ok (.iload 4, 2) := dk_21 4 (dk_at dksX2_nextLoad_2 7 rfl rfl)
theorem dX2_nextLoad_51 : decode cX2_nextLoad 51 = .ok (.aload_n 1, 1) := dk_43 (dk_at dksX2_nextLoad_2 9 rfl rfl)
theorem dX2_nextLoad_52 : decode cX2_nextLoad 52 = .ok (.getfield 254, 3) := dk_180 0 254 (dk_at dksX2_nextLoad_2 10 rfl rfl)
theorem dX2_nextLoad_55 : decode cX2_nextLoad 55 = .ok (.if_icmp .ge 60, 3) := dk_162 0 60 (dk_at dksX2_nextLoad_2 13 rfl rfl)
theorem dX2_nextLoad_58 : decode cX2_nextLoad 58 = .ok (.aload_n 0, 1) := dk_42 (dk_at dksX2_nextLoad_2 16 rfl rfl)
theorem dX2_nextLoad_59 : decode cX2_nextLoad 59 = .ok (.getfield 35, 3) := dk_180 0 35 (dk_at dksX2_nextLoad_2 17 rfl rfl)
theorem dX2_nextLoad_62 : decode cX2_nextLoad 62 = .ok (.iload 4, 2) := dk_21 4 (dk_at dksX2_nextLoad_2 20 rfl rfl)
theorem dX2_nextLoad_64 : decode cX2_nextLoad 64 = .ok (.invokeinterface 185 2, 5) := by decide +kernel
theorem dX2_nextLoad_69 : decode cX2_nextLoad 69 = .ok (.checkcast 90, 3) := dk_192 0 90 (dk_at dksX2_nextLoad_3 5 rfl rfl)
theorem dX2_nextLoad_72 : decode cX2_nextLoad 72 = .ok (.astore 5, 2) := dk_58 5 (dk_at dksX2_nextLoad_3 8 rfl rfl)
theorem dX2_nextLoad_74 : decode cX2_nextLoad 74 = .ok (.aload 5, 2) := dk_25 5 (dk_at dksX2_nextLoad_3 10 rfl rfl)
theorem dX2_nextLoad_76 : decode cX2_nextLoad 76 = .ok (.getfield 99, 3) := dk_180 0 99 (dk_at dksX2_nextLoad_3 12 rfl rfl)
theorem dX2_nextLoad_79 : decode cX2_nextLoad 79 = .ok (.ifnull 30, 3) := dk_198 0 30 (dk_at dksX2_nextLoad_3 15 rfl rfl)
theorem dX2_nextLoad_82 : decode cX2_nextLoad 82 = .ok (.aload 5, 2) := dk_25 5 (dk_at dksX2_nextLoad_3 18 rfl rfl)
theorem dX2_nextLoad_84 : decode cX2_nextLoad 84 = .ok (.getfield 99, 3) := dk_180 0 99 (dk_at dksX2_nextLoad_3 20 rfl rfl)
theorem dX2_nextLoad_87 : decode cX2_nextLoad 87 = .ok (.getfield 229, 3) := dk_180 0 229 (dk_at dksX2_nextLoad_4 0 rfl rfl)
theorem dX2_nextLoad_90 : decode cX2_nextLoad 90 = .ok (.aload_n 2, 1) := dk_44 (dk_at dksX2_nextLoad_4 3 rfl rfl)
theorem dX2_nextLoad_91 : decode cX2_nextLoad 91 = .ok (.getfield 248, 3) := dk_180 0 248 (dk_at dksX2_nextLoad_4 4 rfl rfl)
theorem dX2_nextLoad_94 : decode cX2_nextLoad 94 = .ok (.if_icmp .ne 15, 3) := dk_160 0 15 (dk_at dksX2_nextLoad_4 7 rfl rfl)
theorem dX2_nextLoad_97 : decode cX2_nextLoad 97 = .ok (.iload_n 3, 1) := dk_29 (dk_at dksX2_nextLoad_4 10 rfl rfl)
theorem dX2_nextLoad_98 : decode cX2_nextLoad 98 = .ok (.iload_n 3, 1) := dk_29 (dk_at dksX2_nextLoad_4 11 rfl rfl)
theorem dX2_nextLoad_99 : decode cX2_nextLoad 99 = .ok (.aload 5, 2) := dk_25 5 (dk_at dksX2_nextLoad_4 12 rfl rfl)
theorem dX2_nextLoad_101 : decode cX2_nextLoad 101 = .ok (.getfield 135, 3) := dk_180 0 135 (dk_at dksX2_nextLoad_4 14 rfl rfl)
theorem dX2_nextLoad_104 : decode cX2_nextLoad 104 = .ok (.invokestatic 323, 3) := dk_184 1 67 (dk_at dksX2_nextLoad_4 17 rfl rfl)
theorem dX2_nextLoad_107 : decode cX2_nextLoad 107 = .ok (.isub, 1) := dk_100 (dk_at dksX2_nextLoad_4 20 rfl rfl)
theorem dX2_nextLoad_108 : decode cX2_nextLoad 108 = .ok (.istore_n 3, 1) := dk_62 (dk_at dksX2_nextLoad_4 21 rfl rfl)
theorem dX2_nextLoad_109 : decode cX2_nextLoad 109 = .ok (.iinc 4 1, 3) := dk_132 4 1 (dk_at dksX2_nextLoad_5 0 rfl rfl)
theorem dX2_nextLoad_112 : decode cX2_nextLoad 112 = .ok (.goto (-63), 3) := dk_167 255 193 (dk_at dksX2_nextLoad_5 3 rfl rfl)
theorem dX2_nextLoad_115 : decode cX2_nextLoad 115 = .ok (.iload_n 3, 1) := dk_29 (dk_at dksX2_nextLoad_5 6 rfl rfl)
theorem dX2_nextLoad_116 : decode cX2_nextLoad 116 = .ok (.aload_n 1, 1) := dk_43 (dk_at dksX2_nextLoad_5 7 rfl rfl)
theorem dX2_nextLoad_117 : decode cX2_nextLoad 117 = .ok (.getfield 135, 3) := dk_180 0 135 (dk_at dksX2_nextLoad_5 8 rfl rfl)
theorem dX2_nextLoad_120 : decode cX2_nextLoad 120 = .ok (.invokestatic 323, 3) := dk_184 1 67 (dk_at dksX2_nextLoad_5 11 rfl rfl)
theorem dX2_nextLoad_123 : decode cX2_nextLoad 123 = .ok (.ireturn, 1) := dk_172 (dk_at dksX2_nextLoad_5 14 rfl rfl)
abbrev cX2_outlook : ByteArray := prog_8_method_26_code
def yX2_outlook : MethodName := ⟨RX2, "outlook", "(LRoseGuild$Cart;)I"⟩
def dkwX2_outlook_3 : List UInt8 := [167, 0, 4, 6, 172]
abbrev dktX2_outlook_3 : List UInt8 := dkwX2_outlook_3 ++ []
def dkwX2_outlook_2 : List UInt8 := [180, 0, 232, 185, 0, 185, 2, 0, 192, 0, 189, 182, 0, 239, 42, 180, 0, 54, 164, 0, 7, 5]
abbrev dktX2_outlook_2 : List UInt8 := dkwX2_outlook_2 ++ dktX2_outlook_3
def dkwX2_outlook_1 : List UInt8 := [43, 180, 0, 99, 180, 0, 229, 185, 0, 185, 2, 0, 192, 0, 189, 42, 180, 0, 32, 43, 180, 0, 99]
abbrev dktX2_outlook_1 : List UInt8 := dkwX2_outlook_1 ++ dktX2_outlook_2
def dkwX2_outlook_0 : List UInt8 := [43, 180, 0, 99, 199, 0, 5, 3, 172, 42, 43, 182, 1, 73, 154, 0, 5, 4, 172, 43, 42, 180, 0, 28]
abbrev dktX2_outlook_0 : List UInt8 := dkwX2_outlook_0 ++ dktX2_outlook_1
theorem dksX2_outlook_0 : cX2_outlook.data.toList.drop 0 = dktX2_outlook_0 := by decide +kernel
theorem dksX2_outlook_1 : cX2_outlook.data.toList.drop 24 = dktX2_outlook_1 := dk_seg dksX2_outlook_0 24 rfl rfl
theorem dksX2_outlook_2 : cX2_outlook.data.toList.drop 47 = dktX2_outlook_2 := dk_seg dksX2_outlook_1 23 rfl rfl
theorem dksX2_outlook_3 : cX2_outlook.data.toList.drop 69 = dktX2_outlook_3 := dk_seg dksX2_outlook_2 22 rfl rfl
theorem dX2_outlook_0 : decode cX2_outlook 0 = .ok (.aload_n 1, 1) := dk_43 (dk_at dksX2_outlook_0 0 rfl rfl)
theorem dX2_outlook_1 : decode cX2_outlook 1 = .ok (.getfield 99, 3) := dk_180 0 99 (dk_at dksX2_outlook_0 1 rfl rfl)
theorem dX2_outlook_4 : decode cX2_outlook 4 = .ok (.ifnonnull 5, 3) := dk_199 0 5 (dk_at dksX2_outlook_0 4 rfl rfl)
theorem dX2_outlook_7 : decode cX2_outlook 7 = .ok (.iconst 0, 1) := dk_3 (dk_at dksX2_outlook_0 7 rfl rfl)
theorem dX2_outlook_8 : decode cX2_outlook 8 = .ok (.ireturn, 1) := dk_172 (dk_at dksX2_outlook_0 8 rfl rfl)
theorem dX2_outlook_9 : decode cX2_outlook 9 = .ok (.aload_n 0, 1) := dk_42 (dk_at dksX2_outlook_0 9 rfl rfl)
theorem dX2_outlook_10 : decode cX2_outlook 10 = .ok (.aload_n 1, 1) := dk_43 (dk_at dksX2_outlook_0 10 rfl rfl)
theorem dX2_outlook_11 : decode cX2_outlook 11 = .ok (.invokevirtual 329, 3) := dk_182 1 73 (dk_at dksX2_outlook_0 11 rfl rfl)
theorem dX2_outlook_14 : decode cX2_outlook 14 = .ok (.ifCond .ne 5, 3) := dk_154 0 5 (dk_at dksX2_outlook_0 14 rfl rfl)
theorem dX2_outlook_17 : decode cX2_outlook 17 = .ok (.iconst 1, 1) := dk_4 (dk_at dksX2_outlook_0 17 rfl rfl)
theorem dX2_outlook_18 : decode cX2_outlook 18 = .ok (.ireturn, 1) := dk_172 (dk_at dksX2_outlook_0 18 rfl rfl)
theorem dX2_outlook_19 : decode cX2_outlook 19 = .ok (.aload_n 1, 1) := dk_43 (dk_at dksX2_outlook_0 19 rfl rfl)
theorem dX2_outlook_20 : decode cX2_outlook 20 = .ok (.aload_n 0, 1) := dk_42 (dk_at dksX2_outlook_0 20 rfl rfl)
theorem dX2_outlook_21 : decode cX2_outlook 21 = .ok (.getfield 28, 3) := dk_180 0 28 (dk_at dksX2_outlook_0 21 rfl rfl)
theorem dX2_outlook_24 : decode cX2_outlook 24 = .ok (.aload_n 1, 1) := dk_43 (dk_at dksX2_outlook_1 0 rfl rfl)
theorem dX2_outlook_25 : decode cX2_outlook 25 = .ok (.getfield 99, 3) := dk_180 0 99 (dk_at dksX2_outlook_1 1 rfl rfl)
theorem dX2_outlook_28 : decode cX2_outlook 28 = .ok (.getfield 229, 3) := dk_180 0 229 (dk_at dksX2_outlook_1 4 rfl rfl)
theorem dX2_outlook_31 : decode cX2_outlook 31 = .ok (.invokeinterface 185 2, 5) := by decide +kernel
theorem dX2_outlook_36 : decode cX2_outlook 36 = .ok (.checkcast 189, 3) := dk_192 0 189 (dk_at dksX2_outlook_1 12 rfl rfl)
theorem dX2_outlook_39 : decode cX2_outlook 39 = .ok (.aload_n 0, 1) := dk_42 (dk_at dksX2_outlook_1 15 rfl rfl)
theorem dX2_outlook_40 : decode cX2_outlook 40 = .ok (.getfield 32, 3) := dk_180 0 32 (dk_at dksX2_outlook_1 16 rfl rfl)
theorem dX2_outlook_43 : decode cX2_outlook 43 = .ok (.aload_n 1, 1) := dk_43 (dk_at dksX2_outlook_1 19 rfl rfl)
theorem dX2_outlook_44 : decode cX2_outlook 44 = .ok (.getfield 99, 3) := dk_180 0 99 (dk_at dksX2_outlook_1 20 rfl rfl)
theorem dX2_outlook_47 : decode cX2_outlook 47 = .ok (.getfield 232, 3) := dk_180 0 232 (dk_at dksX2_outlook_2 0 rfl rfl)
theorem dX2_outlook_50 : decode cX2_outlook 50 = .ok (.invokeinterface 185 2, 5) := by decide +kernel
theorem dX2_outlook_55 : decode cX2_outlook 55 = .ok (.checkcast 189, 3) := dk_192 0 189 (dk_at dksX2_outlook_2 8 rfl rfl)
theorem dX2_outlook_58 : decode cX2_outlook 58 = .ok (.invokevirtual 239, 3) := dk_182 0 239 (dk_at dksX2_outlook_2 11 rfl rfl)
theorem dX2_outlook_61 : decode cX2_outlook 61 = .ok (.aload_n 0, 1) := dk_42 (dk_at dksX2_outlook_2 14 rfl rfl)
theorem dX2_outlook_62 : decode cX2_outlook 62 = .ok (.getfield 54, 3) := dk_180 0 54 (dk_at dksX2_outlook_2 15 rfl rfl)
theorem dX2_outlook_65 : decode cX2_outlook 65 = .ok (.if_icmp .le 7, 3) := dk_164 0 7 (dk_at dksX2_outlook_2 18 rfl rfl)
theorem dX2_outlook_68 : decode cX2_outlook 68 = .ok (.iconst 2, 1) := dk_5 (dk_at dksX2_outlook_2 21 rfl rfl)
theorem dX2_outlook_69 : decode cX2_outlook 69 = .ok (.goto 4, 3) := dk_167 0 4 (dk_at dksX2_outlook_3 0 rfl rfl)
theorem dX2_outlook_72 : decode cX2_outlook 72 = .ok (.iconst 3, 1) := dk_6 (dk_at dksX2_outlook_3 3 rfl rfl)
theorem dX2_outlook_73 : decode cX2_outlook 73 = .ok (.ireturn, 1) := dk_172 (dk_at dksX2_outlook_3 4 rfl rfl)
abbrev cX2_allPetals : ByteArray := prog_8_method_27_code
def yX2_allPetals : MethodName := ⟨RX2, "allPetals", "()I"⟩
def dkwX2_allPetals_1 : List UInt8 := [185, 0, 116, 1, 0, 192, 0, 88, 78, 27, 45, 180, 1, 77, 96, 60, 167, 255, 230, 27, 172]
abbrev dktX2_allPetals_1 : List UInt8 := dkwX2_allPetals_1 ++ []
def dkwX2_allPetals_0 : List UInt8 := [3, 60, 42, 180, 0, 32, 185, 0, 106, 1, 0, 77, 44, 185, 0, 110, 1, 0, 153, 0, 23, 44]
abbrev dktX2_allPetals_0 : List UInt8 := dkwX2_allPetals_0 ++ dktX2_allPetals_1
theorem dksX2_allPetals_0 : cX2_allPetals.data.toList.drop 0 = dktX2_allPetals_0 := by decide +kernel
theorem dksX2_allPetals_1 : cX2_allPetals.data.toList.drop 22 = dktX2_allPetals_1 := dk_seg dksX2_allPetals_0 22 rfl rfl
theorem dX2_allPetals_0 : decode cX2_allPetals 0 = .ok (.iconst 0, 1) := dk_3 (dk_at dksX2_allPetals_0 0 rfl rfl)
theorem dX2_allPetals_1 : decode cX2_allPetals 1 = .ok (.istore_n 1, 1) := dk_60 (dk_at dksX2_allPetals_0 1 rfl rfl)
theorem dX2_allPetals_2 : decode cX2_allPetals 2 = .ok (.aload_n 0, 1) := dk_42 (dk_at dksX2_allPetals_0 2 rfl rfl)
theorem dX2_allPetals_3 : decode cX2_allPetals 3 = .ok (.getfield 32, 3) := dk_180 0 32 (dk_at dksX2_allPetals_0 3 rfl rfl)
theorem dX2_allPetals_6 : decode cX2_allPetals 6 = .ok (.invokeinterface 106 1, 5) := by decide +kernel
theorem dX2_allPetals_11 : decode cX2_allPetals 11 = .ok (.astore_n 2, 1) := dk_77 (dk_at dksX2_allPetals_0 11 rfl rfl)
theorem dX2_allPetals_12 : decode cX2_allPetals 12 = .ok (.aload_n 2, 1) := dk_44 (dk_at dksX2_allPetals_0 12 rfl rfl)
theorem dX2_allPetals_13 : decode cX2_allPetals 13 = .ok (.invokeinterface 110 1, 5) := by decide +kernel
theorem dX2_allPetals_18 : decode cX2_allPetals 18 = .ok (.ifCond .eq 23, 3) := dk_153 0 23 (dk_at dksX2_allPetals_0 18 rfl rfl)
theorem dX2_allPetals_21 : decode cX2_allPetals 21 = .ok (.aload_n 2, 1) := dk_44 (dk_at dksX2_allPetals_0 21 rfl rfl)
theorem dX2_allPetals_22 : decode cX2_allPetals 22 = .ok (.invokeinterface 116 1, 5) := by decide +kernel
theorem dX2_allPetals_27 : decode cX2_allPetals 27 = .ok (.checkcast 88, 3) := dk_192 0 88 (dk_at dksX2_allPetals_1 5 rfl rfl)
theorem dX2_allPetals_30 : decode cX2_allPetals 30 = .ok (.astore_n 3, 1) := dk_78 (dk_at dksX2_allPetals_1 8 rfl rfl)
theorem dX2_allPetals_31 : decode cX2_allPetals 31 = .ok (.iload_n 1, 1) := dk_27 (dk_at dksX2_allPetals_1 9 rfl rfl)
theorem dX2_allPetals_32 : decode cX2_allPetals 32 = .ok (.aload_n 3, 1) := dk_45 (dk_at dksX2_allPetals_1 10 rfl rfl)
theorem dX2_allPetals_33 : decode cX2_allPetals 33 = .ok (.getfield 333, 3) := dk_180 1 77 (dk_at dksX2_allPetals_1 11 rfl rfl)
theorem dX2_allPetals_36 : decode cX2_allPetals 36 = .ok (.iadd, 1) := dk_96 (dk_at dksX2_allPetals_1 14 rfl rfl)
theorem dX2_allPetals_37 : decode cX2_allPetals 37 = .ok (.istore_n 1, 1) := dk_60 (dk_at dksX2_allPetals_1 15 rfl rfl)
theorem dX2_allPetals_38 : decode cX2_allPetals 38 = .ok (.goto (-26), 3) := dk_167 255 230 (dk_at dksX2_allPetals_1 16 rfl rfl)
theorem dX2_allPetals_41 : decode cX2_allPetals 41 = .ok (.iload_n 1, 1) := dk_27 (dk_at dksX2_allPetals_1 19 rfl rfl)
theorem dX2_allPetals_42 : decode cX2_allPetals 42 = .ok (.ireturn, 1) := dk_172 (dk_at dksX2_allPetals_1 20 rfl rfl)
theorem q139 : (Jvm.Cond.initialized "RoseGuild$Guild") ∈ lw_all := lw_g (lw_at lw_m1 4 rfl) rfl
theorem q242 : (Jvm.Cond.instantiable "RoseGuild$Guild" (20 : Nat)) ∈ lw_all := lw_g (lw_at lw_m1 107 rfl) rfl
theorem q244 : (Jvm.Cond.instanceMethod ({ cls := "RoseGuild$Guild", name := "<init>", desc := "(IIIII)V" } : Jvm.MethodName)) ∈ lw_all := lw_g (lw_at lw_m1 109 rfl) rfl
theorem q245 : (Jvm.Cond.code ({ cls := "RoseGuild$Guild", name := "<init>", desc := "(IIIII)V" } : Jvm.MethodName) prog_8_method_1_code (6 : Nat) (Option.none : Option Jvm.ClassFile.FieldType)) ∈ lw_all := lw_g (lw_at lw_m1 110 rfl) rfl
theorem q246 : (Jvm.Cond.methodLink "RoseGuild$Guild" (3 : Nat) ({ cls := "java/lang/Object", name := "<init>", desc := "()V" } : Jvm.MethodName)) ∈ lw_all := lw_g (lw_at lw_m1 111 rfl) rfl
theorem q247 : (Jvm.Cond.classLink "RoseGuild$Guild" (9 : Nat) "java/util/LinkedHashMap") ∈ lw_all := lw_g (lw_at lw_m1 112 rfl) rfl
theorem q249 : (Jvm.Cond.methodLink "RoseGuild$Guild" (11 : Nat) ({ cls := "java/util/LinkedHashMap", name := "<init>", desc := "()V" } : Jvm.MethodName)) ∈ lw_all := lw_g (lw_at lw_m1 114 rfl) rfl
theorem q296 : (Jvm.Cond.classLink "RoseGuild$Guild" (18 : Nat) "java/util/LinkedHashSet") ∈ lw_all := lw_g (lw_at lw_m1 161 rfl) rfl
theorem q298 : (Jvm.Cond.methodLink "RoseGuild$Guild" (20 : Nat) ({ cls := "java/util/LinkedHashSet", name := "<init>", desc := "()V" } : Jvm.MethodName)) ∈ lw_all := lw_g (lw_at lw_m1 163 rfl) rfl
theorem q973 : (Jvm.Cond.selects "RoseGuild$Guild" ({ cls := "java/lang/Object", name := "toString", desc := "()Ljava/lang/String;" } : Jvm.MethodName) ({ cls := "java/lang/Object", name := "toString", desc := "()Ljava/lang/String;" } : Jvm.MethodName)) ∈ lw_all := lw_g (lw_at lw_m4 118 rfl) rfl
theorem q990 : (Jvm.Cond.selects "RoseGuild$Guild" ({ cls := "java/lang/Object", name := "getClass", desc := "()Ljava/lang/Class;" } : Jvm.MethodName) ({ cls := "java/lang/Object", name := "getClass", desc := "()Ljava/lang/Class;" } : Jvm.MethodName)) ∈ lw_all := lw_g (lw_at lw_m4 135 rfl) rfl
theorem q1139 : (Jvm.Cond.classLink "RoseGuild$Guild" (25 : Nat) "java/util/ArrayList") ∈ lw_all := lw_g (lw_at lw_m5 44 rfl) rfl
theorem q1141 : (Jvm.Cond.methodLink "RoseGuild$Guild" (27 : Nat) ({ cls := "java/util/ArrayList", name := "<init>", desc := "()V" } : Jvm.MethodName)) ∈ lw_all := lw_g (lw_at lw_m5 46 rfl) rfl
theorem q1169 : (Jvm.Cond.classLink "RoseGuild$Guild" (38 : Nat) "java/util/LinkedList") ∈ lw_all := lw_g (lw_at lw_m5 74 rfl) rfl
theorem q1171 : (Jvm.Cond.methodLink "RoseGuild$Guild" (40 : Nat) ({ cls := "java/util/LinkedList", name := "<init>", desc := "()V" } : Jvm.MethodName)) ∈ lw_all := lw_g (lw_at lw_m5 76 rfl) rfl
theorem q1190 : (Jvm.Cond.classLink "RoseGuild$Guild" (45 : Nat) "java/util/BitSet") ∈ lw_all := lw_g (lw_at lw_m5 95 rfl) rfl
theorem q1192 : (Jvm.Cond.methodLink "RoseGuild$Guild" (47 : Nat) ({ cls := "java/util/BitSet", name := "<init>", desc := "(I)V" } : Jvm.MethodName)) ∈ lw_all := lw_g (lw_at lw_m5 97 rfl) rfl
theorem q1214 : (Jvm.Cond.fieldLink "RoseGuild$Guild" (54 : Nat) "RoseGuild$Guild" "hours" "I") ∈ lw_all := lw_g (lw_at lw_m5 119 rfl) rfl
theorem q1215 : (Jvm.Cond.fieldLink "RoseGuild$Guild" (61 : Nat) "RoseGuild$Guild" "fine" "I") ∈ lw_all := lw_g (lw_at lw_m5 120 rfl) rfl
theorem q1216 : (Jvm.Cond.fieldLink "RoseGuild$Guild" (64 : Nat) "RoseGuild$Guild" "prize" "I") ∈ lw_all := lw_g (lw_at lw_m5 121 rfl) rfl
theorem q1217 : (Jvm.Cond.fieldLink "RoseGuild$Guild" (12 : Nat) "RoseGuild$Guild" "streetsByPoint" "Ljava/util/LinkedHashMap;") ∈ lw_all := lw_g (lw_at lw_m5 122 rfl) rfl
theorem q1219 : (Jvm.Cond.fieldLink "RoseGuild$Guild" (21 : Nat) "RoseGuild$Guild" "occupied" "Ljava/util/LinkedHashSet;") ∈ lw_all := lw_g (lw_at lw_m5 124 rfl) rfl
theorem q1221 : (Jvm.Cond.fieldLink "RoseGuild$Guild" (28 : Nat) "RoseGuild$Guild" "streets" "Ljava/util/List;") ∈ lw_all := lw_g (lw_at lw_m5 126 rfl) rfl
theorem q1225 : (Jvm.Cond.fieldLink "RoseGuild$Guild" (32 : Nat) "RoseGuild$Guild" "gardens" "Ljava/util/List;") ∈ lw_all := lw_g (lw_at lw_m5 130 rfl) rfl
theorem q1229 : (Jvm.Cond.fieldLink "RoseGuild$Guild" (35 : Nat) "RoseGuild$Guild" "carts" "Ljava/util/List;") ∈ lw_all := lw_g (lw_at lw_m5 134 rfl) rfl
theorem q1232 : (Jvm.Cond.fieldLink "RoseGuild$Guild" (41 : Nat) "RoseGuild$Guild" "recent" "Ljava/util/LinkedList;") ∈ lw_all := lw_g (lw_at lw_m5 137 rfl) rfl
theorem q1233 : (Jvm.Cond.fieldLink "RoseGuild$Guild" (50 : Nat) "RoseGuild$Guild" "served" "Ljava/util/BitSet;") ∈ lw_all := lw_g (lw_at lw_m5 138 rfl) rfl
theorem q1235 : (Jvm.Cond.fieldLink "RoseGuild$Guild" (161 : Nat) "RoseGuild$Guild" "night" "I") ∈ lw_all := lw_g (lw_at lw_m5 140 rfl) rfl
theorem q1237 : (Jvm.Cond.fieldLink "RoseGuild$Guild" (58 : Nat) "RoseGuild$Guild" "price" "I") ∈ lw_all := lw_g (lw_at lw_m5 142 rfl) rfl
theorem q1239 : (Jvm.Cond.fieldLink "RoseGuild$Guild" (67 : Nat) "RoseGuild$Guild" "windOffset" "I") ∈ lw_all := lw_g (lw_at lw_m5 144 rfl) rfl
theorem q1240 : (Jvm.Cond.fieldLink "RoseGuild$Guild" (164 : Nat) "RoseGuild$Guild" "balance" "I") ∈ lw_all := lw_g (lw_at lw_m5 145 rfl) rfl
theorem q1242 : (Jvm.Cond.fieldLink "RoseGuild$Guild" (167 : Nat) "RoseGuild$Guild" "deliveries" "I") ∈ lw_all := lw_g (lw_at lw_m5 147 rfl) rfl
theorem q1244 : (Jvm.Cond.fieldLink "RoseGuild$Guild" (170 : Nat) "RoseGuild$Guild" "delivered" "I") ∈ lw_all := lw_g (lw_at lw_m5 149 rfl) rfl
theorem q1246 : (Jvm.Cond.fieldLink "RoseGuild$Guild" (173 : Nat) "RoseGuild$Guild" "late" "I") ∈ lw_all := lw_g (lw_at lw_m5 151 rfl) rfl
theorem q1248 : (Jvm.Cond.fieldLink "RoseGuild$Guild" (176 : Nat) "RoseGuild$Guild" "earned" "I") ∈ lw_all := lw_g (lw_at lw_m5 153 rfl) rfl
theorem q1249 : (Jvm.Cond.fieldLink "RoseGuild$Guild" (179 : Nat) "RoseGuild$Guild" "fines" "I") ∈ lw_all := lw_g (lw_at lw_m5 154 rfl) rfl
theorem q1250 : (Jvm.Cond.fieldLink "RoseGuild$Guild" (182 : Nat) "RoseGuild$Guild" "prizes" "I") ∈ lw_all := lw_g (lw_at lw_m5 155 rfl) rfl
theorem q1251 : (Jvm.Cond.laysFinal "RoseGuild$Guild" "RoseGuild$Guild" "hours" "I") ∈ lw_all := lw_g (lw_at lw_m5 156 rfl) rfl
theorem q1252 : (Jvm.Cond.soleField "RoseGuild$Guild" "hours") ∈ lw_all := lw_g (lw_at lw_m5 157 rfl) rfl
theorem q1253 : (Jvm.Cond.laysFinal "RoseGuild$Guild" "RoseGuild$Guild" "fine" "I") ∈ lw_all := lw_g (lw_at lw_m5 158 rfl) rfl
theorem q1254 : (Jvm.Cond.soleField "RoseGuild$Guild" "fine") ∈ lw_all := lw_g (lw_at lw_m5 159 rfl) rfl
theorem q1255 : (Jvm.Cond.laysFinal "RoseGuild$Guild" "RoseGuild$Guild" "prize" "I") ∈ lw_all := lw_g (lw_at lw_m5 160 rfl) rfl
theorem q1256 : (Jvm.Cond.soleField "RoseGuild$Guild" "prize") ∈ lw_all := lw_g (lw_at lw_m5 161 rfl) rfl
theorem q1257 : (Jvm.Cond.laysFinal "RoseGuild$Guild" "RoseGuild$Guild" "streetsByPoint" "Ljava/util/LinkedHashMap;") ∈ lw_all := lw_g (lw_at lw_m5 162 rfl) rfl
theorem q1258 : (Jvm.Cond.soleField "RoseGuild$Guild" "streetsByPoint") ∈ lw_all := lw_g (lw_at lw_m5 163 rfl) rfl
theorem q1259 : (Jvm.Cond.laysFinal "RoseGuild$Guild" "RoseGuild$Guild" "occupied" "Ljava/util/LinkedHashSet;") ∈ lw_all := lw_g (lw_at lw_m5 164 rfl) rfl
theorem q1260 : (Jvm.Cond.soleField "RoseGuild$Guild" "occupied") ∈ lw_all := lw_g (lw_at lw_m5 165 rfl) rfl
theorem q1261 : (Jvm.Cond.laysFinal "RoseGuild$Guild" "RoseGuild$Guild" "streets" "Ljava/util/List;") ∈ lw_all := lw_g (lw_at lw_m5 166 rfl) rfl
theorem q1262 : (Jvm.Cond.soleField "RoseGuild$Guild" "streets") ∈ lw_all := lw_g (lw_at lw_m5 167 rfl) rfl
theorem q1263 : (Jvm.Cond.laysFinal "RoseGuild$Guild" "RoseGuild$Guild" "gardens" "Ljava/util/List;") ∈ lw_all := lw_g (lw_at lw_m5 168 rfl) rfl
theorem q1264 : (Jvm.Cond.soleField "RoseGuild$Guild" "gardens") ∈ lw_all := lw_g (lw_at lw_m5 169 rfl) rfl
theorem q1265 : (Jvm.Cond.laysFinal "RoseGuild$Guild" "RoseGuild$Guild" "carts" "Ljava/util/List;") ∈ lw_all := lw_g (lw_at lw_m5 170 rfl) rfl
theorem q1266 : (Jvm.Cond.soleField "RoseGuild$Guild" "carts") ∈ lw_all := lw_g (lw_at lw_m5 171 rfl) rfl
theorem q1267 : (Jvm.Cond.laysFinal "RoseGuild$Guild" "RoseGuild$Guild" "recent" "Ljava/util/LinkedList;") ∈ lw_all := lw_g (lw_at lw_m5 172 rfl) rfl
theorem q1268 : (Jvm.Cond.soleField "RoseGuild$Guild" "recent") ∈ lw_all := lw_g (lw_at lw_m5 173 rfl) rfl
theorem q1269 : (Jvm.Cond.laysFinal "RoseGuild$Guild" "RoseGuild$Guild" "served" "Ljava/util/BitSet;") ∈ lw_all := lw_g (lw_at lw_m5 174 rfl) rfl
theorem q1270 : (Jvm.Cond.soleField "RoseGuild$Guild" "served") ∈ lw_all := lw_g (lw_at lw_m5 175 rfl) rfl
theorem q1271 : (Jvm.Cond.lays "RoseGuild$Guild" "RoseGuild$Guild" "night" "I") ∈ lw_all := lw_g (lw_at lw_m5 176 rfl) rfl
theorem q1272 : (Jvm.Cond.soleField "RoseGuild$Guild" "night") ∈ lw_all := lw_g (lw_at lw_m5 177 rfl) rfl
theorem q1273 : (Jvm.Cond.lays "RoseGuild$Guild" "RoseGuild$Guild" "price" "I") ∈ lw_all := lw_g (lw_at lw_m5 178 rfl) rfl
theorem q1274 : (Jvm.Cond.soleField "RoseGuild$Guild" "price") ∈ lw_all := lw_g (lw_at lw_m5 179 rfl) rfl
theorem q1275 : (Jvm.Cond.lays "RoseGuild$Guild" "RoseGuild$Guild" "windOffset" "I") ∈ lw_all := lw_g (lw_at lw_m5 180 rfl) rfl
theorem q1276 : (Jvm.Cond.soleField "RoseGuild$Guild" "windOffset") ∈ lw_all := lw_g (lw_at lw_m5 181 rfl) rfl
theorem q1277 : (Jvm.Cond.lays "RoseGuild$Guild" "RoseGuild$Guild" "balance" "I") ∈ lw_all := lw_g (lw_at lw_m5 182 rfl) rfl
theorem q1278 : (Jvm.Cond.soleField "RoseGuild$Guild" "balance") ∈ lw_all := lw_g (lw_at lw_m5 183 rfl) rfl
theorem q1279 : (Jvm.Cond.lays "RoseGuild$Guild" "RoseGuild$Guild" "deliveries" "I") ∈ lw_all := lw_g (lw_at lw_m5 184 rfl) rfl
theorem q1280 : (Jvm.Cond.soleField "RoseGuild$Guild" "deliveries") ∈ lw_all := lw_g (lw_at lw_m5 185 rfl) rfl
theorem q1281 : (Jvm.Cond.lays "RoseGuild$Guild" "RoseGuild$Guild" "delivered" "I") ∈ lw_all := lw_g (lw_at lw_m5 186 rfl) rfl
theorem q1282 : (Jvm.Cond.soleField "RoseGuild$Guild" "delivered") ∈ lw_all := lw_g (lw_at lw_m5 187 rfl) rfl
theorem q1283 : (Jvm.Cond.lays "RoseGuild$Guild" "RoseGuild$Guild" "late" "I") ∈ lw_all := lw_g (lw_at lw_m5 188 rfl) rfl
theorem q1284 : (Jvm.Cond.soleField "RoseGuild$Guild" "late") ∈ lw_all := lw_g (lw_at lw_m5 189 rfl) rfl
theorem q1285 : (Jvm.Cond.lays "RoseGuild$Guild" "RoseGuild$Guild" "earned" "I") ∈ lw_all := lw_g (lw_at lw_m5 190 rfl) rfl
theorem q1286 : (Jvm.Cond.soleField "RoseGuild$Guild" "earned") ∈ lw_all := lw_g (lw_at lw_m5 191 rfl) rfl
theorem q1287 : (Jvm.Cond.lays "RoseGuild$Guild" "RoseGuild$Guild" "fines" "I") ∈ lw_all := lw_g (lw_at lw_m5 192 rfl) rfl
theorem q1288 : (Jvm.Cond.soleField "RoseGuild$Guild" "fines") ∈ lw_all := lw_g (lw_at lw_m5 193 rfl) rfl
theorem q1289 : (Jvm.Cond.lays "RoseGuild$Guild" "RoseGuild$Guild" "prizes" "I") ∈ lw_all := lw_g (lw_at lw_m5 194 rfl) rfl
theorem q1290 : (Jvm.Cond.soleField "RoseGuild$Guild" "prizes") ∈ lw_all := lw_g (lw_at lw_m5 195 rfl) rfl
theorem q1291 : (Jvm.Cond.superclass "RoseGuild$Guild" "java/lang/Object") ∈ lw_all := lw_g (lw_at lw_m5 196 rfl) rfl
theorem q1315 : (Jvm.Cond.fieldLinkNest "RoseGuild$Guild" (248 : Nat) "RoseGuild$Street" "number" "I" "RoseGuild") ∈ lw_tbl := lw_at lw_m5 220 rfl
theorem q1318 : (Jvm.Cond.fieldLinkNest "RoseGuild$Guild" (320 : Nat) "RoseGuild$Street" "households" "I" "RoseGuild") ∈ lw_tbl := lw_at lw_m5 223 rfl
theorem q1320 : (Jvm.Cond.fieldLinkNest "RoseGuild$Guild" (319 : Nat) "RoseGuild$Street" "capacity" "I" "RoseGuild") ∈ lw_tbl := lw_at lw_m5 225 rfl
theorem q1322 : (Jvm.Cond.fieldLinkNest "RoseGuild$Guild" (358 : Nat) "RoseGuild$Street" "name" "Ljava/lang/String;" "RoseGuild") ∈ lw_tbl := lw_at lw_m5 227 rfl
theorem q1324 : (Jvm.Cond.fieldLinkNest "RoseGuild$Guild" (76 : Nat) "RoseGuild$Street" "point" "LRoseGuild$Point;" "RoseGuild") ∈ lw_tbl := lw_at lw_m5 229 rfl
theorem q1327 : (Jvm.Cond.fieldLinkNest "RoseGuild$Guild" (242 : Nat) "RoseGuild$Street" "bins" "I" "RoseGuild") ∈ lw_tbl := lw_at lw_m5 232 rfl
theorem q1331 : (Jvm.Cond.fieldLinkNest "RoseGuild$Guild" (336 : Nat) "RoseGuild$Street" "spilled" "I" "RoseGuild") ∈ lw_tbl := lw_at lw_m5 236 rfl
theorem q1333 : (Jvm.Cond.fieldLinkNest "RoseGuild$Guild" (218 : Nat) "RoseGuild$Street" "complaints" "I" "RoseGuild") ∈ lw_tbl := lw_at lw_m5 238 rfl
theorem q1353 : (Jvm.Cond.instanceMethod ({ cls := "RoseGuild$Guild", name := "addStreet", desc := "(LRoseGuild$Street;)V" } : Jvm.MethodName)) ∈ lw_all := lw_g (lw_at lw_m6 18 rfl) rfl
theorem q1354 : (Jvm.Cond.selects "RoseGuild$Guild" ({ cls := "RoseGuild$Guild", name := "addStreet", desc := "(LRoseGuild$Street;)V" } : Jvm.MethodName) ({ cls := "RoseGuild$Guild", name := "addStreet", desc := "(LRoseGuild$Street;)V" } : Jvm.MethodName)) ∈ lw_all := lw_g (lw_at lw_m6 19 rfl) rfl
theorem q1355 : (Jvm.Cond.code ({ cls := "RoseGuild$Guild", name := "addStreet", desc := "(LRoseGuild$Street;)V" } : Jvm.MethodName) prog_8_method_2_code (4 : Nat) (Option.none : Option Jvm.ClassFile.FieldType)) ∈ lw_all := lw_g (lw_at lw_m6 20 rfl) rfl
theorem q1356 : (Jvm.Cond.interfaceEntry "RoseGuild$Guild" (70 : Nat)) ∈ lw_tbl := lw_at lw_m6 21 rfl
theorem q1357 : (Jvm.Cond.methodLink "RoseGuild$Guild" (70 : Nat) ({ cls := "java/util/List", name := "add", desc := "(Ljava/lang/Object;)Z" } : Jvm.MethodName)) ∈ lw_all := lw_g (lw_at lw_m6 22 rfl) rfl
theorem q1421 : (Jvm.Cond.methodLink "RoseGuild$Guild" (82 : Nat) ({ cls := "java/util/LinkedHashSet", name := "add", desc := "(Ljava/lang/Object;)Z" } : Jvm.MethodName)) ∈ lw_all := lw_g (lw_at lw_m6 86 rfl) rfl
theorem q1447 : (Jvm.Cond.selects "RoseGuild$Guild" ({ cls := "java/lang/Object", name := "hashCode", desc := "()I" } : Jvm.MethodName) ({ cls := "java/lang/Object", name := "hashCode", desc := "()I" } : Jvm.MethodName)) ∈ lw_all := lw_g (lw_at lw_m6 112 rfl) rfl
theorem q1865 : (Jvm.Cond.selects "RoseGuild$Guild" ({ cls := "java/lang/Object", name := "equals", desc := "(Ljava/lang/Object;)Z" } : Jvm.MethodName) ({ cls := "java/lang/Object", name := "equals", desc := "(Ljava/lang/Object;)Z" } : Jvm.MethodName)) ∈ lw_all := lw_g (lw_at lw_m8 50 rfl) rfl
theorem q1978 : (Jvm.Cond.methodLink "RoseGuild$Guild" (83 : Nat) ({ cls := "java/util/LinkedHashMap", name := "put", desc := "(Ljava/lang/Object;Ljava/lang/Object;)Ljava/lang/Object;" } : Jvm.MethodName)) ∈ lw_all := lw_g (lw_at lw_m8 163 rfl) rfl
theorem q1982 : (Jvm.Cond.classLink "RoseGuild$Guild" (77 : Nat) "RoseGuild$Street") ∈ lw_all := lw_g (lw_at lw_m8 167 rfl) rfl
theorem q1993 : (Jvm.Cond.fieldLinkNest "RoseGuild$Guild" (269 : Nat) "RoseGuild$Garden" "number" "I" "RoseGuild") ∈ lw_tbl := lw_at lw_m8 178 rfl
theorem q1997 : (Jvm.Cond.fieldLinkNest "RoseGuild$Guild" (365 : Nat) "RoseGuild$Garden" "name" "Ljava/lang/String;" "RoseGuild") ∈ lw_tbl := lw_at lw_m8 182 rfl
theorem q1999 : (Jvm.Cond.fieldLinkNest "RoseGuild$Guild" (87 : Nat) "RoseGuild$Garden" "point" "LRoseGuild$Point;" "RoseGuild") ∈ lw_tbl := lw_at lw_m8 184 rfl
theorem q2001 : (Jvm.Cond.fieldLinkNest "RoseGuild$Guild" (245 : Nat) "RoseGuild$Garden" "stock" "I" "RoseGuild") ∈ lw_tbl := lw_at lw_m8 186 rfl
theorem q2004 : (Jvm.Cond.fieldLinkNest "RoseGuild$Guild" (333 : Nat) "RoseGuild$Garden" "petals" "I" "RoseGuild") ∈ lw_tbl := lw_at lw_m8 189 rfl
theorem q2007 : (Jvm.Cond.fieldLinkNest "RoseGuild$Guild" (266 : Nat) "RoseGuild$Garden" "recentPetals" "I" "RoseGuild") ∈ lw_tbl := lw_at lw_m8 192 rfl
theorem q2009 : (Jvm.Cond.fieldLinkNest "RoseGuild$Guild" (339 : Nat) "RoseGuild$Garden" "rotted" "I" "RoseGuild") ∈ lw_tbl := lw_at lw_m8 194 rfl
theorem q2012 : (Jvm.Cond.fieldLinkNest "RoseGuild$Guild" (273 : Nat) "RoseGuild$Garden" "prizes" "I" "RoseGuild") ∈ lw_tbl := lw_at lw_m8 197 rfl
theorem q2034 : (Jvm.Cond.instanceMethod ({ cls := "RoseGuild$Guild", name := "addGarden", desc := "(LRoseGuild$Garden;)V" } : Jvm.MethodName)) ∈ lw_all := lw_g (lw_at lw_m8 219 rfl) rfl
theorem q2035 : (Jvm.Cond.selects "RoseGuild$Guild" ({ cls := "RoseGuild$Guild", name := "addGarden", desc := "(LRoseGuild$Garden;)V" } : Jvm.MethodName) ({ cls := "RoseGuild$Guild", name := "addGarden", desc := "(LRoseGuild$Garden;)V" } : Jvm.MethodName)) ∈ lw_all := lw_g (lw_at lw_m8 220 rfl) rfl
theorem q2036 : (Jvm.Cond.code ({ cls := "RoseGuild$Guild", name := "addGarden", desc := "(LRoseGuild$Garden;)V" } : Jvm.MethodName) prog_8_method_3_code (3 : Nat) (Option.none : Option Jvm.ClassFile.FieldType)) ∈ lw_all := lw_g (lw_at lw_m8 221 rfl) rfl
theorem q2039 : (Jvm.Cond.instanceMethod ({ cls := "RoseGuild$Guild", name := "addCart", desc := "(IILRoseGuild$Contract;)V" } : Jvm.MethodName)) ∈ lw_all := lw_g (lw_at lw_m8 224 rfl) rfl
theorem q2040 : (Jvm.Cond.selects "RoseGuild$Guild" ({ cls := "RoseGuild$Guild", name := "addCart", desc := "(IILRoseGuild$Contract;)V" } : Jvm.MethodName) ({ cls := "RoseGuild$Guild", name := "addCart", desc := "(IILRoseGuild$Contract;)V" } : Jvm.MethodName)) ∈ lw_all := lw_g (lw_at lw_m8 225 rfl) rfl
theorem q2041 : (Jvm.Cond.code ({ cls := "RoseGuild$Guild", name := "addCart", desc := "(IILRoseGuild$Contract;)V" } : Jvm.MethodName) prog_8_method_4_code (6 : Nat) (Option.none : Option Jvm.ClassFile.FieldType)) ∈ lw_all := lw_g (lw_at lw_m8 226 rfl) rfl
theorem q2042 : (Jvm.Cond.classLink "RoseGuild$Guild" (90 : Nat) "RoseGuild$Cart") ∈ lw_all := lw_g (lw_at lw_m8 227 rfl) rfl
theorem q2044 : (Jvm.Cond.interfaceEntry "RoseGuild$Guild" (92 : Nat)) ∈ lw_tbl := lw_at lw_m8 229 rfl
theorem q2045 : (Jvm.Cond.methodLink "RoseGuild$Guild" (92 : Nat) ({ cls := "java/util/List", name := "size", desc := "()I" } : Jvm.MethodName)) ∈ lw_all := lw_g (lw_at lw_m8 230 rfl) rfl
theorem q2058 : (Jvm.Cond.methodLink "RoseGuild$Guild" (96 : Nat) ({ cls := "RoseGuild$Cart", name := "<init>", desc := "(III)V" } : Jvm.MethodName)) ∈ lw_all := lw_g (lw_at lw_m9 3 rfl) rfl
theorem q2063 : (Jvm.Cond.fieldLinkNest "RoseGuild$Guild" (254 : Nat) "RoseGuild$Cart" "number" "I" "RoseGuild") ∈ lw_tbl := lw_at lw_m9 8 rfl
theorem q2065 : (Jvm.Cond.fieldLinkNest "RoseGuild$Guild" (135 : Nat) "RoseGuild$Cart" "capacity" "I" "RoseGuild") ∈ lw_tbl := lw_at lw_m9 10 rfl
theorem q2067 : (Jvm.Cond.fieldLinkNest "RoseGuild$Guild" (138 : Nat) "RoseGuild$Cart" "speed" "I" "RoseGuild") ∈ lw_tbl := lw_at lw_m9 12 rfl
theorem q2068 : (Jvm.Cond.fieldLinkNest "RoseGuild$Guild" (99 : Nat) "RoseGuild$Cart" "contract" "LRoseGuild$Contract;" "RoseGuild") ∈ lw_tbl := lw_at lw_m9 13 rfl
theorem q2286 : (Jvm.Cond.static ({ cls := "RoseGuild$Guild", name := "find", desc := "(Ljava/util/List;Ljava/lang/String;)I" } : Jvm.MethodName)) ∈ lw_all := lw_g (lw_at lw_m9 231 rfl) rfl
theorem q2287 : (Jvm.Cond.code ({ cls := "RoseGuild$Guild", name := "find", desc := "(Ljava/util/List;Ljava/lang/String;)I" } : Jvm.MethodName) prog_8_method_6_code (3 : Nat) (Option.some Jvm.ClassFile.FieldType.int)) ∈ lw_all := lw_g (lw_at lw_m9 232 rfl) rfl
theorem q2288 : (Jvm.Cond.interfaceEntry "RoseGuild$Guild" (185 : Nat)) ∈ lw_tbl := lw_at lw_m9 233 rfl
theorem q2289 : (Jvm.Cond.methodLink "RoseGuild$Guild" (185 : Nat) ({ cls := "java/util/List", name := "get", desc := "(I)Ljava/lang/Object;" } : Jvm.MethodName)) ∈ lw_all := lw_g (lw_at lw_m9 234 rfl) rfl
theorem q2348 : (Jvm.Cond.classLink "RoseGuild$Guild" (189 : Nat) "RoseGuild$Place") ∈ lw_all := lw_g (lw_at lw_m10 53 rfl) rfl
theorem q2349 : (Jvm.Cond.interfaceEntry "RoseGuild$Guild" (191 : Nat)) ∈ lw_tbl := lw_at lw_m10 54 rfl
theorem q2350 : (Jvm.Cond.methodLink "RoseGuild$Guild" (191 : Nat) ({ cls := "RoseGuild$Place", name := "isNamed", desc := "(Ljava/lang/String;)Z" } : Jvm.MethodName)) ∈ lw_all := lw_g (lw_at lw_m10 55 rfl) rfl
theorem q2557 : (Jvm.Cond.instanceMethod ({ cls := "RoseGuild$Guild", name := "copy", desc := "()LRoseGuild$Guild;" } : Jvm.MethodName)) ∈ lw_all := lw_g (lw_at lw_m11 22 rfl) rfl
theorem q2558 : (Jvm.Cond.selects "RoseGuild$Guild" ({ cls := "RoseGuild$Guild", name := "copy", desc := "()LRoseGuild$Guild;" } : Jvm.MethodName) ({ cls := "RoseGuild$Guild", name := "copy", desc := "()LRoseGuild$Guild;" } : Jvm.MethodName)) ∈ lw_all := lw_g (lw_at lw_m11 23 rfl) rfl
theorem q2559 : (Jvm.Cond.code ({ cls := "RoseGuild$Guild", name := "copy", desc := "()LRoseGuild$Guild;" } : Jvm.MethodName) prog_8_method_5_code (4 : Nat) (Option.some (Jvm.ClassFile.FieldType.object "RoseGuild$Guild"))) ∈ lw_all := lw_g (lw_at lw_m11 24 rfl) rfl
theorem q2560 : (Jvm.Cond.classLink "RoseGuild$Guild" (13 : Nat) "RoseGuild$Guild") ∈ lw_all := lw_g (lw_at lw_m11 25 rfl) rfl
theorem q2561 : (Jvm.Cond.methodLink "RoseGuild$Guild" (103 : Nat) ({ cls := "RoseGuild$Guild", name := "<init>", desc := "(IIIII)V" } : Jvm.MethodName)) ∈ lw_all := lw_g (lw_at lw_m11 26 rfl) rfl
theorem q2562 : (Jvm.Cond.interfaceEntry "RoseGuild$Guild" (106 : Nat)) ∈ lw_tbl := lw_at lw_m11 27 rfl
theorem q2563 : (Jvm.Cond.methodLink "RoseGuild$Guild" (106 : Nat) ({ cls := "java/util/List", name := "iterator", desc := "()Ljava/util/Iterator;" } : Jvm.MethodName)) ∈ lw_all := lw_g (lw_at lw_m11 28 rfl) rfl
theorem q2675 : (Jvm.Cond.interfaceEntry "RoseGuild$Guild" (110 : Nat)) ∈ lw_tbl := lw_at lw_m11 140 rfl
theorem q2676 : (Jvm.Cond.methodLink "RoseGuild$Guild" (110 : Nat) ({ cls := "java/util/Iterator", name := "hasNext", desc := "()Z" } : Jvm.MethodName)) ∈ lw_all := lw_g (lw_at lw_m11 141 rfl) rfl
theorem q2705 : (Jvm.Cond.interfaceEntry "RoseGuild$Guild" (116 : Nat)) ∈ lw_tbl := lw_at lw_m11 170 rfl
theorem q2706 : (Jvm.Cond.methodLink "RoseGuild$Guild" (116 : Nat) ({ cls := "java/util/Iterator", name := "next", desc := "()Ljava/lang/Object;" } : Jvm.MethodName)) ∈ lw_all := lw_g (lw_at lw_m11 171 rfl) rfl
theorem q2784 : (Jvm.Cond.methodLink "RoseGuild$Guild" (120 : Nat) ({ cls := "RoseGuild$Street", name := "copy", desc := "()LRoseGuild$Street;" } : Jvm.MethodName)) ∈ lw_all := lw_g (lw_at lw_m12 9 rfl) rfl
theorem q2790 : (Jvm.Cond.methodLink "RoseGuild$Guild" (124 : Nat) ({ cls := "RoseGuild$Guild", name := "addStreet", desc := "(LRoseGuild$Street;)V" } : Jvm.MethodName)) ∈ lw_all := lw_g (lw_at lw_m12 15 rfl) rfl
theorem q2791 : (Jvm.Cond.classLink "RoseGuild$Guild" (88 : Nat) "RoseGuild$Garden") ∈ lw_all := lw_g (lw_at lw_m12 16 rfl) rfl
theorem q2792 : (Jvm.Cond.methodLink "RoseGuild$Guild" (128 : Nat) ({ cls := "RoseGuild$Garden", name := "copy", desc := "()LRoseGuild$Garden;" } : Jvm.MethodName)) ∈ lw_all := lw_g (lw_at lw_m12 17 rfl) rfl
theorem q2798 : (Jvm.Cond.methodLink "RoseGuild$Guild" (131 : Nat) ({ cls := "RoseGuild$Guild", name := "addGarden", desc := "(LRoseGuild$Garden;)V" } : Jvm.MethodName)) ∈ lw_all := lw_g (lw_at lw_m12 23 rfl) rfl
theorem q2799 : (Jvm.Cond.methodLink "RoseGuild$Guild" (141 : Nat) ({ cls := "RoseGuild$Contract", name := "copy", desc := "()LRoseGuild$Contract;" } : Jvm.MethodName)) ∈ lw_all := lw_g (lw_at lw_m12 24 rfl) rfl
theorem q2810 : (Jvm.Cond.fieldLinkNest "RoseGuild$Guild" (229 : Nat) "RoseGuild$Contract" "street" "I" "RoseGuild") ∈ lw_tbl := lw_at lw_m12 35 rfl
theorem q2813 : (Jvm.Cond.fieldLinkNest "RoseGuild$Guild" (232 : Nat) "RoseGuild$Contract" "garden" "I" "RoseGuild") ∈ lw_tbl := lw_at lw_m12 38 rfl
theorem q2816 : (Jvm.Cond.fieldLinkNest "RoseGuild$Guild" (274 : Nat) "RoseGuild$Contract" "nights" "I" "RoseGuild") ∈ lw_tbl := lw_at lw_m12 41 rfl
theorem q2825 : (Jvm.Cond.methodLink "RoseGuild$Guild" (146 : Nat) ({ cls := "RoseGuild$Guild", name := "addCart", desc := "(IILRoseGuild$Contract;)V" } : Jvm.MethodName)) ∈ lw_all := lw_g (lw_at lw_m12 50 rfl) rfl
theorem q2826 : (Jvm.Cond.methodLink "RoseGuild$Guild" (150 : Nat) ({ cls := "java/util/LinkedList", name := "iterator", desc := "()Ljava/util/Iterator;" } : Jvm.MethodName)) ∈ lw_all := lw_g (lw_at lw_m12 51 rfl) rfl
theorem q2830 : (Jvm.Cond.classLink "RoseGuild$Guild" (151 : Nat) "RoseGuild$Delivery") ∈ lw_all := lw_g (lw_at lw_m12 55 rfl) rfl
theorem q2831 : (Jvm.Cond.methodLink "RoseGuild$Guild" (153 : Nat) ({ cls := "java/util/LinkedList", name := "addLast", desc := "(Ljava/lang/Object;)V" } : Jvm.MethodName)) ∈ lw_all := lw_g (lw_at lw_m12 56 rfl) rfl
theorem q2832 : (Jvm.Cond.methodLink "RoseGuild$Guild" (157 : Nat) ({ cls := "java/util/BitSet", name := "or", desc := "(Ljava/util/BitSet;)V" } : Jvm.MethodName)) ∈ lw_all := lw_g (lw_at lw_m12 57 rfl) rfl
theorem q2947 : (Jvm.Cond.instanceMethod ({ cls := "RoseGuild$Guild", name := "sign", desc := "(IIII)I" } : Jvm.MethodName)) ∈ lw_all := lw_g (lw_at lw_m12 172 rfl) rfl
theorem q2948 : (Jvm.Cond.selects "RoseGuild$Guild" ({ cls := "RoseGuild$Guild", name := "sign", desc := "(IIII)I" } : Jvm.MethodName) ({ cls := "RoseGuild$Guild", name := "sign", desc := "(IIII)I" } : Jvm.MethodName)) ∈ lw_all := lw_g (lw_at lw_m12 173 rfl) rfl
theorem q2949 : (Jvm.Cond.code ({ cls := "RoseGuild$Guild", name := "sign", desc := "(IIII)I" } : Jvm.MethodName) prog_8_method_21_code (7 : Nat) (Option.some Jvm.ClassFile.FieldType.int)) ∈ lw_all := lw_g (lw_at lw_m12 174 rfl) rfl
theorem q2950 : (Jvm.Cond.methodLink "RoseGuild$Guild" (308 : Nat) ({ cls := "RoseGuild$Guild", name := "cart", desc := "(I)LRoseGuild$Cart;" } : Jvm.MethodName)) ∈ lw_all := lw_g (lw_at lw_m12 175 rfl) rfl
theorem q2951 : (Jvm.Cond.instanceMethod ({ cls := "RoseGuild$Guild", name := "cart", desc := "(I)LRoseGuild$Cart;" } : Jvm.MethodName)) ∈ lw_all := lw_g (lw_at lw_m12 176 rfl) rfl
theorem q2952 : (Jvm.Cond.selects "RoseGuild$Guild" ({ cls := "RoseGuild$Guild", name := "cart", desc := "(I)LRoseGuild$Cart;" } : Jvm.MethodName) ({ cls := "RoseGuild$Guild", name := "cart", desc := "(I)LRoseGuild$Cart;" } : Jvm.MethodName)) ∈ lw_all := lw_g (lw_at lw_m12 177 rfl) rfl
theorem q2953 : (Jvm.Cond.code ({ cls := "RoseGuild$Guild", name := "cart", desc := "(I)LRoseGuild$Cart;" } : Jvm.MethodName) prog_8_method_10_code (2 : Nat) (Option.some (Jvm.ClassFile.FieldType.object "RoseGuild$Cart"))) ∈ lw_all := lw_g (lw_at lw_m12 178 rfl) rfl
theorem q2954 : (Jvm.Cond.methodLinkNest "RoseGuild$Guild" (195 : Nat) ({ cls := "RoseGuild", name := "isBetween", desc := "(III)Z" } : Jvm.MethodName) "RoseGuild") ∈ lw_tbl := lw_at lw_m12 179 rfl
theorem q2955 : (Jvm.Cond.fieldLink "RoseGuild$Guild" (199 : Nat) "RoseGuild$Kind" "INDEX" "LRoseGuild$Kind;") ∈ lw_all := lw_g (lw_at lw_m12 180 rfl) rfl
theorem q2957 : (Jvm.Cond.methodLink "RoseGuild$Guild" (205 : Nat) ({ cls := "RoseGuild$Problem", name := "unless", desc := "(ZLRoseGuild$Kind;)V" } : Jvm.MethodName)) ∈ lw_all := lw_g (lw_at lw_m12 182 rfl) rfl
theorem q2978 : (Jvm.Cond.methodLink "RoseGuild$Guild" (312 : Nat) ({ cls := "RoseGuild$Guild", name := "street", desc := "(I)LRoseGuild$Street;" } : Jvm.MethodName)) ∈ lw_all := lw_g (lw_at lw_m12 203 rfl) rfl
theorem q2979 : (Jvm.Cond.instanceMethod ({ cls := "RoseGuild$Guild", name := "street", desc := "(I)LRoseGuild$Street;" } : Jvm.MethodName)) ∈ lw_all := lw_g (lw_at lw_m12 204 rfl) rfl
theorem q2980 : (Jvm.Cond.selects "RoseGuild$Guild" ({ cls := "RoseGuild$Guild", name := "street", desc := "(I)LRoseGuild$Street;" } : Jvm.MethodName) ({ cls := "RoseGuild$Guild", name := "street", desc := "(I)LRoseGuild$Street;" } : Jvm.MethodName)) ∈ lw_all := lw_g (lw_at lw_m12 205 rfl) rfl
theorem q2981 : (Jvm.Cond.code ({ cls := "RoseGuild$Guild", name := "street", desc := "(I)LRoseGuild$Street;" } : Jvm.MethodName) prog_8_method_8_code (2 : Nat) (Option.some (Jvm.ClassFile.FieldType.object "RoseGuild$Street"))) ∈ lw_all := lw_g (lw_at lw_m12 206 rfl) rfl
theorem q2982 : (Jvm.Cond.methodLink "RoseGuild$Guild" (315 : Nat) ({ cls := "RoseGuild$Guild", name := "garden", desc := "(I)LRoseGuild$Garden;" } : Jvm.MethodName)) ∈ lw_all := lw_g (lw_at lw_m12 207 rfl) rfl
theorem q2983 : (Jvm.Cond.instanceMethod ({ cls := "RoseGuild$Guild", name := "garden", desc := "(I)LRoseGuild$Garden;" } : Jvm.MethodName)) ∈ lw_all := lw_g (lw_at lw_m12 208 rfl) rfl
theorem q2984 : (Jvm.Cond.selects "RoseGuild$Guild" ({ cls := "RoseGuild$Guild", name := "garden", desc := "(I)LRoseGuild$Garden;" } : Jvm.MethodName) ({ cls := "RoseGuild$Guild", name := "garden", desc := "(I)LRoseGuild$Garden;" } : Jvm.MethodName)) ∈ lw_all := lw_g (lw_at lw_m12 209 rfl) rfl
theorem q2985 : (Jvm.Cond.code ({ cls := "RoseGuild$Guild", name := "garden", desc := "(I)LRoseGuild$Garden;" } : Jvm.MethodName) prog_8_method_9_code (2 : Nat) (Option.some (Jvm.ClassFile.FieldType.object "RoseGuild$Garden"))) ∈ lw_all := lw_g (lw_at lw_m12 210 rfl) rfl
theorem q2986 : (Jvm.Cond.methodLink "RoseGuild$Guild" (239 : Nat) ({ cls := "RoseGuild$Cart", name := "hours", desc := "(LRoseGuild$Place;LRoseGuild$Place;)I" } : Jvm.MethodName)) ∈ lw_all := lw_g (lw_at lw_m12 211 rfl) rfl
theorem q3024 : (Jvm.Cond.fieldLink "RoseGuild$Guild" (296 : Nat) "RoseGuild$Kind" "ARGUMENT" "LRoseGuild$Kind;") ∈ lw_all := lw_g (lw_at lw_m13 9 rfl) rfl
theorem q3026 : (Jvm.Cond.fieldLink "RoseGuild$Guild" (299 : Nat) "RoseGuild$Kind" "STATE" "LRoseGuild$Kind;") ∈ lw_all := lw_g (lw_at lw_m13 11 rfl) rfl
theorem q3028 : (Jvm.Cond.classLink "RoseGuild$Guild" (142 : Nat) "RoseGuild$Contract") ∈ lw_all := lw_g (lw_at lw_m13 13 rfl) rfl
theorem q3029 : (Jvm.Cond.methodLink "RoseGuild$Guild" (318 : Nat) ({ cls := "RoseGuild$Contract", name := "<init>", desc := "(III)V" } : Jvm.MethodName)) ∈ lw_all := lw_g (lw_at lw_m13 14 rfl) rfl
theorem q3031 : (Jvm.Cond.instanceMethod ({ cls := "RoseGuild$Guild", name := "cancel", desc := "(I)I" } : Jvm.MethodName)) ∈ lw_all := lw_g (lw_at lw_m13 16 rfl) rfl
theorem q3032 : (Jvm.Cond.selects "RoseGuild$Guild" ({ cls := "RoseGuild$Guild", name := "cancel", desc := "(I)I" } : Jvm.MethodName) ({ cls := "RoseGuild$Guild", name := "cancel", desc := "(I)I" } : Jvm.MethodName)) ∈ lw_all := lw_g (lw_at lw_m13 17 rfl) rfl
theorem q3033 : (Jvm.Cond.code ({ cls := "RoseGuild$Guild", name := "cancel", desc := "(I)I" } : Jvm.MethodName) prog_8_method_22_code (4 : Nat) (Option.some Jvm.ClassFile.FieldType.int)) ∈ lw_all := lw_g (lw_at lw_m13 18 rfl) rfl
theorem q3035 : (Jvm.Cond.instanceMethod ({ cls := "RoseGuild$Guild", name := "advance", desc := "(I)I" } : Jvm.MethodName)) ∈ lw_all := lw_g (lw_at lw_m13 20 rfl) rfl
theorem q3036 : (Jvm.Cond.selects "RoseGuild$Guild" ({ cls := "RoseGuild$Guild", name := "advance", desc := "(I)I" } : Jvm.MethodName) ({ cls := "RoseGuild$Guild", name := "advance", desc := "(I)I" } : Jvm.MethodName)) ∈ lw_all := lw_g (lw_at lw_m13 21 rfl) rfl
theorem q3037 : (Jvm.Cond.code ({ cls := "RoseGuild$Guild", name := "advance", desc := "(I)I" } : Jvm.MethodName) prog_8_method_19_code (4 : Nat) (Option.some Jvm.ClassFile.FieldType.int)) ∈ lw_all := lw_g (lw_at lw_m13 22 rfl) rfl
theorem q3038 : (Jvm.Cond.methodLink "RoseGuild$Guild" (302 : Nat) ({ cls := "RoseGuild$Guild", name := "passOneNight", desc := "()V" } : Jvm.MethodName)) ∈ lw_all := lw_g (lw_at lw_m13 23 rfl) rfl
theorem q3039 : (Jvm.Cond.instanceMethod ({ cls := "RoseGuild$Guild", name := "passOneNight", desc := "()V" } : Jvm.MethodName)) ∈ lw_all := lw_g (lw_at lw_m13 24 rfl) rfl
theorem q3040 : (Jvm.Cond.selects "RoseGuild$Guild" ({ cls := "RoseGuild$Guild", name := "passOneNight", desc := "()V" } : Jvm.MethodName) ({ cls := "RoseGuild$Guild", name := "passOneNight", desc := "()V" } : Jvm.MethodName)) ∈ lw_all := lw_g (lw_at lw_m13 25 rfl) rfl
theorem q3041 : (Jvm.Cond.code ({ cls := "RoseGuild$Guild", name := "passOneNight", desc := "()V" } : Jvm.MethodName) prog_8_method_18_code (2 : Nat) (Option.none : Option Jvm.ClassFile.FieldType)) ∈ lw_all := lw_g (lw_at lw_m13 26 rfl) rfl
theorem q3042 : (Jvm.Cond.methodLink "RoseGuild$Guild" (277 : Nat) ({ cls := "java/util/BitSet", name := "clear", desc := "()V" } : Jvm.MethodName)) ∈ lw_all := lw_g (lw_at lw_m13 27 rfl) rfl
theorem q3046 : (Jvm.Cond.methodLink "RoseGuild$Guild" (280 : Nat) ({ cls := "RoseGuild$Street", name := "fill", desc := "()V" } : Jvm.MethodName)) ∈ lw_all := lw_g (lw_at lw_m13 31 rfl) rfl
theorem q3051 : (Jvm.Cond.methodLink "RoseGuild$Guild" (283 : Nat) ({ cls := "RoseGuild$Guild", name := "deliver", desc := "(LRoseGuild$Cart;)V" } : Jvm.MethodName)) ∈ lw_all := lw_g (lw_at lw_m13 36 rfl) rfl
theorem q3052 : (Jvm.Cond.privateMethod ({ cls := "RoseGuild$Guild", name := "deliver", desc := "(LRoseGuild$Cart;)V" } : Jvm.MethodName)) ∈ lw_tbl := lw_at lw_m13 37 rfl
theorem q3053 : (Jvm.Cond.instanceMethod ({ cls := "RoseGuild$Guild", name := "deliver", desc := "(LRoseGuild$Cart;)V" } : Jvm.MethodName)) ∈ lw_all := lw_g (lw_at lw_m13 38 rfl) rfl
theorem q3054 : (Jvm.Cond.code ({ cls := "RoseGuild$Guild", name := "deliver", desc := "(LRoseGuild$Cart;)V" } : Jvm.MethodName) prog_8_method_14_code (6 : Nat) (Option.none : Option Jvm.ClassFile.FieldType)) ∈ lw_all := lw_g (lw_at lw_m13 39 rfl) rfl
theorem q3055 : (Jvm.Cond.methodLink "RoseGuild$Guild" (235 : Nat) ({ cls := "RoseGuild$Cart", name := "load", desc := "(LRoseGuild$Street;)I" } : Jvm.MethodName)) ∈ lw_all := lw_g (lw_at lw_m13 40 rfl) rfl
theorem q3060 : (Jvm.Cond.methodLink "RoseGuild$Guild" (251 : Nat) ({ cls := "java/util/BitSet", name := "set", desc := "(I)V" } : Jvm.MethodName)) ∈ lw_all := lw_g (lw_at lw_m13 45 rfl) rfl
theorem q3077 : (Jvm.Cond.methodLink "RoseGuild$Guild" (255 : Nat) ({ cls := "RoseGuild$Delivery", name := "<init>", desc := "(IIIZ)V" } : Jvm.MethodName)) ∈ lw_all := lw_g (lw_at lw_m13 62 rfl) rfl
theorem q3082 : (Jvm.Cond.fieldLinkNest "RoseGuild$Guild" (375 : Nat) "RoseGuild$Delivery" "night" "I" "RoseGuild") ∈ lw_tbl := lw_at lw_m13 67 rfl
theorem q3084 : (Jvm.Cond.fieldLinkNest "RoseGuild$Guild" (376 : Nat) "RoseGuild$Delivery" "cart" "I" "RoseGuild") ∈ lw_tbl := lw_at lw_m13 69 rfl
theorem q3086 : (Jvm.Cond.fieldLinkNest "RoseGuild$Guild" (378 : Nat) "RoseGuild$Delivery" "load" "I" "RoseGuild") ∈ lw_tbl := lw_at lw_m13 71 rfl
theorem q3088 : (Jvm.Cond.fieldLinkNest "RoseGuild$Guild" (380 : Nat) "RoseGuild$Delivery" "isLate" "Z" "RoseGuild") ∈ lw_tbl := lw_at lw_m13 73 rfl
theorem q3098 : (Jvm.Cond.methodLink "RoseGuild$Guild" (258 : Nat) ({ cls := "RoseGuild$Guild", name := "remember", desc := "(LRoseGuild$Delivery;)V" } : Jvm.MethodName)) ∈ lw_all := lw_g (lw_at lw_m13 83 rfl) rfl
theorem q3099 : (Jvm.Cond.privateMethod ({ cls := "RoseGuild$Guild", name := "remember", desc := "(LRoseGuild$Delivery;)V" } : Jvm.MethodName)) ∈ lw_tbl := lw_at lw_m13 84 rfl
theorem q3100 : (Jvm.Cond.instanceMethod ({ cls := "RoseGuild$Guild", name := "remember", desc := "(LRoseGuild$Delivery;)V" } : Jvm.MethodName)) ∈ lw_all := lw_g (lw_at lw_m13 85 rfl) rfl
theorem q3101 : (Jvm.Cond.code ({ cls := "RoseGuild$Guild", name := "remember", desc := "(LRoseGuild$Delivery;)V" } : Jvm.MethodName) prog_8_method_13_code (3 : Nat) (Option.none : Option Jvm.ClassFile.FieldType)) ∈ lw_all := lw_g (lw_at lw_m13 86 rfl) rfl
theorem q3102 : (Jvm.Cond.methodLink "RoseGuild$Guild" (225 : Nat) ({ cls := "java/util/LinkedList", name := "size", desc := "()I" } : Jvm.MethodName)) ∈ lw_all := lw_g (lw_at lw_m13 87 rfl) rfl
theorem q3103 : (Jvm.Cond.methodLink "RoseGuild$Guild" (226 : Nat) ({ cls := "java/util/LinkedList", name := "removeFirst", desc := "()Ljava/lang/Object;" } : Jvm.MethodName)) ∈ lw_all := lw_g (lw_at lw_m13 88 rfl) rfl
theorem q3113 : (Jvm.Cond.methodLink "RoseGuild$Guild" (262 : Nat) ({ cls := "RoseGuild$Guild", name := "complain", desc := "(LRoseGuild$Street;I)V" } : Jvm.MethodName)) ∈ lw_all := lw_g (lw_at lw_m13 98 rfl) rfl
theorem q3114 : (Jvm.Cond.privateMethod ({ cls := "RoseGuild$Guild", name := "complain", desc := "(LRoseGuild$Street;I)V" } : Jvm.MethodName)) ∈ lw_tbl := lw_at lw_m13 99 rfl
theorem q3115 : (Jvm.Cond.instanceMethod ({ cls := "RoseGuild$Guild", name := "complain", desc := "(LRoseGuild$Street;I)V" } : Jvm.MethodName)) ∈ lw_all := lw_g (lw_at lw_m13 100 rfl) rfl
theorem q3116 : (Jvm.Cond.code ({ cls := "RoseGuild$Guild", name := "complain", desc := "(LRoseGuild$Street;I)V" } : Jvm.MethodName) prog_8_method_12_code (4 : Nat) (Option.none : Option Jvm.ClassFile.FieldType)) ∈ lw_all := lw_g (lw_at lw_m13 101 rfl) rfl
theorem q3117 : (Jvm.Cond.methodLink "RoseGuild$Guild" (221 : Nat) ({ cls := "RoseGuild$Guild", name := "reaches", desc := "(LRoseGuild$Street;ILRoseGuild$Street;)Z" } : Jvm.MethodName)) ∈ lw_all := lw_g (lw_at lw_m13 102 rfl) rfl
theorem q3118 : (Jvm.Cond.instanceMethod ({ cls := "RoseGuild$Guild", name := "reaches", desc := "(LRoseGuild$Street;ILRoseGuild$Street;)Z" } : Jvm.MethodName)) ∈ lw_all := lw_g (lw_at lw_m13 103 rfl) rfl
theorem q3119 : (Jvm.Cond.selects "RoseGuild$Guild" ({ cls := "RoseGuild$Guild", name := "reaches", desc := "(LRoseGuild$Street;ILRoseGuild$Street;)Z" } : Jvm.MethodName) ({ cls := "RoseGuild$Guild", name := "reaches", desc := "(LRoseGuild$Street;ILRoseGuild$Street;)Z" } : Jvm.MethodName)) ∈ lw_all := lw_g (lw_at lw_m13 104 rfl) rfl
theorem q3120 : (Jvm.Cond.code ({ cls := "RoseGuild$Guild", name := "reaches", desc := "(LRoseGuild$Street;ILRoseGuild$Street;)Z" } : Jvm.MethodName) prog_8_method_11_code (4 : Nat) (Option.some Jvm.ClassFile.FieldType.boolean)) ∈ lw_all := lw_g (lw_at lw_m13 105 rfl) rfl
theorem q3121 : (Jvm.Cond.methodLink "RoseGuild$Guild" (211 : Nat) ({ cls := "RoseGuild$Guild", name := "wind", desc := "()I" } : Jvm.MethodName)) ∈ lw_all := lw_g (lw_at lw_m13 106 rfl) rfl
theorem q3122 : (Jvm.Cond.instanceMethod ({ cls := "RoseGuild$Guild", name := "wind", desc := "()I" } : Jvm.MethodName)) ∈ lw_all := lw_g (lw_at lw_m13 107 rfl) rfl
theorem q3123 : (Jvm.Cond.selects "RoseGuild$Guild" ({ cls := "RoseGuild$Guild", name := "wind", desc := "()I" } : Jvm.MethodName) ({ cls := "RoseGuild$Guild", name := "wind", desc := "()I" } : Jvm.MethodName)) ∈ lw_all := lw_g (lw_at lw_m13 108 rfl) rfl
theorem q3124 : (Jvm.Cond.code ({ cls := "RoseGuild$Guild", name := "wind", desc := "()I" } : Jvm.MethodName) prog_8_method_7_code (1 : Nat) (Option.some Jvm.ClassFile.FieldType.int)) ∈ lw_all := lw_g (lw_at lw_m13 109 rfl) rfl
theorem q3131 : (Jvm.Cond.methodLink "RoseGuild$Guild" (287 : Nat) ({ cls := "RoseGuild$Garden", name := "bloom", desc := "()V" } : Jvm.MethodName)) ∈ lw_all := lw_g (lw_at lw_m13 116 rfl) rfl
theorem q3137 : (Jvm.Cond.methodLink "RoseGuild$Guild" (290 : Nat) ({ cls := "RoseGuild$Guild", name := "expire", desc := "(LRoseGuild$Cart;)V" } : Jvm.MethodName)) ∈ lw_all := lw_g (lw_at lw_m13 122 rfl) rfl
theorem q3138 : (Jvm.Cond.privateMethod ({ cls := "RoseGuild$Guild", name := "expire", desc := "(LRoseGuild$Cart;)V" } : Jvm.MethodName)) ∈ lw_tbl := lw_at lw_m13 123 rfl
theorem q3139 : (Jvm.Cond.instanceMethod ({ cls := "RoseGuild$Guild", name := "expire", desc := "(LRoseGuild$Cart;)V" } : Jvm.MethodName)) ∈ lw_all := lw_g (lw_at lw_m13 124 rfl) rfl
theorem q3140 : (Jvm.Cond.code ({ cls := "RoseGuild$Guild", name := "expire", desc := "(LRoseGuild$Cart;)V" } : Jvm.MethodName) prog_8_method_17_code (2 : Nat) (Option.none : Option Jvm.ClassFile.FieldType)) ∈ lw_all := lw_g (lw_at lw_m13 125 rfl) rfl
theorem q3141 : (Jvm.Cond.methodLink "RoseGuild$Guild" (293 : Nat) ({ cls := "RoseGuild$Guild", name := "award", desc := "()V" } : Jvm.MethodName)) ∈ lw_all := lw_g (lw_at lw_m13 126 rfl) rfl
theorem q3142 : (Jvm.Cond.privateMethod ({ cls := "RoseGuild$Guild", name := "award", desc := "()V" } : Jvm.MethodName)) ∈ lw_tbl := lw_at lw_m13 127 rfl
theorem q3143 : (Jvm.Cond.instanceMethod ({ cls := "RoseGuild$Guild", name := "award", desc := "()V" } : Jvm.MethodName)) ∈ lw_all := lw_g (lw_at lw_m13 128 rfl) rfl
theorem q3144 : (Jvm.Cond.code ({ cls := "RoseGuild$Guild", name := "award", desc := "()V" } : Jvm.MethodName) prog_8_method_16_code (3 : Nat) (Option.none : Option Jvm.ClassFile.FieldType)) ∈ lw_all := lw_g (lw_at lw_m13 129 rfl) rfl
theorem q3145 : (Jvm.Cond.methodLink "RoseGuild$Guild" (270 : Nat) ({ cls := "RoseGuild$Guild", name := "leader", desc := "()I" } : Jvm.MethodName)) ∈ lw_all := lw_g (lw_at lw_m13 130 rfl) rfl
theorem q3146 : (Jvm.Cond.instanceMethod ({ cls := "RoseGuild$Guild", name := "leader", desc := "()I" } : Jvm.MethodName)) ∈ lw_all := lw_g (lw_at lw_m13 131 rfl) rfl
theorem q3147 : (Jvm.Cond.selects "RoseGuild$Guild" ({ cls := "RoseGuild$Guild", name := "leader", desc := "()I" } : Jvm.MethodName) ({ cls := "RoseGuild$Guild", name := "leader", desc := "()I" } : Jvm.MethodName)) ∈ lw_all := lw_g (lw_at lw_m13 132 rfl) rfl
theorem q3148 : (Jvm.Cond.code ({ cls := "RoseGuild$Guild", name := "leader", desc := "()I" } : Jvm.MethodName) prog_8_method_15_code (4 : Nat) (Option.some Jvm.ClassFile.FieldType.int)) ∈ lw_all := lw_g (lw_at lw_m13 133 rfl) rfl
theorem q3150 : (Jvm.Cond.instanceMethod ({ cls := "RoseGuild$Guild", name := "setWindOffset", desc := "(I)I" } : Jvm.MethodName)) ∈ lw_all := lw_g (lw_at lw_m13 135 rfl) rfl
theorem q3151 : (Jvm.Cond.selects "RoseGuild$Guild" ({ cls := "RoseGuild$Guild", name := "setWindOffset", desc := "(I)I" } : Jvm.MethodName) ({ cls := "RoseGuild$Guild", name := "setWindOffset", desc := "(I)I" } : Jvm.MethodName)) ∈ lw_all := lw_g (lw_at lw_m13 136 rfl) rfl
theorem q3152 : (Jvm.Cond.code ({ cls := "RoseGuild$Guild", name := "setWindOffset", desc := "(I)I" } : Jvm.MethodName) prog_8_method_23_code (3 : Nat) (Option.some Jvm.ClassFile.FieldType.int)) ∈ lw_all := lw_g (lw_at lw_m13 137 rfl) rfl
theorem q3154 : (Jvm.Cond.instanceMethod ({ cls := "RoseGuild$Guild", name := "setPrice", desc := "(I)I" } : Jvm.MethodName)) ∈ lw_all := lw_g (lw_at lw_m13 139 rfl) rfl
theorem q3155 : (Jvm.Cond.selects "RoseGuild$Guild" ({ cls := "RoseGuild$Guild", name := "setPrice", desc := "(I)I" } : Jvm.MethodName) ({ cls := "RoseGuild$Guild", name := "setPrice", desc := "(I)I" } : Jvm.MethodName)) ∈ lw_all := lw_g (lw_at lw_m13 140 rfl) rfl
theorem q3156 : (Jvm.Cond.code ({ cls := "RoseGuild$Guild", name := "setPrice", desc := "(I)I" } : Jvm.MethodName) prog_8_method_24_code (3 : Nat) (Option.some Jvm.ClassFile.FieldType.int)) ∈ lw_all := lw_g (lw_at lw_m13 141 rfl) rfl
theorem q3250 : (Jvm.Cond.instanceMethod ({ cls := "RoseGuild$Guild", name := "contradictions", desc := "()I" } : Jvm.MethodName)) ∈ lw_all := lw_g (lw_at lw_m13 235 rfl) rfl
theorem q3251 : (Jvm.Cond.selects "RoseGuild$Guild" ({ cls := "RoseGuild$Guild", name := "contradictions", desc := "()I" } : Jvm.MethodName) ({ cls := "RoseGuild$Guild", name := "contradictions", desc := "()I" } : Jvm.MethodName)) ∈ lw_all := lw_g (lw_at lw_m13 236 rfl) rfl
theorem q3252 : (Jvm.Cond.code ({ cls := "RoseGuild$Guild", name := "contradictions", desc := "()I" } : Jvm.MethodName) prog_8_method_28_code (6 : Nat) (Option.some Jvm.ClassFile.FieldType.int)) ∈ lw_all := lw_g (lw_at lw_m13 237 rfl) rfl
theorem q3253 : (Jvm.Cond.methodLink "RoseGuild$Guild" (342 : Nat) ({ cls := "java/lang/Math", name := "abs", desc := "(I)I" } : Jvm.MethodName)) ∈ lw_all := lw_g (lw_at lw_m13 238 rfl) rfl
theorem q3259 : (Jvm.Cond.instanceMethod ({ cls := "RoseGuild$Guild", name := "after", desc := "(I)LRoseGuild$Guild;" } : Jvm.MethodName)) ∈ lw_all := lw_g (lw_at lw_m14 4 rfl) rfl
theorem q3260 : (Jvm.Cond.selects "RoseGuild$Guild" ({ cls := "RoseGuild$Guild", name := "after", desc := "(I)LRoseGuild$Guild;" } : Jvm.MethodName) ({ cls := "RoseGuild$Guild", name := "after", desc := "(I)LRoseGuild$Guild;" } : Jvm.MethodName)) ∈ lw_all := lw_g (lw_at lw_m14 5 rfl) rfl
theorem q3261 : (Jvm.Cond.code ({ cls := "RoseGuild$Guild", name := "after", desc := "(I)LRoseGuild$Guild;" } : Jvm.MethodName) prog_8_method_20_code (4 : Nat) (Option.some (Jvm.ClassFile.FieldType.object "RoseGuild$Guild"))) ∈ lw_all := lw_g (lw_at lw_m14 6 rfl) rfl
theorem q3262 : (Jvm.Cond.methodLink "RoseGuild$Guild" (305 : Nat) ({ cls := "RoseGuild$Guild", name := "copy", desc := "()LRoseGuild$Guild;" } : Jvm.MethodName)) ∈ lw_all := lw_g (lw_at lw_m14 7 rfl) rfl
theorem q3270 : (Jvm.Cond.instanceMethod ({ cls := "RoseGuild$Guild", name := "contractsInText", desc := "()Ljava/lang/String;" } : Jvm.MethodName)) ∈ lw_all := lw_g (lw_at lw_m14 15 rfl) rfl
theorem q3271 : (Jvm.Cond.selects "RoseGuild$Guild" ({ cls := "RoseGuild$Guild", name := "contractsInText", desc := "()Ljava/lang/String;" } : Jvm.MethodName) ({ cls := "RoseGuild$Guild", name := "contractsInText", desc := "()Ljava/lang/String;" } : Jvm.MethodName)) ∈ lw_all := lw_g (lw_at lw_m14 16 rfl) rfl
theorem q3272 : (Jvm.Cond.code ({ cls := "RoseGuild$Guild", name := "contractsInText", desc := "()Ljava/lang/String;" } : Jvm.MethodName) prog_8_method_30_code (4 : Nat) (Option.some (Jvm.ClassFile.FieldType.object "java/lang/String"))) ∈ lw_all := lw_g (lw_at lw_m14 17 rfl) rfl
theorem q3273 : (Jvm.Cond.classLink "RoseGuild$Guild" (347 : Nat) "java/lang/StringBuilder") ∈ lw_all := lw_g (lw_at lw_m14 18 rfl) rfl
theorem q3274 : (Jvm.Cond.methodLink "RoseGuild$Guild" (366 : Nat) ({ cls := "java/lang/StringBuilder", name := "<init>", desc := "()V" } : Jvm.MethodName)) ∈ lw_all := lw_g (lw_at lw_m14 19 rfl) rfl
theorem q3275 : (Jvm.Cond.methodLink "RoseGuild$Guild" (367 : Nat) ({ cls := "RoseGuild$Guild", name := "tellContract", desc := "(LRoseGuild$Cart;Ljava/lang/StringBuilder;)V" } : Jvm.MethodName)) ∈ lw_all := lw_g (lw_at lw_m14 20 rfl) rfl
theorem q3276 : (Jvm.Cond.privateMethod ({ cls := "RoseGuild$Guild", name := "tellContract", desc := "(LRoseGuild$Cart;Ljava/lang/StringBuilder;)V" } : Jvm.MethodName)) ∈ lw_tbl := lw_at lw_m14 21 rfl
theorem q3277 : (Jvm.Cond.instanceMethod ({ cls := "RoseGuild$Guild", name := "tellContract", desc := "(LRoseGuild$Cart;Ljava/lang/StringBuilder;)V" } : Jvm.MethodName)) ∈ lw_all := lw_g (lw_at lw_m14 22 rfl) rfl
theorem q3278 : (Jvm.Cond.code ({ cls := "RoseGuild$Guild", name := "tellContract", desc := "(LRoseGuild$Cart;Ljava/lang/StringBuilder;)V" } : Jvm.MethodName) prog_8_method_29_code (3 : Nat) (Option.none : Option Jvm.ClassFile.FieldType)) ∈ lw_all := lw_g (lw_at lw_m14 23 rfl) rfl
theorem q3279 : (Jvm.Cond.methodLink "RoseGuild$Guild" (346 : Nat) ({ cls := "java/lang/StringBuilder", name := "length", desc := "()I" } : Jvm.MethodName)) ∈ lw_all := lw_g (lw_at lw_m14 24 rfl) rfl
theorem q3280 : (Jvm.Cond.methodLink "RoseGuild$Guild" (351 : Nat) ({ cls := "java/lang/StringBuilder", name := "append", desc := "(C)Ljava/lang/StringBuilder;" } : Jvm.MethodName)) ∈ lw_all := lw_g (lw_at lw_m14 25 rfl) rfl
theorem q3281 : (Jvm.Cond.methodLink "RoseGuild$Guild" (355 : Nat) ({ cls := "java/lang/StringBuilder", name := "append", desc := "(I)Ljava/lang/StringBuilder;" } : Jvm.MethodName)) ∈ lw_all := lw_g (lw_at lw_m14 26 rfl) rfl
theorem q3282 : (Jvm.Cond.methodLink "RoseGuild$Guild" (362 : Nat) ({ cls := "java/lang/StringBuilder", name := "append", desc := "(Ljava/lang/String;)Ljava/lang/StringBuilder;" } : Jvm.MethodName)) ∈ lw_all := lw_g (lw_at lw_m14 27 rfl) rfl
theorem q3283 : (Jvm.Cond.methodLink "RoseGuild$Guild" (371 : Nat) ({ cls := "java/lang/StringBuilder", name := "toString", desc := "()Ljava/lang/String;" } : Jvm.MethodName)) ∈ lw_all := lw_g (lw_at lw_m14 28 rfl) rfl
theorem q3290 : (Jvm.Cond.instanceMethod ({ cls := "RoseGuild$Guild", name := "deliveriesInText", desc := "()Ljava/lang/String;" } : Jvm.MethodName)) ∈ lw_all := lw_g (lw_at lw_m14 35 rfl) rfl
theorem q3291 : (Jvm.Cond.selects "RoseGuild$Guild" ({ cls := "RoseGuild$Guild", name := "deliveriesInText", desc := "()Ljava/lang/String;" } : Jvm.MethodName) ({ cls := "RoseGuild$Guild", name := "deliveriesInText", desc := "()Ljava/lang/String;" } : Jvm.MethodName)) ∈ lw_all := lw_g (lw_at lw_m14 36 rfl) rfl
theorem q3292 : (Jvm.Cond.code ({ cls := "RoseGuild$Guild", name := "deliveriesInText", desc := "()Ljava/lang/String;" } : Jvm.MethodName) prog_8_method_31_code (4 : Nat) (Option.some (Jvm.ClassFile.FieldType.object "java/lang/String"))) ∈ lw_all := lw_g (lw_at lw_m14 37 rfl) rfl
theorem q3293 : (Jvm.Cond.stringRef "RoseGuild$Guild" (384 : Nat) "!") ∈ lw_tbl := lw_at lw_m14 38 rfl
theorem q3294 : (Jvm.Cond.stringRef "RoseGuild$Guild" (386 : Nat) "") ∈ lw_tbl := lw_at lw_m14 39 rfl
theorem q3477 : (Jvm.Cond.instanceMethod ({ cls := "RoseGuild$Guild", name := "nextLoad", desc := "(LRoseGuild$Cart;)I" } : Jvm.MethodName)) ∈ lw_all := lw_g (lw_at lw_m14 222 rfl) rfl
theorem q3478 : (Jvm.Cond.selects "RoseGuild$Guild" ({ cls := "RoseGuild$Guild", name := "nextLoad", desc := "(LRoseGuild$Cart;)I" } : Jvm.MethodName) ({ cls := "RoseGuild$Guild", name := "nextLoad", desc := "(LRoseGuild$Cart;)I" } : Jvm.MethodName)) ∈ lw_all := lw_g (lw_at lw_m14 223 rfl) rfl
theorem q3479 : (Jvm.Cond.code ({ cls := "RoseGuild$Guild", name := "nextLoad", desc := "(LRoseGuild$Cart;)I" } : Jvm.MethodName) prog_8_method_25_code (6 : Nat) (Option.some Jvm.ClassFile.FieldType.int)) ∈ lw_all := lw_g (lw_at lw_m14 224 rfl) rfl
theorem q3480 : (Jvm.Cond.methodLink "RoseGuild$Guild" (323 : Nat) ({ cls := "java/lang/Math", name := "min", desc := "(II)I" } : Jvm.MethodName)) ∈ lw_all := lw_g (lw_at lw_m14 225 rfl) rfl
theorem q3489 : (Jvm.Cond.instanceMethod ({ cls := "RoseGuild$Guild", name := "outlook", desc := "(LRoseGuild$Cart;)I" } : Jvm.MethodName)) ∈ lw_all := lw_g (lw_at lw_m14 234 rfl) rfl
theorem q3490 : (Jvm.Cond.selects "RoseGuild$Guild" ({ cls := "RoseGuild$Guild", name := "outlook", desc := "(LRoseGuild$Cart;)I" } : Jvm.MethodName) ({ cls := "RoseGuild$Guild", name := "outlook", desc := "(LRoseGuild$Cart;)I" } : Jvm.MethodName)) ∈ lw_all := lw_g (lw_at lw_m14 235 rfl) rfl
theorem q3491 : (Jvm.Cond.code ({ cls := "RoseGuild$Guild", name := "outlook", desc := "(LRoseGuild$Cart;)I" } : Jvm.MethodName) prog_8_method_26_code (2 : Nat) (Option.some Jvm.ClassFile.FieldType.int)) ∈ lw_all := lw_g (lw_at lw_m14 236 rfl) rfl
theorem q3492 : (Jvm.Cond.methodLink "RoseGuild$Guild" (329 : Nat) ({ cls := "RoseGuild$Guild", name := "nextLoad", desc := "(LRoseGuild$Cart;)I" } : Jvm.MethodName)) ∈ lw_all := lw_g (lw_at lw_m14 237 rfl) rfl
theorem q3518 : (Jvm.Cond.instanceMethod ({ cls := "RoseGuild$Guild", name := "allPetals", desc := "()I" } : Jvm.MethodName)) ∈ lw_all := lw_g (lw_at lw_m15 23 rfl) rfl
theorem q3519 : (Jvm.Cond.selects "RoseGuild$Guild" ({ cls := "RoseGuild$Guild", name := "allPetals", desc := "()I" } : Jvm.MethodName) ({ cls := "RoseGuild$Guild", name := "allPetals", desc := "()I" } : Jvm.MethodName)) ∈ lw_all := lw_g (lw_at lw_m15 24 rfl) rfl
theorem q3520 : (Jvm.Cond.code ({ cls := "RoseGuild$Guild", name := "allPetals", desc := "()I" } : Jvm.MethodName) prog_8_method_27_code (4 : Nat) (Option.some Jvm.ClassFile.FieldType.int)) ∈ lw_all := lw_g (lw_at lw_m15 25 rfl) rfl
theorem q4383 : (Jvm.Cond.castable "RoseGuild$Guild" "java/lang/Object") ∈ lw_tbl := lw_at lw_m18 168 rfl
theorem in_X2 : ∀ w ∈ wsX20, w ∈ lw_all := lw_in wsX20 [1251, 1253, 1255, 1257, 1259, 1261, 1263, 1265, 1267, 1269, 1271, 1273, 1275, 1277, 1279, 1281, 1283, 1285, 1287, 1289] (by decide +kernel) (by decide +kernel)

/-! RoseGuild$Street -/
set_option maxRecDepth 100000
def RX3 : String := "RoseGuild$Street"
def TX3 : u_T := fun k => match k with
  | 0 => ("RoseGuild$Street", "number", "I", true)
  | 1 => ("RoseGuild$Street", "households", "I", true)
  | 2 => ("RoseGuild$Street", "capacity", "I", true)
  | 3 => ("RoseGuild$Street", "name", "Ljava/lang/String;", true)
  | 4 => ("RoseGuild$Street", "point", "LRoseGuild$Point;", true)
  | 5 => ("RoseGuild$Street", "bins", "I", false)
  | 6 => ("RoseGuild$Street", "spilled", "I", false)
  | _ => ("RoseGuild$Street", "complaints", "I", false)
def tyX3 : Nat → FieldType := fun k => match k with
  | 0 => .int
  | 1 => .int
  | 2 => .int
  | 3 => .object "java/lang/String"
  | 4 => .object "RoseGuild$Point"
  | 5 => .int
  | 6 => .int
  | _ => .int
abbrev wsX30 : List Cond := u_ws RX3 TX3 8
theorem nmX3 : ∀ a, a < 8 → ∀ b, b < 8 → a ≠ b → (TX3 a).2.1 ≠ (TX3 b).2.1 := by decide +kernel
theorem tyX3_ok : ∀ k, k < 8 → parseFieldDescriptor (TX3 k).2.2.1 = some (tyX3 k) := by decide +kernel
abbrev cX3_init : ByteArray := prog_17_method_1_code
def yX3_init : MethodName := ⟨RX3, "<init>", "(ILjava/lang/String;LRoseGuild$Point;II)V"⟩
def dkwX3_init_1 : List UInt8 := [181, 0, 21, 42, 21, 5, 181, 0, 24, 177]
abbrev dktX3_init_1 : List UInt8 := dkwX3_init_1 ++ []
def dkwX3_init_0 : List UInt8 := [42, 183, 0, 1, 42, 27, 181, 0, 7, 42, 44, 181, 0, 13, 42, 45, 181, 0, 17, 42, 21, 4]
abbrev dktX3_init_0 : List UInt8 := dkwX3_init_0 ++ dktX3_init_1
theorem dksX3_init_0 : cX3_init.data.toList.drop 0 = dktX3_init_0 := by decide +kernel
theorem dksX3_init_1 : cX3_init.data.toList.drop 22 = dktX3_init_1 := dk_seg dksX3_init_0 22 rfl rfl
theorem dX3_init_0 : decode cX3_init 0 = .ok (.aload_n 0, 1) := dk_42 (dk_at dksX3_init_0 0 rfl rfl)
theorem dX3_init_1 : decode cX3_init 1 = .ok (.invokespecial 1, 3) := dk_183 0 1 (dk_at dksX3_init_0 1 rfl rfl)
theorem dX3_init_4 : decode cX3_init 4 = .ok (.aload_n 0, 1) := dk_42 (dk_at dksX3_init_0 4 rfl rfl)
theorem dX3_init_5 : decode cX3_init 5 = .ok (.iload_n 1, 1) := dk_27 (dk_at dksX3_init_0 5 rfl rfl)
theorem dX3_init_6 : decode cX3_init 6 = .ok (.putfield 7, 3) := dk_181 0 7 (dk_at dksX3_init_0 6 rfl rfl)
theorem dX3_init_9 : decode cX3_init 9 = .ok (.aload_n 0, 1) := dk_42 (dk_at dksX3_init_0 9 rfl rfl)
theorem dX3_init_10 : decode cX3_init 10 = .ok (.aload_n 2, 1) := dk_44 (dk_at dksX3_init_0 10 rfl rfl)
theorem dX3_init_11 : decode cX3_init 11 = .ok (.putfield 13, 3) := dk_181 0 13 (dk_at dksX3_init_0 11 rfl rfl)
theorem dX3_init_14 : decode cX3_init 14 = .ok (.aload_n 0, 1) := dk_42 (dk_at dksX3_init_0 14 rfl rfl)
theorem dX3_init_15 : decode cX3_init 15 = .ok (.aload_n 3, 1) := dk_45 (dk_at dksX3_init_0 15 rfl rfl)
theorem dX3_init_16 : decode cX3_init 16 = .ok (.putfield 17, 3) := dk_181 0 17 (dk_at dksX3_init_0 16 rfl rfl)
theorem dX3_init_19 : decode cX3_init 19 = .ok (.aload_n 0, 1) := dk_42 (dk_at dksX3_init_0 19 rfl rfl)
theorem dX3_init_20 : decode cX3_init 20 = .ok (.iload 4, 2) := dk_21 4 (dk_at dksX3_init_0 20 rfl rfl)
theorem dX3_init_22 : decode cX3_init 22 = .ok (.putfield 21, 3) := dk_181 0 21 (dk_at dksX3_init_1 0 rfl rfl)
theorem dX3_init_25 : decode cX3_init 25 = .ok (.aload_n 0, 1) := dk_42 (dk_at dksX3_init_1 3 rfl rfl)
theorem dX3_init_26 : decode cX3_init 26 = .ok (.iload 5, 2) := dk_21 5 (dk_at dksX3_init_1 4 rfl rfl)
theorem dX3_init_28 : decode cX3_init 28 = .ok (.putfield 24, 3) := dk_181 0 24 (dk_at dksX3_init_1 6 rfl rfl)
theorem dX3_init_31 : decode cX3_init 31 = .ok (.return_, 1) := dk_177 (dk_at dksX3_init_1 9 rfl rfl)
abbrev cX3_name : ByteArray := prog_17_method_4_code
def yX3_name : MethodName := ⟨RX3, "name", "()Ljava/lang/String;"⟩
theorem dX3_name_0 : decode cX3_name 0 = .ok (.aload_n 0, 1) := by decide +kernel
theorem dX3_name_1 : decode cX3_name 1 = .ok (.getfield 13, 3) := by decide +kernel
theorem dX3_name_4 : decode cX3_name 4 = .ok (.areturn, 1) := by decide +kernel
abbrev cX3_copy : ByteArray := prog_17_method_2_code
def yX3_copy : MethodName := ⟨RX3, "copy", "()LRoseGuild$Street;"⟩
def dkwX3_copy_2 : List UInt8 := [180, 0, 36, 181, 0, 36, 43, 176]
abbrev dktX3_copy_2 : List UInt8 := dkwX3_copy_2 ++ []
def dkwX3_copy_1 : List UInt8 := [183, 0, 27, 76, 43, 42, 180, 0, 30, 181, 0, 30, 43, 42, 180, 0, 33, 181, 0, 33, 43, 42]
abbrev dktX3_copy_1 : List UInt8 := dkwX3_copy_1 ++ dktX3_copy_2
def dkwX3_copy_0 : List UInt8 := [187, 0, 8, 89, 42, 180, 0, 7, 42, 180, 0, 13, 42, 180, 0, 17, 42, 180, 0, 21, 42, 180, 0, 24]
abbrev dktX3_copy_0 : List UInt8 := dkwX3_copy_0 ++ dktX3_copy_1
theorem dksX3_copy_0 : cX3_copy.data.toList.drop 0 = dktX3_copy_0 := by decide +kernel
theorem dksX3_copy_1 : cX3_copy.data.toList.drop 24 = dktX3_copy_1 := dk_seg dksX3_copy_0 24 rfl rfl
theorem dksX3_copy_2 : cX3_copy.data.toList.drop 46 = dktX3_copy_2 := dk_seg dksX3_copy_1 22 rfl rfl
theorem dX3_copy_0 : decode cX3_copy 0 = .ok (.new 8, 3) := dk_187 0 8 (dk_at dksX3_copy_0 0 rfl rfl)
theorem dX3_copy_3 : decode cX3_copy 3 = .ok (.dup, 1) := dk_89 (dk_at dksX3_copy_0 3 rfl rfl)
theorem dX3_copy_4 : decode cX3_copy 4 = .ok (.aload_n 0, 1) := dk_42 (dk_at dksX3_copy_0 4 rfl rfl)
theorem dX3_copy_5 : decode cX3_copy 5 = .ok (.getfield 7, 3) := dk_180 0 7 (dk_at dksX3_copy_0 5 rfl rfl)
theorem dX3_copy_8 : decode cX3_copy 8 = .ok (.aload_n 0, 1) := dk_42 (dk_at dksX3_copy_0 8 rfl rfl)
theorem dX3_copy_9 : decode cX3_copy 9 = .ok (.getfield 13, 3) := dk_180 0 13 (dk_at dksX3_copy_0 9 rfl rfl)
theorem dX3_copy_12 : decode cX3_copy 12 = .ok (.aload_n 0, 1) := dk_42 (dk_at dksX3_copy_0 12 rfl rfl)
theorem dX3_copy_13 : decode cX3_copy 13 = .ok (.getfield 17, 3) := dk_180 0 17 (dk_at dksX3_copy_0 13 rfl rfl)
theorem dX3_copy_16 : decode cX3_copy 16 = .ok (.aload_n 0, 1) := dk_42 (dk_at dksX3_copy_0 16 rfl rfl)
theorem dX3_copy_17 : decode cX3_copy 17 = .ok (.getfield 21, 3) := dk_180 0 21 (dk_at dksX3_copy_0 17 rfl rfl)
theorem dX3_copy_20 : decode cX3_copy 20 = .ok (.aload_n 0, 1) := dk_42 (dk_at dksX3_copy_0 20 rfl rfl)
theorem dX3_copy_21 : decode cX3_copy 21 = .ok (.getfield 24, 3) := dk_180 0 24 (dk_at dksX3_copy_0 21 rfl rfl)
theorem dX3_copy_24 : decode cX3_copy 24 = .ok (.invokespecial 27, 3) := dk_183 0 27 (dk_at dksX3_copy_1 0 rfl rfl)
theorem dX3_copy_27 : decode cX3_copy 27 = .ok (.astore_n 1, 1) := dk_76 (dk_at dksX3_copy_1 3 rfl rfl)
theorem dX3_copy_28 : decode cX3_copy 28 = .ok (.aload_n 1, 1) := dk_43 (dk_at dksX3_copy_1 4 rfl rfl)
theorem dX3_copy_29 : decode cX3_copy 29 = .ok (.aload_n 0, 1) := dk_42 (dk_at dksX3_copy_1 5 rfl rfl)
theorem dX3_copy_30 : decode cX3_copy 30 = .ok (.getfield 30, 3) := dk_180 0 30 (dk_at dksX3_copy_1 6 rfl rfl)
theorem dX3_copy_33 : decode cX3_copy 33 = .ok (.putfield 30, 3) := dk_181 0 30 (dk_at dksX3_copy_1 9 rfl rfl)
theorem dX3_copy_36 : decode cX3_copy 36 = .ok (.aload_n 1, 1) := dk_43 (dk_at dksX3_copy_1 12 rfl rfl)
theorem dX3_copy_37 : decode cX3_copy 37 = .ok (.aload_n 0, 1) := dk_42 (dk_at dksX3_copy_1 13 rfl rfl)
theorem dX3_copy_38 : decode cX3_copy 38 = .ok (.getfield 33, 3) := dk_180 0 33 (dk_at dksX3_copy_1 14 rfl rfl)
theorem dX3_copy_41 : decode cX3_copy 41 = .ok (.putfield 33, 3) := dk_181 0 33 (dk_at dksX3_copy_1 17 rfl rfl)
theorem dX3_copy_44 : decode cX3_copy 44 = .ok (.aload_n 1, 1) := dk_43 (dk_at dksX3_copy_1 20 rfl rfl)
theorem dX3_copy_45 : decode cX3_copy 45 = .ok (.aload_n 0, 1) := dk_42 (dk_at dksX3_copy_1 21 rfl rfl)
theorem dX3_copy_46 : decode cX3_copy 46 = .ok (.getfield 36, 3) := dk_180 0 36 (dk_at dksX3_copy_2 0 rfl rfl)
theorem dX3_copy_49 : decode cX3_copy 49 = .ok (.putfield 36, 3) := dk_181 0 36 (dk_at dksX3_copy_2 3 rfl rfl)
theorem dX3_copy_52 : decode cX3_copy 52 = .ok (.aload_n 1, 1) := dk_43 (dk_at dksX3_copy_2 6 rfl rfl)
theorem dX3_copy_53 : decode cX3_copy 53 = .ok (.areturn, 1) := dk_176 (dk_at dksX3_copy_2 7 rfl rfl)
abbrev cX3_point : ByteArray := prog_17_method_3_code
def yX3_point : MethodName := ⟨RX3, "point", "()LRoseGuild$Point;"⟩
theorem dX3_point_0 : decode cX3_point 0 = .ok (.aload_n 0, 1) := by decide +kernel
theorem dX3_point_1 : decode cX3_point 1 = .ok (.getfield 17, 3) := by decide +kernel
theorem dX3_point_4 : decode cX3_point 4 = .ok (.areturn, 1) := by decide +kernel
abbrev cX3_fill : ByteArray := prog_17_method_5_code
def yX3_fill : MethodName := ⟨RX3, "fill", "()V"⟩
def dkwX3_fill_1 : List UInt8 := [180, 0, 33, 27, 42, 180, 0, 30, 100, 96, 181, 0, 33, 177]
abbrev dktX3_fill_1 : List UInt8 := dkwX3_fill_1 ++ []
def dkwX3_fill_0 : List UInt8 := [42, 180, 0, 30, 42, 180, 0, 21, 96, 60, 42, 42, 180, 0, 24, 27, 184, 0, 39, 181, 0, 30, 42, 89]
abbrev dktX3_fill_0 : List UInt8 := dkwX3_fill_0 ++ dktX3_fill_1
theorem dksX3_fill_0 : cX3_fill.data.toList.drop 0 = dktX3_fill_0 := by decide +kernel
theorem dksX3_fill_1 : cX3_fill.data.toList.drop 24 = dktX3_fill_1 := dk_seg dksX3_fill_0 24 rfl rfl
theorem dX3_fill_0 : decode cX3_fill 0 = .ok (.aload_n 0, 1) := dk_42 (dk_at dksX3_fill_0 0 rfl rfl)
theorem dX3_fill_1 : decode cX3_fill 1 = .ok (.getfield 30, 3) := dk_180 0 30 (dk_at dksX3_fill_0 1 rfl rfl)
theorem dX3_fill_4 : decode cX3_fill 4 = .ok (.aload_n 0, 1) := dk_42 (dk_at dksX3_fill_0 4 rfl rfl)
theorem dX3_fill_5 : decode cX3_fill 5 = .ok (.getfield 21, 3) := dk_180 0 21 (dk_at dksX3_fill_0 5 rfl rfl)
theorem dX3_fill_8 : decode cX3_fill 8 = .ok (.iadd, 1) := dk_96 (dk_at dksX3_fill_0 8 rfl rfl)
theorem dX3_fill_9 : decode cX3_fill 9 = .ok (.istore_n 1, 1) := dk_60 (dk_at dksX3_fill_0 9 rfl rfl)
theorem dX3_fill_10 : decode cX3_fill 10 = .ok (.aload_n 0, 1) := dk_42 (dk_at dksX3_fill_0 10 rfl rfl)
theorem dX3_fill_11 : decode cX3_fill 11 = .ok (.aload_n 0, 1) := dk_42 (dk_at dksX3_fill_0 11 rfl rfl)
theorem dX3_fill_12 : decode cX3_fill 12 = .ok (.getfield 24, 3) := dk_180 0 24 (dk_at dksX3_fill_0 12 rfl rfl)
theorem dX3_fill_15 : decode cX3_fill 15 = .ok (.iload_n 1, 1) := dk_27 (dk_at dksX3_fill_0 15 rfl rfl)
theorem dX3_fill_16 : decode cX3_fill 16 = .ok (.invokestatic 39, 3) := dk_184 0 39 (dk_at dksX3_fill_0 16 rfl rfl)
theorem dX3_fill_19 : decode cX3_fill 19 = .ok (.putfield 30, 3) := dk_181 0 30 (dk_at dksX3_fill_0 19 rfl rfl)
theorem dX3_fill_22 : decode cX3_fill 22 = .ok (.aload_n 0, 1) := dk_42 (dk_at dksX3_fill_0 22 rfl rfl)
theorem dX3_fill_23 : decode cX3_fill 23 = .ok (.dup, 1) := dk_89 (dk_at dksX3_fill_0 23 rfl rfl)
theorem dX3_fill_24 : decode cX3_fill 24 = .ok (.getfield 33, 3) := dk_180 0 33 (dk_at dksX3_fill_1 0 rfl rfl)
theorem dX3_fill_27 : decode cX3_fill 27 = .ok (.iload_n 1, 1) := dk_27 (dk_at dksX3_fill_1 3 rfl rfl)
theorem dX3_fill_28 : decode cX3_fill 28 = .ok (.aload_n 0, 1) := dk_42 (dk_at dksX3_fill_1 4 rfl rfl)
theorem dX3_fill_29 : decode cX3_fill 29 = .ok (.getfield 30, 3) := dk_180 0 30 (dk_at dksX3_fill_1 5 rfl rfl)
theorem dX3_fill_32 : decode cX3_fill 32 = .ok (.isub, 1) := dk_100 (dk_at dksX3_fill_1 8 rfl rfl)
theorem dX3_fill_33 : decode cX3_fill 33 = .ok (.iadd, 1) := dk_96 (dk_at dksX3_fill_1 9 rfl rfl)
theorem dX3_fill_34 : decode cX3_fill 34 = .ok (.putfield 33, 3) := dk_181 0 33 (dk_at dksX3_fill_1 10 rfl rfl)
theorem dX3_fill_37 : decode cX3_fill 37 = .ok (.return_, 1) := dk_177 (dk_at dksX3_fill_1 13 rfl rfl)
theorem q174 : (Jvm.Cond.initialized "RoseGuild$Street") ∈ lw_all := lw_g (lw_at lw_m1 39 rfl) rfl
theorem q997 : (Jvm.Cond.selects "RoseGuild$Street" ({ cls := "java/lang/Object", name := "getClass", desc := "()Ljava/lang/Class;" } : Jvm.MethodName) ({ cls := "java/lang/Object", name := "getClass", desc := "()Ljava/lang/Class;" } : Jvm.MethodName)) ∈ lw_all := lw_g (lw_at lw_m4 142 rfl) rfl
theorem q1062 : (Jvm.Cond.selects "RoseGuild$Street" ({ cls := "java/lang/Object", name := "toString", desc := "()Ljava/lang/String;" } : Jvm.MethodName) ({ cls := "java/lang/Object", name := "toString", desc := "()Ljava/lang/String;" } : Jvm.MethodName)) ∈ lw_all := lw_g (lw_at lw_m4 207 rfl) rfl
theorem q1293 : (Jvm.Cond.instantiable "RoseGuild$Street" (8 : Nat)) ∈ lw_all := lw_g (lw_at lw_m5 198 rfl) rfl
theorem q1311 : (Jvm.Cond.instanceMethod ({ cls := "RoseGuild$Street", name := "<init>", desc := "(ILjava/lang/String;LRoseGuild$Point;II)V" } : Jvm.MethodName)) ∈ lw_all := lw_g (lw_at lw_m5 216 rfl) rfl
theorem q1312 : (Jvm.Cond.code ({ cls := "RoseGuild$Street", name := "<init>", desc := "(ILjava/lang/String;LRoseGuild$Point;II)V" } : Jvm.MethodName) prog_17_method_1_code (6 : Nat) (Option.none : Option Jvm.ClassFile.FieldType)) ∈ lw_all := lw_g (lw_at lw_m5 217 rfl) rfl
theorem q1313 : (Jvm.Cond.methodLink "RoseGuild$Street" (1 : Nat) ({ cls := "java/lang/Object", name := "<init>", desc := "()V" } : Jvm.MethodName)) ∈ lw_all := lw_g (lw_at lw_m5 218 rfl) rfl
theorem q1314 : (Jvm.Cond.fieldLink "RoseGuild$Street" (7 : Nat) "RoseGuild$Street" "number" "I") ∈ lw_all := lw_g (lw_at lw_m5 219 rfl) rfl
theorem q1317 : (Jvm.Cond.fieldLink "RoseGuild$Street" (21 : Nat) "RoseGuild$Street" "households" "I") ∈ lw_all := lw_g (lw_at lw_m5 222 rfl) rfl
theorem q1319 : (Jvm.Cond.fieldLink "RoseGuild$Street" (24 : Nat) "RoseGuild$Street" "capacity" "I") ∈ lw_all := lw_g (lw_at lw_m5 224 rfl) rfl
theorem q1321 : (Jvm.Cond.fieldLink "RoseGuild$Street" (13 : Nat) "RoseGuild$Street" "name" "Ljava/lang/String;") ∈ lw_all := lw_g (lw_at lw_m5 226 rfl) rfl
theorem q1323 : (Jvm.Cond.fieldLink "RoseGuild$Street" (17 : Nat) "RoseGuild$Street" "point" "LRoseGuild$Point;") ∈ lw_all := lw_g (lw_at lw_m5 228 rfl) rfl
theorem q1325 : (Jvm.Cond.fieldLink "RoseGuild$Street" (30 : Nat) "RoseGuild$Street" "bins" "I") ∈ lw_all := lw_g (lw_at lw_m5 230 rfl) rfl
theorem q1329 : (Jvm.Cond.fieldLink "RoseGuild$Street" (33 : Nat) "RoseGuild$Street" "spilled" "I") ∈ lw_all := lw_g (lw_at lw_m5 234 rfl) rfl
theorem q1332 : (Jvm.Cond.fieldLink "RoseGuild$Street" (36 : Nat) "RoseGuild$Street" "complaints" "I") ∈ lw_all := lw_g (lw_at lw_m5 237 rfl) rfl
theorem q1335 : (Jvm.Cond.laysFinal "RoseGuild$Street" "RoseGuild$Street" "number" "I") ∈ lw_all := lw_g (lw_at lw_m6 0 rfl) rfl
theorem q1336 : (Jvm.Cond.soleField "RoseGuild$Street" "number") ∈ lw_all := lw_g (lw_at lw_m6 1 rfl) rfl
theorem q1337 : (Jvm.Cond.laysFinal "RoseGuild$Street" "RoseGuild$Street" "households" "I") ∈ lw_all := lw_g (lw_at lw_m6 2 rfl) rfl
theorem q1338 : (Jvm.Cond.soleField "RoseGuild$Street" "households") ∈ lw_all := lw_g (lw_at lw_m6 3 rfl) rfl
theorem q1339 : (Jvm.Cond.laysFinal "RoseGuild$Street" "RoseGuild$Street" "capacity" "I") ∈ lw_all := lw_g (lw_at lw_m6 4 rfl) rfl
theorem q1340 : (Jvm.Cond.soleField "RoseGuild$Street" "capacity") ∈ lw_all := lw_g (lw_at lw_m6 5 rfl) rfl
theorem q1341 : (Jvm.Cond.laysFinal "RoseGuild$Street" "RoseGuild$Street" "name" "Ljava/lang/String;") ∈ lw_all := lw_g (lw_at lw_m6 6 rfl) rfl
theorem q1342 : (Jvm.Cond.soleField "RoseGuild$Street" "name") ∈ lw_all := lw_g (lw_at lw_m6 7 rfl) rfl
theorem q1343 : (Jvm.Cond.laysFinal "RoseGuild$Street" "RoseGuild$Street" "point" "LRoseGuild$Point;") ∈ lw_all := lw_g (lw_at lw_m6 8 rfl) rfl
theorem q1344 : (Jvm.Cond.soleField "RoseGuild$Street" "point") ∈ lw_all := lw_g (lw_at lw_m6 9 rfl) rfl
theorem q1345 : (Jvm.Cond.lays "RoseGuild$Street" "RoseGuild$Street" "bins" "I") ∈ lw_all := lw_g (lw_at lw_m6 10 rfl) rfl
theorem q1346 : (Jvm.Cond.soleField "RoseGuild$Street" "bins") ∈ lw_all := lw_g (lw_at lw_m6 11 rfl) rfl
theorem q1347 : (Jvm.Cond.lays "RoseGuild$Street" "RoseGuild$Street" "spilled" "I") ∈ lw_all := lw_g (lw_at lw_m6 12 rfl) rfl
theorem q1348 : (Jvm.Cond.soleField "RoseGuild$Street" "spilled") ∈ lw_all := lw_g (lw_at lw_m6 13 rfl) rfl
theorem q1349 : (Jvm.Cond.lays "RoseGuild$Street" "RoseGuild$Street" "complaints" "I") ∈ lw_all := lw_g (lw_at lw_m6 14 rfl) rfl
theorem q1350 : (Jvm.Cond.soleField "RoseGuild$Street" "complaints") ∈ lw_all := lw_g (lw_at lw_m6 15 rfl) rfl
theorem q1351 : (Jvm.Cond.superclass "RoseGuild$Street" "java/lang/Object") ∈ lw_all := lw_g (lw_at lw_m6 16 rfl) rfl
theorem q1461 : (Jvm.Cond.selects "RoseGuild$Street" ({ cls := "java/lang/Object", name := "hashCode", desc := "()I" } : Jvm.MethodName) ({ cls := "java/lang/Object", name := "hashCode", desc := "()I" } : Jvm.MethodName)) ∈ lw_all := lw_g (lw_at lw_m6 126 rfl) rfl
theorem q1877 : (Jvm.Cond.selects "RoseGuild$Street" ({ cls := "java/lang/Object", name := "equals", desc := "(Ljava/lang/Object;)Z" } : Jvm.MethodName) ({ cls := "java/lang/Object", name := "equals", desc := "(Ljava/lang/Object;)Z" } : Jvm.MethodName)) ∈ lw_all := lw_g (lw_at lw_m8 62 rfl) rfl
theorem q2367 : (Jvm.Cond.castable "RoseGuild$Street" "RoseGuild$Place") ∈ lw_tbl := lw_at lw_m10 72 rfl
theorem q2368 : (Jvm.Cond.selects "RoseGuild$Street" ({ cls := "RoseGuild$Place", name := "name", desc := "()Ljava/lang/String;" } : Jvm.MethodName) ({ cls := "RoseGuild$Street", name := "name", desc := "()Ljava/lang/String;" } : Jvm.MethodName)) ∈ lw_all := lw_g (lw_at lw_m10 73 rfl) rfl
theorem q2369 : (Jvm.Cond.unhidden "RoseGuild$Street" "name" "()Ljava/lang/String;") ∈ lw_tbl := lw_at lw_m10 74 rfl
theorem q2370 : (Jvm.Cond.instanceMethod ({ cls := "RoseGuild$Street", name := "name", desc := "()Ljava/lang/String;" } : Jvm.MethodName)) ∈ lw_all := lw_g (lw_at lw_m10 75 rfl) rfl
theorem q2371 : (Jvm.Cond.publicMethod ({ cls := "RoseGuild$Street", name := "name", desc := "()Ljava/lang/String;" } : Jvm.MethodName)) ∈ lw_tbl := lw_at lw_m10 76 rfl
theorem q2372 : (Jvm.Cond.code ({ cls := "RoseGuild$Street", name := "name", desc := "()Ljava/lang/String;" } : Jvm.MethodName) prog_17_method_4_code (1 : Nat) (Option.some (Jvm.ClassFile.FieldType.object "java/lang/String"))) ∈ lw_all := lw_g (lw_at lw_m10 77 rfl) rfl
theorem q2374 : (Jvm.Cond.unhidden "RoseGuild$Street" "isNamed" "(Ljava/lang/String;)Z") ∈ lw_tbl := lw_at lw_m10 79 rfl
theorem q2785 : (Jvm.Cond.instanceMethod ({ cls := "RoseGuild$Street", name := "copy", desc := "()LRoseGuild$Street;" } : Jvm.MethodName)) ∈ lw_all := lw_g (lw_at lw_m12 10 rfl) rfl
theorem q2786 : (Jvm.Cond.selects "RoseGuild$Street" ({ cls := "RoseGuild$Street", name := "copy", desc := "()LRoseGuild$Street;" } : Jvm.MethodName) ({ cls := "RoseGuild$Street", name := "copy", desc := "()LRoseGuild$Street;" } : Jvm.MethodName)) ∈ lw_all := lw_g (lw_at lw_m12 11 rfl) rfl
theorem q2787 : (Jvm.Cond.code ({ cls := "RoseGuild$Street", name := "copy", desc := "()LRoseGuild$Street;" } : Jvm.MethodName) prog_17_method_2_code (2 : Nat) (Option.some (Jvm.ClassFile.FieldType.object "RoseGuild$Street"))) ∈ lw_all := lw_g (lw_at lw_m12 12 rfl) rfl
theorem q2788 : (Jvm.Cond.classLink "RoseGuild$Street" (8 : Nat) "RoseGuild$Street") ∈ lw_all := lw_g (lw_at lw_m12 13 rfl) rfl
theorem q2789 : (Jvm.Cond.methodLink "RoseGuild$Street" (27 : Nat) ({ cls := "RoseGuild$Street", name := "<init>", desc := "(ILjava/lang/String;LRoseGuild$Point;II)V" } : Jvm.MethodName)) ∈ lw_all := lw_g (lw_at lw_m12 14 rfl) rfl
theorem q3001 : (Jvm.Cond.selects "RoseGuild$Street" ({ cls := "RoseGuild$Place", name := "point", desc := "()LRoseGuild$Point;" } : Jvm.MethodName) ({ cls := "RoseGuild$Street", name := "point", desc := "()LRoseGuild$Point;" } : Jvm.MethodName)) ∈ lw_all := lw_g (lw_at lw_m12 226 rfl) rfl
theorem q3002 : (Jvm.Cond.unhidden "RoseGuild$Street" "point" "()LRoseGuild$Point;") ∈ lw_tbl := lw_at lw_m12 227 rfl
theorem q3003 : (Jvm.Cond.instanceMethod ({ cls := "RoseGuild$Street", name := "point", desc := "()LRoseGuild$Point;" } : Jvm.MethodName)) ∈ lw_all := lw_g (lw_at lw_m12 228 rfl) rfl
theorem q3004 : (Jvm.Cond.publicMethod ({ cls := "RoseGuild$Street", name := "point", desc := "()LRoseGuild$Point;" } : Jvm.MethodName)) ∈ lw_tbl := lw_at lw_m12 229 rfl
theorem q3005 : (Jvm.Cond.code ({ cls := "RoseGuild$Street", name := "point", desc := "()LRoseGuild$Point;" } : Jvm.MethodName) prog_17_method_3_code (1 : Nat) (Option.some (Jvm.ClassFile.FieldType.object "RoseGuild$Point"))) ∈ lw_all := lw_g (lw_at lw_m12 230 rfl) rfl
theorem q3023 : (Jvm.Cond.unhidden "RoseGuild$Street" "distance" "(LRoseGuild$Place;)I") ∈ lw_tbl := lw_at lw_m13 8 rfl
theorem q3047 : (Jvm.Cond.instanceMethod ({ cls := "RoseGuild$Street", name := "fill", desc := "()V" } : Jvm.MethodName)) ∈ lw_all := lw_g (lw_at lw_m13 32 rfl) rfl
theorem q3048 : (Jvm.Cond.selects "RoseGuild$Street" ({ cls := "RoseGuild$Street", name := "fill", desc := "()V" } : Jvm.MethodName) ({ cls := "RoseGuild$Street", name := "fill", desc := "()V" } : Jvm.MethodName)) ∈ lw_all := lw_g (lw_at lw_m13 33 rfl) rfl
theorem q3049 : (Jvm.Cond.code ({ cls := "RoseGuild$Street", name := "fill", desc := "()V" } : Jvm.MethodName) prog_17_method_5_code (2 : Nat) (Option.none : Option Jvm.ClassFile.FieldType)) ∈ lw_all := lw_g (lw_at lw_m13 34 rfl) rfl
theorem q3050 : (Jvm.Cond.methodLink "RoseGuild$Street" (39 : Nat) ({ cls := "java/lang/Math", name := "min", desc := "(II)I" } : Jvm.MethodName)) ∈ lw_all := lw_g (lw_at lw_m13 35 rfl) rfl
theorem q3126 : (Jvm.Cond.unhidden "RoseGuild$Street" "distanceInDirection" "(LRoseGuild$Place;I)I") ∈ lw_tbl := lw_at lw_m13 111 rfl
theorem q4399 : (Jvm.Cond.castable "RoseGuild$Street" "java/lang/Object") ∈ lw_tbl := lw_at lw_m18 184 rfl
theorem in_X3 : ∀ w ∈ wsX30, w ∈ lw_all := lw_in wsX30 [1335, 1337, 1339, 1341, 1343, 1345, 1347, 1349] (by decide +kernel) (by decide +kernel)

/-! RoseGuild$Point -/
set_option maxRecDepth 100000
def RX4 : String := "RoseGuild$Point"
def TX4 : u_T := fun k => match k with
  | 0 => ("RoseGuild$Point", "column", "I", true)
  | _ => ("RoseGuild$Point", "row", "I", true)
def tyX4 : Nat → FieldType := fun k => match k with
  | 0 => .int
  | _ => .int
abbrev wsX40 : List Cond := u_ws RX4 TX4 2
theorem nmX4 : ∀ a, a < 2 → ∀ b, b < 2 → a ≠ b → (TX4 a).2.1 ≠ (TX4 b).2.1 := by decide +kernel
theorem tyX4_ok : ∀ k, k < 2 → parseFieldDescriptor (TX4 k).2.2.1 = some (tyX4 k) := by decide +kernel
abbrev cX4_init : ByteArray := prog_12_method_1_code
def yX4_init : MethodName := ⟨RX4, "<init>", "(II)V"⟩
def dkwX4_init_0 : List UInt8 := [42, 183, 0, 3, 42, 27, 181, 0, 9, 42, 28, 181, 0, 15, 177]
abbrev dktX4_init_0 : List UInt8 := dkwX4_init_0 ++ []
theorem dksX4_init_0 : cX4_init.data.toList.drop 0 = dktX4_init_0 := by decide +kernel
theorem dX4_init_0 : decode cX4_init 0 = .ok (.aload_n 0, 1) := dk_42 (dk_at dksX4_init_0 0 rfl rfl)
theorem dX4_init_1 : decode cX4_init 1 = .ok (.invokespecial 3, 3) := dk_183 0 3 (dk_at dksX4_init_0 1 rfl rfl)
theorem dX4_init_4 : decode cX4_init 4 = .ok (.aload_n 0, 1) := dk_42 (dk_at dksX4_init_0 4 rfl rfl)
theorem dX4_init_5 : decode cX4_init 5 = .ok (.iload_n 1, 1) := dk_27 (dk_at dksX4_init_0 5 rfl rfl)
theorem dX4_init_6 : decode cX4_init 6 = .ok (.putfield 9, 3) := dk_181 0 9 (dk_at dksX4_init_0 6 rfl rfl)
theorem dX4_init_9 : decode cX4_init 9 = .ok (.aload_n 0, 1) := dk_42 (dk_at dksX4_init_0 9 rfl rfl)
theorem dX4_init_10 : decode cX4_init 10 = .ok (.iload_n 2, 1) := dk_28 (dk_at dksX4_init_0 10 rfl rfl)
theorem dX4_init_11 : decode cX4_init 11 = .ok (.putfield 15, 3) := dk_181 0 15 (dk_at dksX4_init_0 11 rfl rfl)
theorem dX4_init_14 : decode cX4_init 14 = .ok (.return_, 1) := dk_177 (dk_at dksX4_init_0 14 rfl rfl)
abbrev cX4_hashCode : ByteArray := prog_12_method_3_code
def yX4_hashCode : MethodName := ⟨RX4, "hashCode", "()I"⟩
def dkwX4_hashCode_0 : List UInt8 := [16, 10, 42, 180, 0, 15, 104, 42, 180, 0, 9, 96, 172]
abbrev dktX4_hashCode_0 : List UInt8 := dkwX4_hashCode_0 ++ []
theorem dksX4_hashCode_0 : cX4_hashCode.data.toList.drop 0 = dktX4_hashCode_0 := by decide +kernel
theorem dX4_hashCode_0 : decode cX4_hashCode 0 = .ok (.bipush 10, 2) := dk_16 10 (dk_at dksX4_hashCode_0 0 rfl rfl)
theorem dX4_hashCode_2 : decode cX4_hashCode 2 = .ok (.aload_n 0, 1) := dk_42 (dk_at dksX4_hashCode_0 2 rfl rfl)
theorem dX4_hashCode_3 : decode cX4_hashCode 3 = .ok (.getfield 15, 3) := dk_180 0 15 (dk_at dksX4_hashCode_0 3 rfl rfl)
theorem dX4_hashCode_6 : decode cX4_hashCode 6 = .ok (.imul, 1) := dk_104 (dk_at dksX4_hashCode_0 6 rfl rfl)
theorem dX4_hashCode_7 : decode cX4_hashCode 7 = .ok (.aload_n 0, 1) := dk_42 (dk_at dksX4_hashCode_0 7 rfl rfl)
theorem dX4_hashCode_8 : decode cX4_hashCode 8 = .ok (.getfield 9, 3) := dk_180 0 9 (dk_at dksX4_hashCode_0 8 rfl rfl)
theorem dX4_hashCode_11 : decode cX4_hashCode 11 = .ok (.iadd, 1) := dk_96 (dk_at dksX4_hashCode_0 11 rfl rfl)
theorem dX4_hashCode_12 : decode cX4_hashCode 12 = .ok (.ireturn, 1) := dk_172 (dk_at dksX4_hashCode_0 12 rfl rfl)
abbrev cX4_equals : ByteArray := prog_12_method_2_code
def yX4_equals : MethodName := ⟨RX4, "equals", "(Ljava/lang/Object;)Z"⟩
def dkwX4_equals_1 : List UInt8 := [180, 0, 15, 42, 180, 0, 15, 160, 0, 7, 4, 167, 0, 4, 3, 172]
abbrev dktX4_equals_1 : List UInt8 := dkwX4_equals_1 ++ []
def dkwX4_equals_0 : List UInt8 := [43, 193, 0, 10, 153, 0, 34, 43, 192, 0, 10, 77, 44, 180, 0, 9, 42, 180, 0, 9, 160, 0, 18, 44]
abbrev dktX4_equals_0 : List UInt8 := dkwX4_equals_0 ++ dktX4_equals_1
theorem dksX4_equals_0 : cX4_equals.data.toList.drop 0 = dktX4_equals_0 := by decide +kernel
theorem dksX4_equals_1 : cX4_equals.data.toList.drop 24 = dktX4_equals_1 := dk_seg dksX4_equals_0 24 rfl rfl
theorem dX4_equals_0 : decode cX4_equals 0 = .ok (.aload_n 1, 1) := dk_43 (dk_at dksX4_equals_0 0 rfl rfl)
theorem dX4_equals_1 : decode cX4_equals 1 = .ok (.instanceof 10, 3) := dk_193 0 10 (dk_at dksX4_equals_0 1 rfl rfl)
theorem dX4_equals_4 : decode cX4_equals 4 = .ok (.ifCond .eq 34, 3) := dk_153 0 34 (dk_at dksX4_equals_0 4 rfl rfl)
theorem dX4_equals_7 : decode cX4_equals 7 = .ok (.aload_n 1, 1) := dk_43 (dk_at dksX4_equals_0 7 rfl rfl)
theorem dX4_equals_8 : decode cX4_equals 8 = .ok (.checkcast 10, 3) := dk_192 0 10 (dk_at dksX4_equals_0 8 rfl rfl)
theorem dX4_equals_11 : decode cX4_equals 11 = .ok (.astore_n 2, 1) := dk_77 (dk_at dksX4_equals_0 11 rfl rfl)
theorem dX4_equals_12 : decode cX4_equals 12 = .ok (.aload_n 2, 1) := dk_44 (dk_at dksX4_equals_0 12 rfl rfl)
theorem dX4_equals_13 : decode cX4_equals 13 = .ok (.getfield 9, 3) := dk_180 0 9 (dk_at dksX4_equals_0 13 rfl rfl)
theorem dX4_equals_16 : decode cX4_equals 16 = .ok (.aload_n 0, 1) := dk_42 (dk_at dksX4_equals_0 16 rfl rfl)
theorem dX4_equals_17 : decode cX4_equals 17 = .ok (.getfield 9, 3) := dk_180 0 9 (dk_at dksX4_equals_0 17 rfl rfl)
theorem dX4_equals_20 : decode cX4_equals 20 = .ok (.if_icmp .ne 18, 3) := dk_160 0 18 (dk_at dksX4_equals_0 20 rfl rfl)
theorem dX4_equals_23 : decode cX4_equals 23 = .ok (.aload_n 2, 1) := dk_44 (dk_at dksX4_equals_0 23 rfl rfl)
theorem dX4_equals_24 : decode cX4_equals 24 = .ok (.getfield 15, 3) := dk_180 0 15 (dk_at dksX4_equals_1 0 rfl rfl)
theorem dX4_equals_27 : decode cX4_equals 27 = .ok (.aload_n 0, 1) := dk_42 (dk_at dksX4_equals_1 3 rfl rfl)
theorem dX4_equals_28 : decode cX4_equals 28 = .ok (.getfield 15, 3) := dk_180 0 15 (dk_at dksX4_equals_1 4 rfl rfl)
theorem dX4_equals_31 : decode cX4_equals 31 = .ok (.if_icmp .ne 7, 3) := dk_160 0 7 (dk_at dksX4_equals_1 7 rfl rfl)
theorem dX4_equals_34 : decode cX4_equals 34 = .ok (.iconst 1, 1) := dk_4 (dk_at dksX4_equals_1 10 rfl rfl)
theorem dX4_equals_35 : decode cX4_equals 35 = .ok (.goto 4, 3) := dk_167 0 4 (dk_at dksX4_equals_1 11 rfl rfl)
theorem dX4_equals_38 : decode cX4_equals 38 = .ok (.iconst 0, 1) := dk_3 (dk_at dksX4_equals_1 14 rfl rfl)
theorem dX4_equals_39 : decode cX4_equals 39 = .ok (.ireturn, 1) := dk_172 (dk_at dksX4_equals_1 15 rfl rfl)
theorem q175 : (Jvm.Cond.initialized "RoseGuild$Point") ∈ lw_all := lw_g (lw_at lw_m1 40 rfl) rfl
theorem q977 : (Jvm.Cond.selects "RoseGuild$Point" ({ cls := "java/lang/Object", name := "toString", desc := "()Ljava/lang/String;" } : Jvm.MethodName) ({ cls := "java/lang/Object", name := "toString", desc := "()Ljava/lang/String;" } : Jvm.MethodName)) ∈ lw_all := lw_g (lw_at lw_m4 122 rfl) rfl
theorem q992 : (Jvm.Cond.selects "RoseGuild$Point" ({ cls := "java/lang/Object", name := "getClass", desc := "()Ljava/lang/Class;" } : Jvm.MethodName) ({ cls := "java/lang/Object", name := "getClass", desc := "()Ljava/lang/Class;" } : Jvm.MethodName)) ∈ lw_all := lw_g (lw_at lw_m4 137 rfl) rfl
theorem q1296 : (Jvm.Cond.instantiable "RoseGuild$Point" (2 : Nat)) ∈ lw_all := lw_g (lw_at lw_m5 201 rfl) rfl
theorem q1298 : (Jvm.Cond.instanceMethod ({ cls := "RoseGuild$Point", name := "<init>", desc := "(II)V" } : Jvm.MethodName)) ∈ lw_all := lw_g (lw_at lw_m5 203 rfl) rfl
theorem q1299 : (Jvm.Cond.code ({ cls := "RoseGuild$Point", name := "<init>", desc := "(II)V" } : Jvm.MethodName) prog_12_method_1_code (3 : Nat) (Option.none : Option Jvm.ClassFile.FieldType)) ∈ lw_all := lw_g (lw_at lw_m5 204 rfl) rfl
theorem q1300 : (Jvm.Cond.methodLink "RoseGuild$Point" (3 : Nat) ({ cls := "java/lang/Object", name := "<init>", desc := "()V" } : Jvm.MethodName)) ∈ lw_all := lw_g (lw_at lw_m5 205 rfl) rfl
theorem q1301 : (Jvm.Cond.fieldLink "RoseGuild$Point" (9 : Nat) "RoseGuild$Point" "column" "I") ∈ lw_all := lw_g (lw_at lw_m5 206 rfl) rfl
theorem q1303 : (Jvm.Cond.fieldLink "RoseGuild$Point" (15 : Nat) "RoseGuild$Point" "row" "I") ∈ lw_all := lw_g (lw_at lw_m5 208 rfl) rfl
theorem q1305 : (Jvm.Cond.laysFinal "RoseGuild$Point" "RoseGuild$Point" "column" "I") ∈ lw_all := lw_g (lw_at lw_m5 210 rfl) rfl
theorem q1306 : (Jvm.Cond.soleField "RoseGuild$Point" "column") ∈ lw_all := lw_g (lw_at lw_m5 211 rfl) rfl
theorem q1307 : (Jvm.Cond.laysFinal "RoseGuild$Point" "RoseGuild$Point" "row" "I") ∈ lw_all := lw_g (lw_at lw_m5 212 rfl) rfl
theorem q1308 : (Jvm.Cond.soleField "RoseGuild$Point" "row") ∈ lw_all := lw_g (lw_at lw_m5 213 rfl) rfl
theorem q1309 : (Jvm.Cond.superclass "RoseGuild$Point" "java/lang/Object") ∈ lw_all := lw_g (lw_at lw_m5 214 rfl) rfl
theorem q1454 : (Jvm.Cond.selects "RoseGuild$Point" ({ cls := "java/lang/Object", name := "hashCode", desc := "()I" } : Jvm.MethodName) ({ cls := "RoseGuild$Point", name := "hashCode", desc := "()I" } : Jvm.MethodName)) ∈ lw_all := lw_g (lw_at lw_m6 119 rfl) rfl
theorem q1455 : (Jvm.Cond.instanceMethod ({ cls := "RoseGuild$Point", name := "hashCode", desc := "()I" } : Jvm.MethodName)) ∈ lw_all := lw_g (lw_at lw_m6 120 rfl) rfl
theorem q1456 : (Jvm.Cond.code ({ cls := "RoseGuild$Point", name := "hashCode", desc := "()I" } : Jvm.MethodName) prog_12_method_3_code (1 : Nat) (Option.some Jvm.ClassFile.FieldType.int)) ∈ lw_all := lw_g (lw_at lw_m6 121 rfl) rfl
theorem q1869 : (Jvm.Cond.selects "RoseGuild$Point" ({ cls := "java/lang/Object", name := "equals", desc := "(Ljava/lang/Object;)Z" } : Jvm.MethodName) ({ cls := "RoseGuild$Point", name := "equals", desc := "(Ljava/lang/Object;)Z" } : Jvm.MethodName)) ∈ lw_all := lw_g (lw_at lw_m8 54 rfl) rfl
theorem q1870 : (Jvm.Cond.instanceMethod ({ cls := "RoseGuild$Point", name := "equals", desc := "(Ljava/lang/Object;)Z" } : Jvm.MethodName)) ∈ lw_all := lw_g (lw_at lw_m8 55 rfl) rfl
theorem q1871 : (Jvm.Cond.code ({ cls := "RoseGuild$Point", name := "equals", desc := "(Ljava/lang/Object;)Z" } : Jvm.MethodName) prog_12_method_2_code (3 : Nat) (Option.some Jvm.ClassFile.FieldType.boolean)) ∈ lw_all := lw_g (lw_at lw_m8 56 rfl) rfl
theorem q1872 : (Jvm.Cond.classLink "RoseGuild$Point" (10 : Nat) "RoseGuild$Point") ∈ lw_all := lw_g (lw_at lw_m8 57 rfl) rfl
theorem q4400 : (Jvm.Cond.castable "RoseGuild$Point" "java/lang/Object") ∈ lw_tbl := lw_at lw_m18 185 rfl
theorem in_X4 : ∀ w ∈ wsX40, w ∈ lw_all := lw_in wsX40 [1305, 1307] (by decide +kernel) (by decide +kernel)

/-! RoseGuild$Garden -/
set_option maxRecDepth 100000
def RX5 : String := "RoseGuild$Garden"
def TX5 : u_T := fun k => match k with
  | 0 => ("RoseGuild$Garden", "number", "I", true)
  | 1 => ("RoseGuild$Garden", "beds", "I", true)
  | 2 => ("RoseGuild$Garden", "name", "Ljava/lang/String;", true)
  | 3 => ("RoseGuild$Garden", "point", "LRoseGuild$Point;", true)
  | 4 => ("RoseGuild$Garden", "stock", "I", false)
  | 5 => ("RoseGuild$Garden", "petals", "I", false)
  | 6 => ("RoseGuild$Garden", "recentPetals", "I", false)
  | 7 => ("RoseGuild$Garden", "rotted", "I", false)
  | _ => ("RoseGuild$Garden", "prizes", "I", false)
def tyX5 : Nat → FieldType := fun k => match k with
  | 0 => .int
  | 1 => .int
  | 2 => .object "java/lang/String"
  | 3 => .object "RoseGuild$Point"
  | 4 => .int
  | 5 => .int
  | 6 => .int
  | 7 => .int
  | _ => .int
abbrev wsX50 : List Cond := u_ws RX5 TX5 9
theorem nmX5 : ∀ a, a < 9 → ∀ b, b < 9 → a ≠ b → (TX5 a).2.1 ≠ (TX5 b).2.1 := by decide +kernel
theorem tyX5_ok : ∀ k, k < 9 → parseFieldDescriptor (TX5 k).2.2.1 = some (tyX5 k) := by decide +kernel
abbrev cX5_init : ByteArray := prog_7_method_1_code
def yX5_init : MethodName := ⟨RX5, "<init>", "(ILjava/lang/String;LRoseGuild$Point;I)V"⟩
def dkwX5_init_1 : List UInt8 := [181, 0, 23, 177]
abbrev dktX5_init_1 : List UInt8 := dkwX5_init_1 ++ []
def dkwX5_init_0 : List UInt8 := [42, 183, 0, 3, 42, 27, 181, 0, 9, 42, 44, 181, 0, 15, 42, 45, 181, 0, 19, 42, 21, 4]
abbrev dktX5_init_0 : List UInt8 := dkwX5_init_0 ++ dktX5_init_1
theorem dksX5_init_0 : cX5_init.data.toList.drop 0 = dktX5_init_0 := by decide +kernel
theorem dksX5_init_1 : cX5_init.data.toList.drop 22 = dktX5_init_1 := dk_seg dksX5_init_0 22 rfl rfl
theorem dX5_init_0 : decode cX5_init 0 = .ok (.aload_n 0, 1) := dk_42 (dk_at dksX5_init_0 0 rfl rfl)
theorem dX5_init_1 : decode cX5_init 1 = .ok (.invokespecial 3, 3) := dk_183 0 3 (dk_at dksX5_init_0 1 rfl rfl)
theorem dX5_init_4 : decode cX5_init 4 = .ok (.aload_n 0, 1) := dk_42 (dk_at dksX5_init_0 4 rfl rfl)
theorem dX5_init_5 : decode cX5_init 5 = .ok (.iload_n 1, 1) := dk_27 (dk_at dksX5_init_0 5 rfl rfl)
theorem dX5_init_6 : decode cX5_init 6 = .ok (.putfield 9, 3) := dk_181 0 9 (dk_at dksX5_init_0 6 rfl rfl)
theorem dX5_init_9 : decode cX5_init 9 = .ok (.aload_n 0, 1) := dk_42 (dk_at dksX5_init_0 9 rfl rfl)
theorem dX5_init_10 : decode cX5_init 10 = .ok (.aload_n 2, 1) := dk_44 (dk_at dksX5_init_0 10 rfl rfl)
theorem dX5_init_11 : decode cX5_init 11 = .ok (.putfield 15, 3) := dk_181 0 15 (dk_at dksX5_init_0 11 rfl rfl)
theorem dX5_init_14 : decode cX5_init 14 = .ok (.aload_n 0, 1) := dk_42 (dk_at dksX5_init_0 14 rfl rfl)
theorem dX5_init_15 : decode cX5_init 15 = .ok (.aload_n 3, 1) := dk_45 (dk_at dksX5_init_0 15 rfl rfl)
theorem dX5_init_16 : decode cX5_init 16 = .ok (.putfield 19, 3) := dk_181 0 19 (dk_at dksX5_init_0 16 rfl rfl)
theorem dX5_init_19 : decode cX5_init 19 = .ok (.aload_n 0, 1) := dk_42 (dk_at dksX5_init_0 19 rfl rfl)
theorem dX5_init_20 : decode cX5_init 20 = .ok (.iload 4, 2) := dk_21 4 (dk_at dksX5_init_0 20 rfl rfl)
theorem dX5_init_22 : decode cX5_init 22 = .ok (.putfield 23, 3) := dk_181 0 23 (dk_at dksX5_init_1 0 rfl rfl)
theorem dX5_init_25 : decode cX5_init 25 = .ok (.return_, 1) := dk_177 (dk_at dksX5_init_1 3 rfl rfl)
abbrev cX5_name : ByteArray := prog_7_method_4_code
def yX5_name : MethodName := ⟨RX5, "name", "()Ljava/lang/String;"⟩
theorem dX5_name_0 : decode cX5_name 0 = .ok (.aload_n 0, 1) := by decide +kernel
theorem dX5_name_1 : decode cX5_name 1 = .ok (.getfield 15, 3) := by decide +kernel
theorem dX5_name_4 : decode cX5_name 4 = .ok (.areturn, 1) := by decide +kernel
abbrev cX5_copy : ByteArray := prog_7_method_2_code
def yX5_copy : MethodName := ⟨RX5, "copy", "()LRoseGuild$Garden;"⟩
def dkwX5_copy_2 : List UInt8 := [43, 42, 180, 0, 38, 181, 0, 38, 43, 42, 180, 0, 41, 181, 0, 41, 43, 176]
abbrev dktX5_copy_2 : List UInt8 := dkwX5_copy_2 ++ []
def dkwX5_copy_1 : List UInt8 := [43, 42, 180, 0, 29, 181, 0, 29, 43, 42, 180, 0, 32, 181, 0, 32, 43, 42, 180, 0, 35, 181, 0, 35]
abbrev dktX5_copy_1 : List UInt8 := dkwX5_copy_1 ++ dktX5_copy_2
def dkwX5_copy_0 : List UInt8 := [187, 0, 10, 89, 42, 180, 0, 9, 42, 180, 0, 15, 42, 180, 0, 19, 42, 180, 0, 23, 183, 0, 26, 76]
abbrev dktX5_copy_0 : List UInt8 := dkwX5_copy_0 ++ dktX5_copy_1
theorem dksX5_copy_0 : cX5_copy.data.toList.drop 0 = dktX5_copy_0 := by decide +kernel
theorem dksX5_copy_1 : cX5_copy.data.toList.drop 24 = dktX5_copy_1 := dk_seg dksX5_copy_0 24 rfl rfl
theorem dksX5_copy_2 : cX5_copy.data.toList.drop 48 = dktX5_copy_2 := dk_seg dksX5_copy_1 24 rfl rfl
theorem dX5_copy_0 : decode cX5_copy 0 = .ok (.new 10, 3) := dk_187 0 10 (dk_at dksX5_copy_0 0 rfl rfl)
theorem dX5_copy_3 : decode cX5_copy 3 = .ok (.dup, 1) := dk_89 (dk_at dksX5_copy_0 3 rfl rfl)
theorem dX5_copy_4 : decode cX5_copy 4 = .ok (.aload_n 0, 1) := dk_42 (dk_at dksX5_copy_0 4 rfl rfl)
theorem dX5_copy_5 : decode cX5_copy 5 = .ok (.getfield 9, 3) := dk_180 0 9 (dk_at dksX5_copy_0 5 rfl rfl)
theorem dX5_copy_8 : decode cX5_copy 8 = .ok (.aload_n 0, 1) := dk_42 (dk_at dksX5_copy_0 8 rfl rfl)
theorem dX5_copy_9 : decode cX5_copy 9 = .ok (.getfield 15, 3) := dk_180 0 15 (dk_at dksX5_copy_0 9 rfl rfl)
theorem dX5_copy_12 : decode cX5_copy 12 = .ok (.aload_n 0, 1) := dk_42 (dk_at dksX5_copy_0 12 rfl rfl)
theorem dX5_copy_13 : decode cX5_copy 13 = .ok (.getfield 19, 3) := dk_180 0 19 (dk_at dksX5_copy_0 13 rfl rfl)
theorem dX5_copy_16 : decode cX5_copy 16 = .ok (.aload_n 0, 1) := dk_42 (dk_at dksX5_copy_0 16 rfl rfl)
theorem dX5_copy_17 : decode cX5_copy 17 = .ok (.getfield 23, 3) := dk_180 0 23 (dk_at dksX5_copy_0 17 rfl rfl)
theorem dX5_copy_20 : decode cX5_copy 20 = .ok (.invokespecial 26, 3) := dk_183 0 26 (dk_at dksX5_copy_0 20 rfl rfl)
theorem dX5_copy_23 : decode cX5_copy 23 = .ok (.astore_n 1, 1) := dk_76 (dk_at dksX5_copy_0 23 rfl rfl)
theorem dX5_copy_24 : decode cX5_copy 24 = .ok (.aload_n 1, 1) := dk_43 (dk_at dksX5_copy_1 0 rfl rfl)
theorem dX5_copy_25 : decode cX5_copy 25 = .ok (.aload_n 0, 1) := dk_42 (dk_at dksX5_copy_1 1 rfl rfl)
theorem dX5_copy_26 : decode cX5_copy 26 = .ok (.getfield 29, 3) := dk_180 0 29 (dk_at dksX5_copy_1 2 rfl rfl)
theorem dX5_copy_29 : decode cX5_copy 29 = .ok (.putfield 29, 3) := dk_181 0 29 (dk_at dksX5_copy_1 5 rfl rfl)
theorem dX5_copy_32 : decode cX5_copy 32 = .ok (.aload_n 1, 1) := dk_43 (dk_at dksX5_copy_1 8 rfl rfl)
theorem dX5_copy_33 : decode cX5_copy 33 = .ok (.aload_n 0, 1) := dk_42 (dk_at dksX5_copy_1 9 rfl rfl)
theorem dX5_copy_34 : decode cX5_copy 34 = .ok (.getfield 32, 3) := dk_180 0 32 (dk_at dksX5_copy_1 10 rfl rfl)
theorem dX5_copy_37 : decode cX5_copy 37 = .ok (.putfield 32, 3) := dk_181 0 32 (dk_at dksX5_copy_1 13 rfl rfl)
theorem dX5_copy_40 : decode cX5_copy 40 = .ok (.aload_n 1, 1) := dk_43 (dk_at dksX5_copy_1 16 rfl rfl)
theorem dX5_copy_41 : decode cX5_copy 41 = .ok (.aload_n 0, 1) := dk_42 (dk_at dksX5_copy_1 17 rfl rfl)
theorem dX5_copy_42 : decode cX5_copy 42 = .ok (.getfield 35, 3) := dk_180 0 35 (dk_at dksX5_copy_1 18 rfl rfl)
theorem dX5_copy_45 : decode cX5_copy 45 = .ok (.putfield 35, 3) := dk_181 0 35 (dk_at dksX5_copy_1 21 rfl rfl)
theorem dX5_copy_48 : decode cX5_copy 48 = .ok (.aload_n 1, 1) := dk_43 (dk_at dksX5_copy_2 0 rfl rfl)
theorem dX5_copy_49 : decode cX5_copy 49 = .ok (.aload_n 0, 1) := dk_42 (dk_at dksX5_copy_2 1 rfl rfl)
theorem dX5_copy_50 : decode cX5_copy 50 = .ok (.getfield 38, 3) := dk_180 0 38 (dk_at dksX5_copy_2 2 rfl rfl)
theorem dX5_copy_53 : decode cX5_copy 53 = .ok (.putfield 38, 3) := dk_181 0 38 (dk_at dksX5_copy_2 5 rfl rfl)
theorem dX5_copy_56 : decode cX5_copy 56 = .ok (.aload_n 1, 1) := dk_43 (dk_at dksX5_copy_2 8 rfl rfl)
theorem dX5_copy_57 : decode cX5_copy 57 = .ok (.aload_n 0, 1) := dk_42 (dk_at dksX5_copy_2 9 rfl rfl)
theorem dX5_copy_58 : decode cX5_copy 58 = .ok (.getfield 41, 3) := dk_180 0 41 (dk_at dksX5_copy_2 10 rfl rfl)
theorem dX5_copy_61 : decode cX5_copy 61 = .ok (.putfield 41, 3) := dk_181 0 41 (dk_at dksX5_copy_2 13 rfl rfl)
theorem dX5_copy_64 : decode cX5_copy 64 = .ok (.aload_n 1, 1) := dk_43 (dk_at dksX5_copy_2 16 rfl rfl)
theorem dX5_copy_65 : decode cX5_copy 65 = .ok (.areturn, 1) := dk_176 (dk_at dksX5_copy_2 17 rfl rfl)
abbrev cX5_point : ByteArray := prog_7_method_3_code
def yX5_point : MethodName := ⟨RX5, "point", "()LRoseGuild$Point;"⟩
theorem dX5_point_0 : decode cX5_point 0 = .ok (.aload_n 0, 1) := by decide +kernel
theorem dX5_point_1 : decode cX5_point 1 = .ok (.getfield 19, 3) := by decide +kernel
theorem dX5_point_4 : decode cX5_point 4 = .ok (.areturn, 1) := by decide +kernel
abbrev cX5_bloom : ByteArray := prog_7_method_5_code
def yX5_bloom : MethodName := ⟨RX5, "bloom", "()V"⟩
def dkwX5_bloom_3 : List UInt8 := [180, 0, 38, 28, 96, 181, 0, 38, 177]
abbrev dktX5_bloom_3 : List UInt8 := dkwX5_bloom_3 ++ []
def dkwX5_bloom_2 : List UInt8 := [42, 180, 0, 23, 104, 100, 184, 0, 50, 61, 42, 89, 180, 0, 29, 28, 100, 181, 0, 29, 42, 89]
abbrev dktX5_bloom_2 : List UInt8 := dkwX5_bloom_2 ++ dktX5_bloom_3
def dkwX5_bloom_1 : List UInt8 := [180, 0, 35, 27, 96, 181, 0, 35, 42, 89, 180, 0, 29, 27, 100, 181, 0, 29, 3, 42, 180, 0, 29, 6]
abbrev dktX5_bloom_1 : List UInt8 := dkwX5_bloom_1 ++ dktX5_bloom_2
def dkwX5_bloom_0 : List UInt8 := [42, 180, 0, 29, 42, 180, 0, 23, 184, 0, 44, 60, 42, 89, 180, 0, 32, 27, 96, 181, 0, 32, 42, 89]
abbrev dktX5_bloom_0 : List UInt8 := dkwX5_bloom_0 ++ dktX5_bloom_1
theorem dksX5_bloom_0 : cX5_bloom.data.toList.drop 0 = dktX5_bloom_0 := by decide +kernel
theorem dksX5_bloom_1 : cX5_bloom.data.toList.drop 24 = dktX5_bloom_1 := dk_seg dksX5_bloom_0 24 rfl rfl
theorem dksX5_bloom_2 : cX5_bloom.data.toList.drop 48 = dktX5_bloom_2 := dk_seg dksX5_bloom_1 24 rfl rfl
theorem dksX5_bloom_3 : cX5_bloom.data.toList.drop 70 = dktX5_bloom_3 := dk_seg dksX5_bloom_2 22 rfl rfl
theorem dX5_bloom_0 : decode cX5_bloom 0 = .ok (.aload_n 0, 1) := dk_42 (dk_at dksX5_bloom_0 0 rfl rfl)
theorem dX5_bloom_1 : decode cX5_bloom 1 = .ok (.getfield 29, 3) := dk_180 0 29 (dk_at dksX5_bloom_0 1 rfl rfl)
theorem dX5_bloom_4 : decode cX5_bloom 4 = .ok (.aload_n 0, 1) := dk_42 (dk_at dksX5_bloom_0 4 rfl rfl)
theorem dX5_bloom_5 : decode cX5_bloom 5 = .ok (.getfield 23, 3) := dk_180 0 23 (dk_at dksX5_bloom_0 5 rfl rfl)
theorem dX5_bloom_8 : decode cX5_bloom 8 = .ok (.invokestatic 44, 3) := dk_184 0 44 (dk_at dksX5_bloom_0 8 rfl rfl)
theorem dX5_bloom_11 : decode cX5_bloom 11 = .ok (.istore_n 1, 1) := dk_60 (dk_at dksX5_bloom_0 11 rfl rfl)
theorem dX5_bloom_12 : decode cX5_bloom 12 = .ok (.aload_n 0, 1) := dk_42 (dk_at dksX5_bloom_0 12 rfl rfl)
theorem dX5_bloom_13 : decode cX5_bloom 13 = .ok (.dup, 1) := dk_89 (dk_at dksX5_bloom_0 13 rfl rfl)
theorem dX5_bloom_14 : decode cX5_bloom 14 = .ok (.getfield 32, 3) := dk_180 0 32 (dk_at dksX5_bloom_0 14 rfl rfl)
theorem dX5_bloom_17 : decode cX5_bloom 17 = .ok (.iload_n 1, 1) := dk_27 (dk_at dksX5_bloom_0 17 rfl rfl)
theorem dX5_bloom_18 : decode cX5_bloom 18 = .ok (.iadd, 1) := dk_96 (dk_at dksX5_bloom_0 18 rfl rfl)
theorem dX5_bloom_19 : decode cX5_bloom 19 = .ok (.putfield 32, 3) := dk_181 0 32 (dk_at dksX5_bloom_0 19 rfl rfl)
theorem dX5_bloom_22 : decode cX5_bloom 22 = .ok (.aload_n 0, 1) := dk_42 (dk_at dksX5_bloom_0 22 rfl rfl)
theorem dX5_bloom_23 : decode cX5_bloom 23 = .ok (.dup, 1) := dk_89 (dk_at dksX5_bloom_0 23 rfl rfl)
theorem dX5_bloom_24 : decode cX5_bloom 24 = .ok (.getfield 35, 3) := dk_180 0 35 (dk_at dksX5_bloom_1 0 rfl rfl)
theorem dX5_bloom_27 : decode cX5_bloom 27 = .ok (.iload_n 1, 1) := dk_27 (dk_at dksX5_bloom_1 3 rfl rfl)
theorem dX5_bloom_28 : decode cX5_bloom 28 = .ok (.iadd, 1) := dk_96 (dk_at dksX5_bloom_1 4 rfl rfl)
theorem dX5_bloom_29 : decode cX5_bloom 29 = .ok (.putfield 35, 3) := dk_181 0 35 (dk_at dksX5_bloom_1 5 rfl rfl)
theorem dX5_bloom_32 : decode cX5_bloom 32 = .ok (.aload_n 0, 1) := dk_42 (dk_at dksX5_bloom_1 8 rfl rfl)
theorem dX5_bloom_33 : decode cX5_bloom 33 = .ok (.dup, 1) := dk_89 (dk_at dksX5_bloom_1 9 rfl rfl)
theorem dX5_bloom_34 : decode cX5_bloom 34 = .ok (.getfield 29, 3) := dk_180 0 29 (dk_at dksX5_bloom_1 10 rfl rfl)
theorem dX5_bloom_37 : decode cX5_bloom 37 = .ok (.iload_n 1, 1) := dk_27 (dk_at dksX5_bloom_1 13 rfl rfl)
theorem dX5_bloom_38 : decode cX5_bloom 38 = .ok (.isub, 1) := dk_100 (dk_at dksX5_bloom_1 14 rfl rfl)
theorem dX5_bloom_39 : decode cX5_bloom 39 = .ok (.putfield 29, 3) := dk_181 0 29 (dk_at dksX5_bloom_1 15 rfl rfl)
theorem dX5_bloom_42 : decode cX5_bloom 42 = .ok (.iconst 0, 1) := dk_3 (dk_at dksX5_bloom_1 18 rfl rfl)
theorem dX5_bloom_43 : decode cX5_bloom 43 = .ok (.aload_n 0, 1) := dk_42 (dk_at dksX5_bloom_1 19 rfl rfl)
theorem dX5_bloom_44 : decode cX5_bloom 44 = .ok (.getfield 29, 3) := dk_180 0 29 (dk_at dksX5_bloom_1 20 rfl rfl)
theorem dX5_bloom_47 : decode cX5_bloom 47 = .ok (.iconst 3, 1) := dk_6 (dk_at dksX5_bloom_1 23 rfl rfl)
theorem dX5_bloom_48 : decode cX5_bloom 48 = .ok (.aload_n 0, 1) := dk_42 (dk_at dksX5_bloom_2 0 rfl rfl)
theorem dX5_bloom_49 : decode cX5_bloom 49 = .ok (.getfield 23, 3) := dk_180 0 23 (dk_at dksX5_bloom_2 1 rfl rfl)
theorem dX5_bloom_52 : decode cX5_bloom 52 = .ok (.imul, 1) := dk_104 (dk_at dksX5_bloom_2 4 rfl rfl)
theorem dX5_bloom_53 : decode cX5_bloom 53 = .ok (.isub, 1) := dk_100 (dk_at dksX5_bloom_2 5 rfl rfl)
theorem dX5_bloom_54 : decode cX5_bloom 54 = .ok (.invokestatic 50, 3) := dk_184 0 50 (dk_at dksX5_bloom_2 6 rfl rfl)
theorem dX5_bloom_57 : decode cX5_bloom 57 = .ok (.istore_n 2, 1) := dk_61 (dk_at dksX5_bloom_2 9 rfl rfl)
theorem dX5_bloom_58 : decode cX5_bloom 58 = .ok (.aload_n 0, 1) := dk_42 (dk_at dksX5_bloom_2 10 rfl rfl)
theorem dX5_bloom_59 : decode cX5_bloom 59 = .ok (.dup, 1) := dk_89 (dk_at dksX5_bloom_2 11 rfl rfl)
theorem dX5_bloom_60 : decode cX5_bloom 60 = .ok (.getfield 29, 3) := dk_180 0 29 (dk_at dksX5_bloom_2 12 rfl rfl)
theorem dX5_bloom_63 : decode cX5_bloom 63 = .ok (.iload_n 2, 1) := dk_28 (dk_at dksX5_bloom_2 15 rfl rfl)
theorem dX5_bloom_64 : decode cX5_bloom 64 = .ok (.isub, 1) := dk_100 (dk_at dksX5_bloom_2 16 rfl rfl)
theorem dX5_bloom_65 : decode cX5_bloom 65 = .ok (.putfield 29, 3) := dk_181 0 29 (dk_at dksX5_bloom_2 17 rfl rfl)
theorem dX5_bloom_68 : decode cX5_bloom 68 = .ok (.aload_n 0, 1) := dk_42 (dk_at dksX5_bloom_2 20 rfl rfl)
theorem dX5_bloom_69 : decode cX5_bloom 69 = .ok (.dup, 1) := dk_89 (dk_at dksX5_bloom_2 21 rfl rfl)
theorem dX5_bloom_70 : decode cX5_bloom 70 = .ok (.getfield 38, 3) := dk_180 0 38 (dk_at dksX5_bloom_3 0 rfl rfl)
theorem dX5_bloom_73 : decode cX5_bloom 73 = .ok (.iload_n 2, 1) := dk_28 (dk_at dksX5_bloom_3 3 rfl rfl)
theorem dX5_bloom_74 : decode cX5_bloom 74 = .ok (.iadd, 1) := dk_96 (dk_at dksX5_bloom_3 4 rfl rfl)
theorem dX5_bloom_75 : decode cX5_bloom 75 = .ok (.putfield 38, 3) := dk_181 0 38 (dk_at dksX5_bloom_3 5 rfl rfl)
theorem dX5_bloom_78 : decode cX5_bloom 78 = .ok (.return_, 1) := dk_177 (dk_at dksX5_bloom_3 8 rfl rfl)
theorem q183 : (Jvm.Cond.initialized "RoseGuild$Garden") ∈ lw_all := lw_g (lw_at lw_m1 48 rfl) rfl
theorem q972 : (Jvm.Cond.selects "RoseGuild$Garden" ({ cls := "java/lang/Object", name := "toString", desc := "()Ljava/lang/String;" } : Jvm.MethodName) ({ cls := "java/lang/Object", name := "toString", desc := "()Ljava/lang/String;" } : Jvm.MethodName)) ∈ lw_all := lw_g (lw_at lw_m4 117 rfl) rfl
theorem q989 : (Jvm.Cond.selects "RoseGuild$Garden" ({ cls := "java/lang/Object", name := "getClass", desc := "()Ljava/lang/Class;" } : Jvm.MethodName) ({ cls := "java/lang/Object", name := "getClass", desc := "()Ljava/lang/Class;" } : Jvm.MethodName)) ∈ lw_all := lw_g (lw_at lw_m4 134 rfl) rfl
theorem q1446 : (Jvm.Cond.selects "RoseGuild$Garden" ({ cls := "java/lang/Object", name := "hashCode", desc := "()I" } : Jvm.MethodName) ({ cls := "java/lang/Object", name := "hashCode", desc := "()I" } : Jvm.MethodName)) ∈ lw_all := lw_g (lw_at lw_m6 111 rfl) rfl
theorem q1864 : (Jvm.Cond.selects "RoseGuild$Garden" ({ cls := "java/lang/Object", name := "equals", desc := "(Ljava/lang/Object;)Z" } : Jvm.MethodName) ({ cls := "java/lang/Object", name := "equals", desc := "(Ljava/lang/Object;)Z" } : Jvm.MethodName)) ∈ lw_all := lw_g (lw_at lw_m8 49 rfl) rfl
theorem q1986 : (Jvm.Cond.instantiable "RoseGuild$Garden" (9 : Nat)) ∈ lw_all := lw_g (lw_at lw_m8 171 rfl) rfl
theorem q1989 : (Jvm.Cond.instanceMethod ({ cls := "RoseGuild$Garden", name := "<init>", desc := "(ILjava/lang/String;LRoseGuild$Point;I)V" } : Jvm.MethodName)) ∈ lw_all := lw_g (lw_at lw_m8 174 rfl) rfl
theorem q1990 : (Jvm.Cond.code ({ cls := "RoseGuild$Garden", name := "<init>", desc := "(ILjava/lang/String;LRoseGuild$Point;I)V" } : Jvm.MethodName) prog_7_method_1_code (5 : Nat) (Option.none : Option Jvm.ClassFile.FieldType)) ∈ lw_all := lw_g (lw_at lw_m8 175 rfl) rfl
theorem q1991 : (Jvm.Cond.methodLink "RoseGuild$Garden" (3 : Nat) ({ cls := "java/lang/Object", name := "<init>", desc := "()V" } : Jvm.MethodName)) ∈ lw_all := lw_g (lw_at lw_m8 176 rfl) rfl
theorem q1992 : (Jvm.Cond.fieldLink "RoseGuild$Garden" (9 : Nat) "RoseGuild$Garden" "number" "I") ∈ lw_all := lw_g (lw_at lw_m8 177 rfl) rfl
theorem q1995 : (Jvm.Cond.fieldLink "RoseGuild$Garden" (23 : Nat) "RoseGuild$Garden" "beds" "I") ∈ lw_all := lw_g (lw_at lw_m8 180 rfl) rfl
theorem q1996 : (Jvm.Cond.fieldLink "RoseGuild$Garden" (15 : Nat) "RoseGuild$Garden" "name" "Ljava/lang/String;") ∈ lw_all := lw_g (lw_at lw_m8 181 rfl) rfl
theorem q1998 : (Jvm.Cond.fieldLink "RoseGuild$Garden" (19 : Nat) "RoseGuild$Garden" "point" "LRoseGuild$Point;") ∈ lw_all := lw_g (lw_at lw_m8 183 rfl) rfl
theorem q2000 : (Jvm.Cond.fieldLink "RoseGuild$Garden" (29 : Nat) "RoseGuild$Garden" "stock" "I") ∈ lw_all := lw_g (lw_at lw_m8 185 rfl) rfl
theorem q2003 : (Jvm.Cond.fieldLink "RoseGuild$Garden" (32 : Nat) "RoseGuild$Garden" "petals" "I") ∈ lw_all := lw_g (lw_at lw_m8 188 rfl) rfl
theorem q2006 : (Jvm.Cond.fieldLink "RoseGuild$Garden" (35 : Nat) "RoseGuild$Garden" "recentPetals" "I") ∈ lw_all := lw_g (lw_at lw_m8 191 rfl) rfl
theorem q2008 : (Jvm.Cond.fieldLink "RoseGuild$Garden" (38 : Nat) "RoseGuild$Garden" "rotted" "I") ∈ lw_all := lw_g (lw_at lw_m8 193 rfl) rfl
theorem q2011 : (Jvm.Cond.fieldLink "RoseGuild$Garden" (41 : Nat) "RoseGuild$Garden" "prizes" "I") ∈ lw_all := lw_g (lw_at lw_m8 196 rfl) rfl
theorem q2014 : (Jvm.Cond.laysFinal "RoseGuild$Garden" "RoseGuild$Garden" "number" "I") ∈ lw_all := lw_g (lw_at lw_m8 199 rfl) rfl
theorem q2015 : (Jvm.Cond.soleField "RoseGuild$Garden" "number") ∈ lw_all := lw_g (lw_at lw_m8 200 rfl) rfl
theorem q2016 : (Jvm.Cond.laysFinal "RoseGuild$Garden" "RoseGuild$Garden" "beds" "I") ∈ lw_all := lw_g (lw_at lw_m8 201 rfl) rfl
theorem q2017 : (Jvm.Cond.soleField "RoseGuild$Garden" "beds") ∈ lw_all := lw_g (lw_at lw_m8 202 rfl) rfl
theorem q2018 : (Jvm.Cond.laysFinal "RoseGuild$Garden" "RoseGuild$Garden" "name" "Ljava/lang/String;") ∈ lw_all := lw_g (lw_at lw_m8 203 rfl) rfl
theorem q2019 : (Jvm.Cond.soleField "RoseGuild$Garden" "name") ∈ lw_all := lw_g (lw_at lw_m8 204 rfl) rfl
theorem q2020 : (Jvm.Cond.laysFinal "RoseGuild$Garden" "RoseGuild$Garden" "point" "LRoseGuild$Point;") ∈ lw_all := lw_g (lw_at lw_m8 205 rfl) rfl
theorem q2021 : (Jvm.Cond.soleField "RoseGuild$Garden" "point") ∈ lw_all := lw_g (lw_at lw_m8 206 rfl) rfl
theorem q2022 : (Jvm.Cond.lays "RoseGuild$Garden" "RoseGuild$Garden" "stock" "I") ∈ lw_all := lw_g (lw_at lw_m8 207 rfl) rfl
theorem q2023 : (Jvm.Cond.soleField "RoseGuild$Garden" "stock") ∈ lw_all := lw_g (lw_at lw_m8 208 rfl) rfl
theorem q2024 : (Jvm.Cond.lays "RoseGuild$Garden" "RoseGuild$Garden" "petals" "I") ∈ lw_all := lw_g (lw_at lw_m8 209 rfl) rfl
theorem q2025 : (Jvm.Cond.soleField "RoseGuild$Garden" "petals") ∈ lw_all := lw_g (lw_at lw_m8 210 rfl) rfl
theorem q2026 : (Jvm.Cond.lays "RoseGuild$Garden" "RoseGuild$Garden" "recentPetals" "I") ∈ lw_all := lw_g (lw_at lw_m8 211 rfl) rfl
theorem q2027 : (Jvm.Cond.soleField "RoseGuild$Garden" "recentPetals") ∈ lw_all := lw_g (lw_at lw_m8 212 rfl) rfl
theorem q2028 : (Jvm.Cond.lays "RoseGuild$Garden" "RoseGuild$Garden" "rotted" "I") ∈ lw_all := lw_g (lw_at lw_m8 213 rfl) rfl
theorem q2029 : (Jvm.Cond.soleField "RoseGuild$Garden" "rotted") ∈ lw_all := lw_g (lw_at lw_m8 214 rfl) rfl
theorem q2030 : (Jvm.Cond.lays "RoseGuild$Garden" "RoseGuild$Garden" "prizes" "I") ∈ lw_all := lw_g (lw_at lw_m8 215 rfl) rfl
theorem q2031 : (Jvm.Cond.soleField "RoseGuild$Garden" "prizes") ∈ lw_all := lw_g (lw_at lw_m8 216 rfl) rfl
theorem q2032 : (Jvm.Cond.superclass "RoseGuild$Garden" "java/lang/Object") ∈ lw_all := lw_g (lw_at lw_m8 217 rfl) rfl
theorem q2353 : (Jvm.Cond.castable "RoseGuild$Garden" "RoseGuild$Place") ∈ lw_tbl := lw_at lw_m10 58 rfl
theorem q2354 : (Jvm.Cond.unhidden "RoseGuild$Garden" "isNamed" "(Ljava/lang/String;)Z") ∈ lw_tbl := lw_at lw_m10 59 rfl
theorem q2362 : (Jvm.Cond.selects "RoseGuild$Garden" ({ cls := "RoseGuild$Place", name := "name", desc := "()Ljava/lang/String;" } : Jvm.MethodName) ({ cls := "RoseGuild$Garden", name := "name", desc := "()Ljava/lang/String;" } : Jvm.MethodName)) ∈ lw_all := lw_g (lw_at lw_m10 67 rfl) rfl
theorem q2363 : (Jvm.Cond.unhidden "RoseGuild$Garden" "name" "()Ljava/lang/String;") ∈ lw_tbl := lw_at lw_m10 68 rfl
theorem q2364 : (Jvm.Cond.instanceMethod ({ cls := "RoseGuild$Garden", name := "name", desc := "()Ljava/lang/String;" } : Jvm.MethodName)) ∈ lw_all := lw_g (lw_at lw_m10 69 rfl) rfl
theorem q2365 : (Jvm.Cond.publicMethod ({ cls := "RoseGuild$Garden", name := "name", desc := "()Ljava/lang/String;" } : Jvm.MethodName)) ∈ lw_tbl := lw_at lw_m10 70 rfl
theorem q2366 : (Jvm.Cond.code ({ cls := "RoseGuild$Garden", name := "name", desc := "()Ljava/lang/String;" } : Jvm.MethodName) prog_7_method_4_code (1 : Nat) (Option.some (Jvm.ClassFile.FieldType.object "java/lang/String"))) ∈ lw_all := lw_g (lw_at lw_m10 71 rfl) rfl
theorem q2793 : (Jvm.Cond.instanceMethod ({ cls := "RoseGuild$Garden", name := "copy", desc := "()LRoseGuild$Garden;" } : Jvm.MethodName)) ∈ lw_all := lw_g (lw_at lw_m12 18 rfl) rfl
theorem q2794 : (Jvm.Cond.selects "RoseGuild$Garden" ({ cls := "RoseGuild$Garden", name := "copy", desc := "()LRoseGuild$Garden;" } : Jvm.MethodName) ({ cls := "RoseGuild$Garden", name := "copy", desc := "()LRoseGuild$Garden;" } : Jvm.MethodName)) ∈ lw_all := lw_g (lw_at lw_m12 19 rfl) rfl
theorem q2795 : (Jvm.Cond.code ({ cls := "RoseGuild$Garden", name := "copy", desc := "()LRoseGuild$Garden;" } : Jvm.MethodName) prog_7_method_2_code (2 : Nat) (Option.some (Jvm.ClassFile.FieldType.object "RoseGuild$Garden"))) ∈ lw_all := lw_g (lw_at lw_m12 20 rfl) rfl
theorem q2796 : (Jvm.Cond.classLink "RoseGuild$Garden" (10 : Nat) "RoseGuild$Garden") ∈ lw_all := lw_g (lw_at lw_m12 21 rfl) rfl
theorem q2797 : (Jvm.Cond.methodLink "RoseGuild$Garden" (26 : Nat) ({ cls := "RoseGuild$Garden", name := "<init>", desc := "(ILjava/lang/String;LRoseGuild$Point;I)V" } : Jvm.MethodName)) ∈ lw_all := lw_g (lw_at lw_m12 22 rfl) rfl
theorem q2996 : (Jvm.Cond.selects "RoseGuild$Garden" ({ cls := "RoseGuild$Place", name := "point", desc := "()LRoseGuild$Point;" } : Jvm.MethodName) ({ cls := "RoseGuild$Garden", name := "point", desc := "()LRoseGuild$Point;" } : Jvm.MethodName)) ∈ lw_all := lw_g (lw_at lw_m12 221 rfl) rfl
theorem q2997 : (Jvm.Cond.unhidden "RoseGuild$Garden" "point" "()LRoseGuild$Point;") ∈ lw_tbl := lw_at lw_m12 222 rfl
theorem q2998 : (Jvm.Cond.instanceMethod ({ cls := "RoseGuild$Garden", name := "point", desc := "()LRoseGuild$Point;" } : Jvm.MethodName)) ∈ lw_all := lw_g (lw_at lw_m12 223 rfl) rfl
theorem q2999 : (Jvm.Cond.publicMethod ({ cls := "RoseGuild$Garden", name := "point", desc := "()LRoseGuild$Point;" } : Jvm.MethodName)) ∈ lw_tbl := lw_at lw_m12 224 rfl
theorem q3000 : (Jvm.Cond.code ({ cls := "RoseGuild$Garden", name := "point", desc := "()LRoseGuild$Point;" } : Jvm.MethodName) prog_7_method_3_code (1 : Nat) (Option.some (Jvm.ClassFile.FieldType.object "RoseGuild$Point"))) ∈ lw_all := lw_g (lw_at lw_m12 225 rfl) rfl
theorem q3016 : (Jvm.Cond.unhidden "RoseGuild$Garden" "distance" "(LRoseGuild$Place;)I") ∈ lw_tbl := lw_at lw_m13 1 rfl
theorem q3132 : (Jvm.Cond.instanceMethod ({ cls := "RoseGuild$Garden", name := "bloom", desc := "()V" } : Jvm.MethodName)) ∈ lw_all := lw_g (lw_at lw_m13 117 rfl) rfl
theorem q3133 : (Jvm.Cond.selects "RoseGuild$Garden" ({ cls := "RoseGuild$Garden", name := "bloom", desc := "()V" } : Jvm.MethodName) ({ cls := "RoseGuild$Garden", name := "bloom", desc := "()V" } : Jvm.MethodName)) ∈ lw_all := lw_g (lw_at lw_m13 118 rfl) rfl
theorem q3134 : (Jvm.Cond.code ({ cls := "RoseGuild$Garden", name := "bloom", desc := "()V" } : Jvm.MethodName) prog_7_method_5_code (3 : Nat) (Option.none : Option Jvm.ClassFile.FieldType)) ∈ lw_all := lw_g (lw_at lw_m13 119 rfl) rfl
theorem q3135 : (Jvm.Cond.methodLink "RoseGuild$Garden" (44 : Nat) ({ cls := "java/lang/Math", name := "min", desc := "(II)I" } : Jvm.MethodName)) ∈ lw_all := lw_g (lw_at lw_m13 120 rfl) rfl
theorem q3136 : (Jvm.Cond.methodLink "RoseGuild$Garden" (50 : Nat) ({ cls := "java/lang/Math", name := "max", desc := "(II)I" } : Jvm.MethodName)) ∈ lw_all := lw_g (lw_at lw_m13 121 rfl) rfl
theorem q4405 : (Jvm.Cond.castable "RoseGuild$Garden" "java/lang/Object") ∈ lw_tbl := lw_at lw_m18 190 rfl
theorem in_X5 : ∀ w ∈ wsX50, w ∈ lw_all := lw_in wsX50 [2014, 2016, 2018, 2020, 2022, 2024, 2026, 2028, 2030] (by decide +kernel) (by decide +kernel)

/-! RoseGuild$Cart -/
set_option maxRecDepth 100000
def RX6 : String := "RoseGuild$Cart"
def TX6 : u_T := fun k => match k with
  | 0 => ("RoseGuild$Cart", "number", "I", true)
  | 1 => ("RoseGuild$Cart", "capacity", "I", true)
  | 2 => ("RoseGuild$Cart", "speed", "I", true)
  | _ => ("RoseGuild$Cart", "contract", "LRoseGuild$Contract;", false)
def tyX6 : Nat → FieldType := fun k => match k with
  | 0 => .int
  | 1 => .int
  | 2 => .int
  | _ => .object "RoseGuild$Contract"
abbrev wsX60 : List Cond := u_ws RX6 TX6 4
theorem nmX6 : ∀ a, a < 4 → ∀ b, b < 4 → a ≠ b → (TX6 a).2.1 ≠ (TX6 b).2.1 := by decide +kernel
theorem tyX6_ok : ∀ k, k < 4 → parseFieldDescriptor (TX6 k).2.2.1 = some (tyX6 k) := by decide +kernel
abbrev cX6_init : ByteArray := prog_3_method_1_code
def yX6_init : MethodName := ⟨RX6, "<init>", "(III)V"⟩
def dkwX6_init_0 : List UInt8 := [42, 183, 0, 1, 42, 27, 181, 0, 7, 42, 28, 181, 0, 13, 42, 29, 181, 0, 16, 177]
abbrev dktX6_init_0 : List UInt8 := dkwX6_init_0 ++ []
theorem dksX6_init_0 : cX6_init.data.toList.drop 0 = dktX6_init_0 := by decide +kernel
theorem dX6_init_0 : decode cX6_init 0 = .ok (.aload_n 0, 1) := dk_42 (dk_at dksX6_init_0 0 rfl rfl)
theorem dX6_init_1 : decode cX6_init 1 = .ok (.invokespecial 1, 3) := dk_183 0 1 (dk_at dksX6_init_0 1 rfl rfl)
theorem dX6_init_4 : decode cX6_init 4 = .ok (.aload_n 0, 1) := dk_42 (dk_at dksX6_init_0 4 rfl rfl)
theorem dX6_init_5 : decode cX6_init 5 = .ok (.iload_n 1, 1) := dk_27 (dk_at dksX6_init_0 5 rfl rfl)
theorem dX6_init_6 : decode cX6_init 6 = .ok (.putfield 7, 3) := dk_181 0 7 (dk_at dksX6_init_0 6 rfl rfl)
theorem dX6_init_9 : decode cX6_init 9 = .ok (.aload_n 0, 1) := dk_42 (dk_at dksX6_init_0 9 rfl rfl)
theorem dX6_init_10 : decode cX6_init 10 = .ok (.iload_n 2, 1) := dk_28 (dk_at dksX6_init_0 10 rfl rfl)
theorem dX6_init_11 : decode cX6_init 11 = .ok (.putfield 13, 3) := dk_181 0 13 (dk_at dksX6_init_0 11 rfl rfl)
theorem dX6_init_14 : decode cX6_init 14 = .ok (.aload_n 0, 1) := dk_42 (dk_at dksX6_init_0 14 rfl rfl)
theorem dX6_init_15 : decode cX6_init 15 = .ok (.iload_n 3, 1) := dk_29 (dk_at dksX6_init_0 15 rfl rfl)
theorem dX6_init_16 : decode cX6_init 16 = .ok (.putfield 16, 3) := dk_181 0 16 (dk_at dksX6_init_0 16 rfl rfl)
theorem dX6_init_19 : decode cX6_init 19 = .ok (.return_, 1) := dk_177 (dk_at dksX6_init_0 19 rfl rfl)
abbrev cX6_hours : ByteArray := prog_3_method_2_code
def yX6_hours : MethodName := ⟨RX6, "hours", "(LRoseGuild$Place;LRoseGuild$Place;)I"⟩
def dkwX6_hours_1 : List UInt8 := [96, 4, 100, 42, 180, 0, 16, 108, 172]
abbrev dktX6_hours_1 : List UInt8 := dkwX6_hours_1 ++ []
def dkwX6_hours_0 : List UInt8 := [178, 0, 19, 43, 185, 0, 25, 1, 0, 184, 0, 31, 43, 44, 185, 0, 35, 2, 0, 96, 42, 180, 0, 16]
abbrev dktX6_hours_0 : List UInt8 := dkwX6_hours_0 ++ dktX6_hours_1
theorem dksX6_hours_0 : cX6_hours.data.toList.drop 0 = dktX6_hours_0 := by decide +kernel
theorem dksX6_hours_1 : cX6_hours.data.toList.drop 24 = dktX6_hours_1 := dk_seg dksX6_hours_0 24 rfl rfl
theorem dX6_hours_0 : decode cX6_hours 0 = .ok (.getstatic 19, 3) := dk_178 0 19 (dk_at dksX6_hours_0 0 rfl rfl)
theorem dX6_hours_3 : decode cX6_hours 3 = .ok (.aload_n 1, 1) := dk_43 (dk_at dksX6_hours_0 3 rfl rfl)
theorem dX6_hours_4 : decode cX6_hours 4 = .ok (.invokeinterface 25 1, 5) := by decide +kernel
theorem dX6_hours_9 : decode cX6_hours 9 = .ok (.invokestatic 31, 3) := dk_184 0 31 (dk_at dksX6_hours_0 9 rfl rfl)
theorem dX6_hours_12 : decode cX6_hours 12 = .ok (.aload_n 1, 1) := dk_43 (dk_at dksX6_hours_0 12 rfl rfl)
theorem dX6_hours_13 : decode cX6_hours 13 = .ok (.aload_n 2, 1) := dk_44 (dk_at dksX6_hours_0 13 rfl rfl)
theorem dX6_hours_14 : decode cX6_hours 14 = .ok (.invokeinterface 35 2, 5) := by decide +kernel
theorem dX6_hours_19 : decode cX6_hours 19 = .ok (.iadd, 1) := dk_96 (dk_at dksX6_hours_0 19 rfl rfl)
theorem dX6_hours_20 : decode cX6_hours 20 = .ok (.aload_n 0, 1) := dk_42 (dk_at dksX6_hours_0 20 rfl rfl)
theorem dX6_hours_21 : decode cX6_hours 21 = .ok (.getfield 16, 3) := dk_180 0 16 (dk_at dksX6_hours_0 21 rfl rfl)
theorem dX6_hours_24 : decode cX6_hours 24 = .ok (.iadd, 1) := dk_96 (dk_at dksX6_hours_1 0 rfl rfl)
theorem dX6_hours_25 : decode cX6_hours 25 = .ok (.iconst 1, 1) := dk_4 (dk_at dksX6_hours_1 1 rfl rfl)
theorem dX6_hours_26 : decode cX6_hours 26 = .ok (.isub, 1) := dk_100 (dk_at dksX6_hours_1 2 rfl rfl)
theorem dX6_hours_27 : decode cX6_hours 27 = .ok (.aload_n 0, 1) := dk_42 (dk_at dksX6_hours_1 3 rfl rfl)
theorem dX6_hours_28 : decode cX6_hours 28 = .ok (.getfield 16, 3) := dk_180 0 16 (dk_at dksX6_hours_1 4 rfl rfl)
theorem dX6_hours_31 : decode cX6_hours 31 = .ok (.idiv, 1) := dk_108 (dk_at dksX6_hours_1 7 rfl rfl)
theorem dX6_hours_32 : decode cX6_hours 32 = .ok (.ireturn, 1) := dk_172 (dk_at dksX6_hours_1 8 rfl rfl)
abbrev cX6_load : ByteArray := prog_3_method_3_code
def yX6_load : MethodName := ⟨RX6, "load", "(LRoseGuild$Street;)I"⟩
def dkwX6_load_0 : List UInt8 := [42, 180, 0, 13, 43, 180, 0, 39, 184, 0, 44, 172]
abbrev dktX6_load_0 : List UInt8 := dkwX6_load_0 ++ []
theorem dksX6_load_0 : cX6_load.data.toList.drop 0 = dktX6_load_0 := by decide +kernel
theorem dX6_load_0 : decode cX6_load 0 = .ok (.aload_n 0, 1) := dk_42 (dk_at dksX6_load_0 0 rfl rfl)
theorem dX6_load_1 : decode cX6_load 1 = .ok (.getfield 13, 3) := dk_180 0 13 (dk_at dksX6_load_0 1 rfl rfl)
theorem dX6_load_4 : decode cX6_load 4 = .ok (.aload_n 1, 1) := dk_43 (dk_at dksX6_load_0 4 rfl rfl)
theorem dX6_load_5 : decode cX6_load 5 = .ok (.getfield 39, 3) := dk_180 0 39 (dk_at dksX6_load_0 5 rfl rfl)
theorem dX6_load_8 : decode cX6_load 8 = .ok (.invokestatic 44, 3) := dk_184 0 44 (dk_at dksX6_load_0 8 rfl rfl)
theorem dX6_load_11 : decode cX6_load 11 = .ok (.ireturn, 1) := dk_172 (dk_at dksX6_load_0 11 rfl rfl)
theorem q184 : (Jvm.Cond.initialized "RoseGuild$Cart") ∈ lw_all := lw_g (lw_at lw_m1 49 rfl) rfl
theorem q969 : (Jvm.Cond.selects "RoseGuild$Cart" ({ cls := "java/lang/Object", name := "toString", desc := "()Ljava/lang/String;" } : Jvm.MethodName) ({ cls := "java/lang/Object", name := "toString", desc := "()Ljava/lang/String;" } : Jvm.MethodName)) ∈ lw_all := lw_g (lw_at lw_m4 114 rfl) rfl
theorem q986 : (Jvm.Cond.selects "RoseGuild$Cart" ({ cls := "java/lang/Object", name := "getClass", desc := "()Ljava/lang/Class;" } : Jvm.MethodName) ({ cls := "java/lang/Object", name := "getClass", desc := "()Ljava/lang/Class;" } : Jvm.MethodName)) ∈ lw_all := lw_g (lw_at lw_m4 131 rfl) rfl
theorem q1326 : (Jvm.Cond.fieldLinkNest "RoseGuild$Cart" (39 : Nat) "RoseGuild$Street" "bins" "I" "RoseGuild") ∈ lw_tbl := lw_at lw_m5 231 rfl
theorem q1443 : (Jvm.Cond.selects "RoseGuild$Cart" ({ cls := "java/lang/Object", name := "hashCode", desc := "()I" } : Jvm.MethodName) ({ cls := "java/lang/Object", name := "hashCode", desc := "()I" } : Jvm.MethodName)) ∈ lw_all := lw_g (lw_at lw_m6 108 rfl) rfl
theorem q1861 : (Jvm.Cond.selects "RoseGuild$Cart" ({ cls := "java/lang/Object", name := "equals", desc := "(Ljava/lang/Object;)Z" } : Jvm.MethodName) ({ cls := "java/lang/Object", name := "equals", desc := "(Ljava/lang/Object;)Z" } : Jvm.MethodName)) ∈ lw_all := lw_g (lw_at lw_m8 46 rfl) rfl
theorem q2043 : (Jvm.Cond.instantiable "RoseGuild$Cart" (4 : Nat)) ∈ lw_all := lw_g (lw_at lw_m8 228 rfl) rfl
theorem q2059 : (Jvm.Cond.instanceMethod ({ cls := "RoseGuild$Cart", name := "<init>", desc := "(III)V" } : Jvm.MethodName)) ∈ lw_all := lw_g (lw_at lw_m9 4 rfl) rfl
theorem q2060 : (Jvm.Cond.code ({ cls := "RoseGuild$Cart", name := "<init>", desc := "(III)V" } : Jvm.MethodName) prog_3_method_1_code (4 : Nat) (Option.none : Option Jvm.ClassFile.FieldType)) ∈ lw_all := lw_g (lw_at lw_m9 5 rfl) rfl
theorem q2061 : (Jvm.Cond.methodLink "RoseGuild$Cart" (1 : Nat) ({ cls := "java/lang/Object", name := "<init>", desc := "()V" } : Jvm.MethodName)) ∈ lw_all := lw_g (lw_at lw_m9 6 rfl) rfl
theorem q2062 : (Jvm.Cond.fieldLink "RoseGuild$Cart" (7 : Nat) "RoseGuild$Cart" "number" "I") ∈ lw_all := lw_g (lw_at lw_m9 7 rfl) rfl
theorem q2064 : (Jvm.Cond.fieldLink "RoseGuild$Cart" (13 : Nat) "RoseGuild$Cart" "capacity" "I") ∈ lw_all := lw_g (lw_at lw_m9 9 rfl) rfl
theorem q2066 : (Jvm.Cond.fieldLink "RoseGuild$Cart" (16 : Nat) "RoseGuild$Cart" "speed" "I") ∈ lw_all := lw_g (lw_at lw_m9 11 rfl) rfl
theorem q2070 : (Jvm.Cond.laysFinal "RoseGuild$Cart" "RoseGuild$Cart" "number" "I") ∈ lw_all := lw_g (lw_at lw_m9 15 rfl) rfl
theorem q2071 : (Jvm.Cond.soleField "RoseGuild$Cart" "number") ∈ lw_all := lw_g (lw_at lw_m9 16 rfl) rfl
theorem q2072 : (Jvm.Cond.laysFinal "RoseGuild$Cart" "RoseGuild$Cart" "capacity" "I") ∈ lw_all := lw_g (lw_at lw_m9 17 rfl) rfl
theorem q2073 : (Jvm.Cond.soleField "RoseGuild$Cart" "capacity") ∈ lw_all := lw_g (lw_at lw_m9 18 rfl) rfl
theorem q2074 : (Jvm.Cond.laysFinal "RoseGuild$Cart" "RoseGuild$Cart" "speed" "I") ∈ lw_all := lw_g (lw_at lw_m9 19 rfl) rfl
theorem q2075 : (Jvm.Cond.soleField "RoseGuild$Cart" "speed") ∈ lw_all := lw_g (lw_at lw_m9 20 rfl) rfl
theorem q2076 : (Jvm.Cond.lays "RoseGuild$Cart" "RoseGuild$Cart" "contract" "LRoseGuild$Contract;") ∈ lw_all := lw_g (lw_at lw_m9 21 rfl) rfl
theorem q2077 : (Jvm.Cond.soleField "RoseGuild$Cart" "contract") ∈ lw_all := lw_g (lw_at lw_m9 22 rfl) rfl
theorem q2078 : (Jvm.Cond.superclass "RoseGuild$Cart" "java/lang/Object") ∈ lw_all := lw_g (lw_at lw_m9 23 rfl) rfl
theorem q2987 : (Jvm.Cond.instanceMethod ({ cls := "RoseGuild$Cart", name := "hours", desc := "(LRoseGuild$Place;LRoseGuild$Place;)I" } : Jvm.MethodName)) ∈ lw_all := lw_g (lw_at lw_m12 212 rfl) rfl
theorem q2988 : (Jvm.Cond.selects "RoseGuild$Cart" ({ cls := "RoseGuild$Cart", name := "hours", desc := "(LRoseGuild$Place;LRoseGuild$Place;)I" } : Jvm.MethodName) ({ cls := "RoseGuild$Cart", name := "hours", desc := "(LRoseGuild$Place;LRoseGuild$Place;)I" } : Jvm.MethodName)) ∈ lw_all := lw_g (lw_at lw_m12 213 rfl) rfl
theorem q2989 : (Jvm.Cond.code ({ cls := "RoseGuild$Cart", name := "hours", desc := "(LRoseGuild$Place;LRoseGuild$Place;)I" } : Jvm.MethodName) prog_3_method_2_code (3 : Nat) (Option.some Jvm.ClassFile.FieldType.int)) ∈ lw_all := lw_g (lw_at lw_m12 214 rfl) rfl
theorem q2990 : (Jvm.Cond.fieldLinkNest "RoseGuild$Cart" (19 : Nat) "RoseGuild" "DEPOT" "LRoseGuild$Point;" "RoseGuild") ∈ lw_tbl := lw_at lw_m12 215 rfl
theorem q2992 : (Jvm.Cond.interfaceEntry "RoseGuild$Cart" (25 : Nat)) ∈ lw_tbl := lw_at lw_m12 217 rfl
theorem q2993 : (Jvm.Cond.methodLink "RoseGuild$Cart" (25 : Nat) ({ cls := "RoseGuild$Place", name := "point", desc := "()LRoseGuild$Point;" } : Jvm.MethodName)) ∈ lw_all := lw_g (lw_at lw_m12 218 rfl) rfl
theorem q3006 : (Jvm.Cond.methodLink "RoseGuild$Cart" (31 : Nat) ({ cls := "RoseGuild$Place", name := "between", desc := "(LRoseGuild$Point;LRoseGuild$Point;)I" } : Jvm.MethodName)) ∈ lw_all := lw_g (lw_at lw_m12 231 rfl) rfl
theorem q3012 : (Jvm.Cond.interfaceEntry "RoseGuild$Cart" (35 : Nat)) ∈ lw_tbl := lw_at lw_m12 237 rfl
theorem q3013 : (Jvm.Cond.methodLink "RoseGuild$Cart" (35 : Nat) ({ cls := "RoseGuild$Place", name := "distance", desc := "(LRoseGuild$Place;)I" } : Jvm.MethodName)) ∈ lw_all := lw_g (lw_at lw_m12 238 rfl) rfl
theorem q3056 : (Jvm.Cond.instanceMethod ({ cls := "RoseGuild$Cart", name := "load", desc := "(LRoseGuild$Street;)I" } : Jvm.MethodName)) ∈ lw_all := lw_g (lw_at lw_m13 41 rfl) rfl
theorem q3057 : (Jvm.Cond.selects "RoseGuild$Cart" ({ cls := "RoseGuild$Cart", name := "load", desc := "(LRoseGuild$Street;)I" } : Jvm.MethodName) ({ cls := "RoseGuild$Cart", name := "load", desc := "(LRoseGuild$Street;)I" } : Jvm.MethodName)) ∈ lw_all := lw_g (lw_at lw_m13 42 rfl) rfl
theorem q3058 : (Jvm.Cond.code ({ cls := "RoseGuild$Cart", name := "load", desc := "(LRoseGuild$Street;)I" } : Jvm.MethodName) prog_3_method_3_code (2 : Nat) (Option.some Jvm.ClassFile.FieldType.int)) ∈ lw_all := lw_g (lw_at lw_m13 43 rfl) rfl
theorem q3059 : (Jvm.Cond.methodLink "RoseGuild$Cart" (44 : Nat) ({ cls := "java/lang/Math", name := "min", desc := "(II)I" } : Jvm.MethodName)) ∈ lw_all := lw_g (lw_at lw_m13 44 rfl) rfl
theorem q4406 : (Jvm.Cond.castable "RoseGuild$Cart" "java/lang/Object") ∈ lw_tbl := lw_at lw_m18 191 rfl
theorem in_X6 : ∀ w ∈ wsX60, w ∈ lw_all := lw_in wsX60 [2070, 2072, 2074, 2076] (by decide +kernel) (by decide +kernel)

/-! RoseGuild$SyntaxProblem -/
set_option maxRecDepth 100000
def RX10 : String := "RoseGuild$SyntaxProblem"
def TX10 : u_T := fun k => match k with
  | 0 => ("java/lang/Throwable", "cause", "Ljava/lang/Throwable;", false)
  | 1 => ("java/lang/Throwable", "stackTrace", "[Ljava/lang/StackTraceElement;", false)
  | 2 => ("java/lang/Throwable", "suppressedExceptions", "Ljava/util/List;", false)
  | 3 => ("java/lang/Throwable", "detailMessage", "Ljava/lang/String;", false)
  | 4 => ("java/lang/Throwable", "backtrace", "Ljava/lang/Object;", false)
  | 5 => ("java/lang/Throwable", "depth", "I", false)
  | 6 => ("RoseGuild$SyntaxProblem", "code", "I", true)
  | _ => ("RoseGuild$SyntaxProblem", "position", "I", true)
def tyX10 : Nat → FieldType := fun k => match k with
  | 0 => .object "java/lang/Throwable"
  | 1 => .array (.object "java/lang/StackTraceElement")
  | 2 => .object "java/util/List"
  | 3 => .object "java/lang/String"
  | 4 => .object "java/lang/Object"
  | 5 => .int
  | 6 => .int
  | _ => .int
abbrev wsX100 : List Cond := u_ws RX10 TX10 8
theorem nmX10 : ∀ a, a < 8 → ∀ b, b < 8 → a ≠ b → (TX10 a).2.1 ≠ (TX10 b).2.1 := by decide +kernel
theorem tyX10_ok : ∀ k, k < 8 → parseFieldDescriptor (TX10 k).2.2.1 = some (tyX10 k) := by decide +kernel
abbrev cX10_init : ByteArray := prog_18_method_1_code
def yX10_init : MethodName := ⟨RX10, "<init>", "(II)V"⟩
def dkwX10_init_0 : List UInt8 := [42, 1, 1, 3, 3, 183, 0, 1, 42, 27, 181, 0, 7, 42, 28, 181, 0, 13, 177]
abbrev dktX10_init_0 : List UInt8 := dkwX10_init_0 ++ []
theorem dksX10_init_0 : cX10_init.data.toList.drop 0 = dktX10_init_0 := by decide +kernel
theorem dX10_init_0 : decode cX10_init 0 = .ok (.aload_n 0, 1) := dk_42 (dk_at dksX10_init_0 0 rfl rfl)
theorem dX10_init_1 : decode cX10_init 1 = .ok (.aconst_null, 1) := dk_1 (dk_at dksX10_init_0 1 rfl rfl)
theorem dX10_init_2 : decode cX10_init 2 = .ok (.aconst_null, 1) := dk_1 (dk_at dksX10_init_0 2 rfl rfl)
theorem dX10_init_3 : decode cX10_init 3 = .ok (.iconst 0, 1) := dk_3 (dk_at dksX10_init_0 3 rfl rfl)
theorem dX10_init_4 : decode cX10_init 4 = .ok (.iconst 0, 1) := dk_3 (dk_at dksX10_init_0 4 rfl rfl)
theorem dX10_init_5 : decode cX10_init 5 = .ok (.invokespecial 1, 3) := dk_183 0 1 (dk_at dksX10_init_0 5 rfl rfl)
theorem dX10_init_8 : decode cX10_init 8 = .ok (.aload_n 0, 1) := dk_42 (dk_at dksX10_init_0 8 rfl rfl)
theorem dX10_init_9 : decode cX10_init 9 = .ok (.iload_n 1, 1) := dk_27 (dk_at dksX10_init_0 9 rfl rfl)
theorem dX10_init_10 : decode cX10_init 10 = .ok (.putfield 7, 3) := dk_181 0 7 (dk_at dksX10_init_0 10 rfl rfl)
theorem dX10_init_13 : decode cX10_init 13 = .ok (.aload_n 0, 1) := dk_42 (dk_at dksX10_init_0 13 rfl rfl)
theorem dX10_init_14 : decode cX10_init 14 = .ok (.iload_n 2, 1) := dk_28 (dk_at dksX10_init_0 14 rfl rfl)
theorem dX10_init_15 : decode cX10_init 15 = .ok (.putfield 13, 3) := dk_181 0 13 (dk_at dksX10_init_0 15 rfl rfl)
theorem dX10_init_18 : decode cX10_init 18 = .ok (.return_, 1) := dk_177 (dk_at dksX10_init_0 18 rfl rfl)
theorem q190 : (Jvm.Cond.initialized "RoseGuild$SyntaxProblem") ∈ lw_all := lw_g (lw_at lw_m1 55 rfl) rfl
theorem q350 : (Jvm.Cond.selects "RoseGuild$SyntaxProblem" ({ cls := "java/lang/Throwable", name := "fillInStackTrace", desc := "()Ljava/lang/Throwable;" } : Jvm.MethodName) ({ cls := "java/lang/Throwable", name := "fillInStackTrace", desc := "()Ljava/lang/Throwable;" } : Jvm.MethodName)) ∈ lw_all := lw_g (lw_at lw_m1 215 rfl) rfl
theorem q998 : (Jvm.Cond.selects "RoseGuild$SyntaxProblem" ({ cls := "java/lang/Object", name := "getClass", desc := "()Ljava/lang/Class;" } : Jvm.MethodName) ({ cls := "java/lang/Object", name := "getClass", desc := "()Ljava/lang/Class;" } : Jvm.MethodName)) ∈ lw_all := lw_g (lw_at lw_m4 143 rfl) rfl
theorem q1032 : (Jvm.Cond.selects "RoseGuild$SyntaxProblem" ({ cls := "java/lang/Throwable", name := "getLocalizedMessage", desc := "()Ljava/lang/String;" } : Jvm.MethodName) ({ cls := "java/lang/Throwable", name := "getLocalizedMessage", desc := "()Ljava/lang/String;" } : Jvm.MethodName)) ∈ lw_all := lw_g (lw_at lw_m4 177 rfl) rfl
theorem q1045 : (Jvm.Cond.selects "RoseGuild$SyntaxProblem" ({ cls := "java/lang/Throwable", name := "getMessage", desc := "()Ljava/lang/String;" } : Jvm.MethodName) ({ cls := "java/lang/Throwable", name := "getMessage", desc := "()Ljava/lang/String;" } : Jvm.MethodName)) ∈ lw_all := lw_g (lw_at lw_m4 190 rfl) rfl
theorem q1063 : (Jvm.Cond.selects "RoseGuild$SyntaxProblem" ({ cls := "java/lang/Object", name := "toString", desc := "()Ljava/lang/String;" } : Jvm.MethodName) ({ cls := "java/lang/Throwable", name := "toString", desc := "()Ljava/lang/String;" } : Jvm.MethodName)) ∈ lw_all := lw_g (lw_at lw_m4 208 rfl) rfl
theorem q1462 : (Jvm.Cond.selects "RoseGuild$SyntaxProblem" ({ cls := "java/lang/Object", name := "hashCode", desc := "()I" } : Jvm.MethodName) ({ cls := "java/lang/Object", name := "hashCode", desc := "()I" } : Jvm.MethodName)) ∈ lw_all := lw_g (lw_at lw_m6 127 rfl) rfl
theorem q1878 : (Jvm.Cond.selects "RoseGuild$SyntaxProblem" ({ cls := "java/lang/Object", name := "equals", desc := "(Ljava/lang/Object;)Z" } : Jvm.MethodName) ({ cls := "java/lang/Object", name := "equals", desc := "(Ljava/lang/Object;)Z" } : Jvm.MethodName)) ∈ lw_all := lw_g (lw_at lw_m8 63 rfl) rfl
theorem q2209 : (Jvm.Cond.instantiable "RoseGuild$SyntaxProblem" (8 : Nat)) ∈ lw_all := lw_g (lw_at lw_m9 154 rfl) rfl
theorem q2210 : (Jvm.Cond.castable "RoseGuild$SyntaxProblem" "RoseGuild$SyntaxProblem") ∈ lw_tbl := lw_at lw_m9 155 rfl
theorem q2211 : (Jvm.Cond.selects "RoseGuild$SyntaxProblem" ({ cls := "java/lang/Throwable", name := "fillInStackTrace", desc := "(I)Ljava/lang/Throwable;" } : Jvm.MethodName) ({ cls := "java/lang/Throwable", name := "fillInStackTrace", desc := "(I)Ljava/lang/Throwable;" } : Jvm.MethodName)) ∈ lw_all := lw_g (lw_at lw_m9 156 rfl) rfl
theorem q2212 : (Jvm.Cond.lays "RoseGuild$SyntaxProblem" "java/lang/Throwable" "cause" "Ljava/lang/Throwable;") ∈ lw_all := lw_g (lw_at lw_m9 157 rfl) rfl
theorem q2213 : (Jvm.Cond.lays "RoseGuild$SyntaxProblem" "java/lang/Throwable" "stackTrace" "[Ljava/lang/StackTraceElement;") ∈ lw_all := lw_g (lw_at lw_m9 158 rfl) rfl
theorem q2214 : (Jvm.Cond.lays "RoseGuild$SyntaxProblem" "java/lang/Throwable" "suppressedExceptions" "Ljava/util/List;") ∈ lw_all := lw_g (lw_at lw_m9 159 rfl) rfl
theorem q2215 : (Jvm.Cond.lays "RoseGuild$SyntaxProblem" "java/lang/Throwable" "detailMessage" "Ljava/lang/String;") ∈ lw_all := lw_g (lw_at lw_m9 160 rfl) rfl
theorem q2216 : (Jvm.Cond.lays "RoseGuild$SyntaxProblem" "java/lang/Throwable" "backtrace" "Ljava/lang/Object;") ∈ lw_all := lw_g (lw_at lw_m9 161 rfl) rfl
theorem q2218 : (Jvm.Cond.instanceMethod ({ cls := "RoseGuild$SyntaxProblem", name := "<init>", desc := "(II)V" } : Jvm.MethodName)) ∈ lw_all := lw_g (lw_at lw_m9 163 rfl) rfl
theorem q2219 : (Jvm.Cond.code ({ cls := "RoseGuild$SyntaxProblem", name := "<init>", desc := "(II)V" } : Jvm.MethodName) prog_18_method_1_code (3 : Nat) (Option.none : Option Jvm.ClassFile.FieldType)) ∈ lw_all := lw_g (lw_at lw_m9 164 rfl) rfl
theorem q2220 : (Jvm.Cond.methodLink "RoseGuild$SyntaxProblem" (1 : Nat) ({ cls := "java/lang/Exception", name := "<init>", desc := "(Ljava/lang/String;Ljava/lang/Throwable;ZZ)V" } : Jvm.MethodName)) ∈ lw_all := lw_g (lw_at lw_m9 165 rfl) rfl
theorem q2226 : (Jvm.Cond.fieldLink "RoseGuild$SyntaxProblem" (7 : Nat) "RoseGuild$SyntaxProblem" "code" "I") ∈ lw_all := lw_g (lw_at lw_m9 171 rfl) rfl
theorem q2228 : (Jvm.Cond.fieldLink "RoseGuild$SyntaxProblem" (13 : Nat) "RoseGuild$SyntaxProblem" "position" "I") ∈ lw_all := lw_g (lw_at lw_m9 173 rfl) rfl
theorem q2230 : (Jvm.Cond.laysFinal "RoseGuild$SyntaxProblem" "RoseGuild$SyntaxProblem" "code" "I") ∈ lw_all := lw_g (lw_at lw_m9 175 rfl) rfl
theorem q2231 : (Jvm.Cond.soleField "RoseGuild$SyntaxProblem" "code") ∈ lw_all := lw_g (lw_at lw_m9 176 rfl) rfl
theorem q2232 : (Jvm.Cond.laysFinal "RoseGuild$SyntaxProblem" "RoseGuild$SyntaxProblem" "position" "I") ∈ lw_all := lw_g (lw_at lw_m9 177 rfl) rfl
theorem q2233 : (Jvm.Cond.soleField "RoseGuild$SyntaxProblem" "position") ∈ lw_all := lw_g (lw_at lw_m9 178 rfl) rfl
theorem q2234 : (Jvm.Cond.lays "RoseGuild$SyntaxProblem" "java/lang/Throwable" "depth" "I") ∈ lw_all := lw_g (lw_at lw_m9 179 rfl) rfl
theorem q2235 : (Jvm.Cond.superclass "RoseGuild$SyntaxProblem" "java/lang/Exception") ∈ lw_all := lw_g (lw_at lw_m9 180 rfl) rfl
theorem q4348 : (Jvm.Cond.selects "RoseGuild$SyntaxProblem" ({ cls := "java/lang/Throwable", name := "toString", desc := "()Ljava/lang/String;" } : Jvm.MethodName) ({ cls := "java/lang/Throwable", name := "toString", desc := "()Ljava/lang/String;" } : Jvm.MethodName)) ∈ lw_all := lw_g (lw_at lw_m18 133 rfl) rfl
theorem q4371 : (Jvm.Cond.castable "RoseGuild$SyntaxProblem" "java/lang/Throwable") ∈ lw_tbl := lw_at lw_m18 156 rfl
theorem q4410 : (Jvm.Cond.castable "RoseGuild$SyntaxProblem" "java/lang/Object") ∈ lw_tbl := lw_at lw_m18 195 rfl
theorem in_X10 : ∀ w ∈ wsX100, w ∈ lw_all := lw_in wsX100 [2212, 2213, 2214, 2215, 2216, 2234, 2230, 2232] (by decide +kernel) (by decide +kernel)

/-! RoseGuild$Block -/
set_option maxRecDepth 100000
def RX12 : String := "RoseGuild$Block"
def TX12 : u_T := fun k => match k with
  | 0 => ("RoseGuild$Block", "commands", "Ljava/util/LinkedList;", true)
  | _ => ("RoseGuild$Block", "times", "I", true)
def tyX12 : Nat → FieldType := fun k => match k with
  | 0 => .object "java/util/LinkedList"
  | _ => .int
abbrev wsX120 : List Cond := u_ws RX12 TX12 2
theorem nmX12 : ∀ a, a < 2 → ∀ b, b < 2 → a ≠ b → (TX12 a).2.1 ≠ (TX12 b).2.1 := by decide +kernel
theorem tyX12_ok : ∀ k, k < 2 → parseFieldDescriptor (TX12 k).2.2.1 = some (tyX12 k) := by decide +kernel
abbrev cX12_init : ByteArray := prog_2_method_1_code
def yX12_init : MethodName := ⟨RX12, "<init>", "(I)V"⟩
def dkwX12_init_0 : List UInt8 := [42, 183, 0, 1, 42, 187, 0, 7, 89, 183, 0, 9, 181, 0, 10, 42, 27, 181, 0, 16, 177]
abbrev dktX12_init_0 : List UInt8 := dkwX12_init_0 ++ []
theorem dksX12_init_0 : cX12_init.data.toList.drop 0 = dktX12_init_0 := by decide +kernel
theorem dX12_init_0 : decode cX12_init 0 = .ok (.aload_n 0, 1) := dk_42 (dk_at dksX12_init_0 0 rfl rfl)
theorem dX12_init_1 : decode cX12_init 1 = .ok (.invokespecial 1, 3) := dk_183 0 1 (dk_at dksX12_init_0 1 rfl rfl)
theorem dX12_init_4 : decode cX12_init 4 = .ok (.aload_n 0, 1) := dk_42 (dk_at dksX12_init_0 4 rfl rfl)
theorem dX12_init_5 : decode cX12_init 5 = .ok (.new 7, 3) := dk_187 0 7 (dk_at dksX12_init_0 5 rfl rfl)
theorem dX12_init_8 : decode cX12_init 8 = .ok (.dup, 1) := dk_89 (dk_at dksX12_init_0 8 rfl rfl)
theorem dX12_init_9 : decode cX12_init 9 = .ok (.invokespecial 9, 3) := dk_183 0 9 (dk_at dksX12_init_0 9 rfl rfl)
theorem dX12_init_12 : decode cX12_init 12 = .ok (.putfield 10, 3) := dk_181 0 10 (dk_at dksX12_init_0 12 rfl rfl)
theorem dX12_init_15 : decode cX12_init 15 = .ok (.aload_n 0, 1) := dk_42 (dk_at dksX12_init_0 15 rfl rfl)
theorem dX12_init_16 : decode cX12_init 16 = .ok (.iload_n 1, 1) := dk_27 (dk_at dksX12_init_0 16 rfl rfl)
theorem dX12_init_17 : decode cX12_init 17 = .ok (.putfield 16, 3) := dk_181 0 16 (dk_at dksX12_init_0 17 rfl rfl)
theorem dX12_init_20 : decode cX12_init 20 = .ok (.return_, 1) := dk_177 (dk_at dksX12_init_0 20 rfl rfl)
theorem q193 : (Jvm.Cond.initialized "RoseGuild$Block") ∈ lw_all := lw_g (lw_at lw_m1 58 rfl) rfl
theorem q968 : (Jvm.Cond.selects "RoseGuild$Block" ({ cls := "java/lang/Object", name := "toString", desc := "()Ljava/lang/String;" } : Jvm.MethodName) ({ cls := "java/lang/Object", name := "toString", desc := "()Ljava/lang/String;" } : Jvm.MethodName)) ∈ lw_all := lw_g (lw_at lw_m4 113 rfl) rfl
theorem q985 : (Jvm.Cond.selects "RoseGuild$Block" ({ cls := "java/lang/Object", name := "getClass", desc := "()Ljava/lang/Class;" } : Jvm.MethodName) ({ cls := "java/lang/Object", name := "getClass", desc := "()Ljava/lang/Class;" } : Jvm.MethodName)) ∈ lw_all := lw_g (lw_at lw_m4 130 rfl) rfl
theorem q1442 : (Jvm.Cond.selects "RoseGuild$Block" ({ cls := "java/lang/Object", name := "hashCode", desc := "()I" } : Jvm.MethodName) ({ cls := "java/lang/Object", name := "hashCode", desc := "()I" } : Jvm.MethodName)) ∈ lw_all := lw_g (lw_at lw_m6 107 rfl) rfl
theorem q1860 : (Jvm.Cond.selects "RoseGuild$Block" ({ cls := "java/lang/Object", name := "equals", desc := "(Ljava/lang/Object;)Z" } : Jvm.MethodName) ({ cls := "java/lang/Object", name := "equals", desc := "(Ljava/lang/Object;)Z" } : Jvm.MethodName)) ∈ lw_all := lw_g (lw_at lw_m8 45 rfl) rfl
theorem q2471 : (Jvm.Cond.instantiable "RoseGuild$Block" (2 : Nat)) ∈ lw_all := lw_g (lw_at lw_m10 176 rfl) rfl
theorem q2473 : (Jvm.Cond.instanceMethod ({ cls := "RoseGuild$Block", name := "<init>", desc := "(I)V" } : Jvm.MethodName)) ∈ lw_all := lw_g (lw_at lw_m10 178 rfl) rfl
theorem q2474 : (Jvm.Cond.code ({ cls := "RoseGuild$Block", name := "<init>", desc := "(I)V" } : Jvm.MethodName) prog_2_method_1_code (2 : Nat) (Option.none : Option Jvm.ClassFile.FieldType)) ∈ lw_all := lw_g (lw_at lw_m10 179 rfl) rfl
theorem q2475 : (Jvm.Cond.methodLink "RoseGuild$Block" (1 : Nat) ({ cls := "java/lang/Object", name := "<init>", desc := "()V" } : Jvm.MethodName)) ∈ lw_all := lw_g (lw_at lw_m10 180 rfl) rfl
theorem q2476 : (Jvm.Cond.classLink "RoseGuild$Block" (7 : Nat) "java/util/LinkedList") ∈ lw_all := lw_g (lw_at lw_m10 181 rfl) rfl
theorem q2477 : (Jvm.Cond.methodLink "RoseGuild$Block" (9 : Nat) ({ cls := "java/util/LinkedList", name := "<init>", desc := "()V" } : Jvm.MethodName)) ∈ lw_all := lw_g (lw_at lw_m10 182 rfl) rfl
theorem q2478 : (Jvm.Cond.fieldLink "RoseGuild$Block" (10 : Nat) "RoseGuild$Block" "commands" "Ljava/util/LinkedList;") ∈ lw_all := lw_g (lw_at lw_m10 183 rfl) rfl
theorem q2481 : (Jvm.Cond.fieldLink "RoseGuild$Block" (16 : Nat) "RoseGuild$Block" "times" "I") ∈ lw_all := lw_g (lw_at lw_m10 186 rfl) rfl
theorem q2483 : (Jvm.Cond.laysFinal "RoseGuild$Block" "RoseGuild$Block" "commands" "Ljava/util/LinkedList;") ∈ lw_all := lw_g (lw_at lw_m10 188 rfl) rfl
theorem q2484 : (Jvm.Cond.soleField "RoseGuild$Block" "commands") ∈ lw_all := lw_g (lw_at lw_m10 189 rfl) rfl
theorem q2485 : (Jvm.Cond.laysFinal "RoseGuild$Block" "RoseGuild$Block" "times" "I") ∈ lw_all := lw_g (lw_at lw_m10 190 rfl) rfl
theorem q2486 : (Jvm.Cond.soleField "RoseGuild$Block" "times") ∈ lw_all := lw_g (lw_at lw_m10 191 rfl) rfl
theorem q2487 : (Jvm.Cond.superclass "RoseGuild$Block" "java/lang/Object") ∈ lw_all := lw_g (lw_at lw_m10 192 rfl) rfl
theorem q4380 : (Jvm.Cond.castable "RoseGuild$Block" "RoseGuild$Command") ∈ lw_tbl := lw_at lw_m18 165 rfl
theorem q4413 : (Jvm.Cond.castable "RoseGuild$Block" "java/lang/Object") ∈ lw_tbl := lw_at lw_m18 198 rfl
theorem in_X12 : ∀ w ∈ wsX120, w ∈ lw_all := lw_in wsX120 [2483, 2485] (by decide +kernel) (by decide +kernel)

/-! RoseGuild$Single -/
set_option maxRecDepth 100000
def RX13 : String := "RoseGuild$Single"
def TX13 : u_T := fun k => match k with
  | 0 => ("RoseGuild$Single", "word", "Ljava/lang/String;", true)
  | _ => ("RoseGuild$Single", "numbers", "[I", true)
def tyX13 : Nat → FieldType := fun k => match k with
  | 0 => .object "java/lang/String"
  | _ => .array .int
abbrev wsX130 : List Cond := u_ws RX13 TX13 2
theorem nmX13 : ∀ a, a < 2 → ∀ b, b < 2 → a ≠ b → (TX13 a).2.1 ≠ (TX13 b).2.1 := by decide +kernel
theorem tyX13_ok : ∀ k, k < 2 → parseFieldDescriptor (TX13 k).2.2.1 = some (tyX13 k) := by decide +kernel
abbrev cX13_init : ByteArray := prog_16_method_1_code
def yX13_init : MethodName := ⟨RX13, "<init>", "(Ljava/lang/String;[I)V"⟩
def dkwX13_init_0 : List UInt8 := [42, 183, 0, 1, 42, 43, 181, 0, 7, 42, 44, 181, 0, 13, 177]
abbrev dktX13_init_0 : List UInt8 := dkwX13_init_0 ++ []
theorem dksX13_init_0 : cX13_init.data.toList.drop 0 = dktX13_init_0 := by decide +kernel
theorem dX13_init_0 : decode cX13_init 0 = .ok (.aload_n 0, 1) := dk_42 (dk_at dksX13_init_0 0 rfl rfl)
theorem dX13_init_1 : decode cX13_init 1 = .ok (.invokespecial 1, 3) := dk_183 0 1 (dk_at dksX13_init_0 1 rfl rfl)
theorem dX13_init_4 : decode cX13_init 4 = .ok (.aload_n 0, 1) := dk_42 (dk_at dksX13_init_0 4 rfl rfl)
theorem dX13_init_5 : decode cX13_init 5 = .ok (.aload_n 1, 1) := dk_43 (dk_at dksX13_init_0 5 rfl rfl)
theorem dX13_init_6 : decode cX13_init 6 = .ok (.putfield 7, 3) := dk_181 0 7 (dk_at dksX13_init_0 6 rfl rfl)
theorem dX13_init_9 : decode cX13_init 9 = .ok (.aload_n 0, 1) := dk_42 (dk_at dksX13_init_0 9 rfl rfl)
theorem dX13_init_10 : decode cX13_init 10 = .ok (.aload_n 2, 1) := dk_44 (dk_at dksX13_init_0 10 rfl rfl)
theorem dX13_init_11 : decode cX13_init 11 = .ok (.putfield 13, 3) := dk_181 0 13 (dk_at dksX13_init_0 11 rfl rfl)
theorem dX13_init_14 : decode cX13_init 14 = .ok (.return_, 1) := dk_177 (dk_at dksX13_init_0 14 rfl rfl)
abbrev cX13_perform : ByteArray := prog_16_method_2_code
def yX13_perform : MethodName := ⟨RX13, "perform", "(LRoseGuild$Guild;)I"⟩
def dkwX13_perform_9 : List UInt8 := [43, 42, 180, 0, 13, 3, 46, 182, 0, 49, 172]
abbrev dktX13_perform_9 : List UInt8 := dkwX13_perform_9 ++ []
def dkwX13_perform_8 : List UInt8 := [180, 0, 13, 3, 46, 182, 0, 43, 167, 0, 26, 43, 42, 180, 0, 13, 3, 46, 182, 0, 46, 167, 0, 13]
abbrev dktX13_perform_8 : List UInt8 := dkwX13_perform_8 ++ dktX13_perform_9
def dkwX13_perform_7 : List UInt8 := [46, 182, 0, 35, 167, 0, 52, 43, 42, 180, 0, 13, 3, 46, 182, 0, 40, 167, 0, 39, 43, 42]
abbrev dktX13_perform_7 : List UInt8 := dkwX13_perform_7 ++ dktX13_perform_8
def dkwX13_perform_6 : List UInt8 := [43, 42, 180, 0, 13, 3, 46, 42, 180, 0, 13, 4, 46, 42, 180, 0, 13, 5, 46, 42, 180, 0, 13, 6]
abbrev dktX13_perform_6 : List UInt8 := dkwX13_perform_6 ++ dktX13_perform_7
def dkwX13_perform_5 : List UInt8 := [170, 0, 0, 0, 0, 100, 0, 0, 0, 0, 0, 0, 0, 3, 0, 0, 0, 30, 0, 0, 0, 61, 0, 0, 0, 74, 0, 0, 0, 87]
abbrev dktX13_perform_5 : List UInt8 := dkwX13_perform_5 ++ dktX13_perform_6
def dkwX13_perform_4 : List UInt8 := [153, 0, 5, 6, 62, 29]
abbrev dktX13_perform_4 : List UInt8 := dkwX13_perform_4 ++ dktX13_perform_5
def dkwX13_perform_3 : List UInt8 := [62, 167, 0, 28, 44, 18, 31, 182, 0, 25, 153, 0, 19, 5, 62, 167, 0, 14, 44, 18, 33, 182, 0, 25]
abbrev dktX13_perform_3 : List UInt8 := dkwX13_perform_3 ++ dktX13_perform_4
def dkwX13_perform_2 : List UInt8 := [44, 18, 23, 182, 0, 25, 153, 0, 47, 3, 62, 167, 0, 42, 44, 18, 29, 182, 0, 25, 153, 0, 33, 4]
abbrev dktX13_perform_2 : List UInt8 := dkwX13_perform_2 ++ dktX13_perform_3
def dkwX13_perform_1 : List UInt8 := [171, 0, 0, 0, 94, 0, 0, 0, 4, 174, 122, 46, 122, 0, 0, 0, 55, 0, 52, 100, 17, 0, 0, 0, 69, 0, 53, 221, 189, 0, 0, 0, 41, 0, 55, 176, 8, 0, 0, 0, 83]
abbrev dktX13_perform_1 : List UInt8 := dkwX13_perform_1 ++ dktX13_perform_2
def dkwX13_perform_0 : List UInt8 := [42, 180, 0, 7, 77, 2, 62, 44, 182, 0, 17]
abbrev dktX13_perform_0 : List UInt8 := dkwX13_perform_0 ++ dktX13_perform_1
theorem dksX13_perform_0 : cX13_perform.data.toList.drop 0 = dktX13_perform_0 := by decide +kernel
theorem dksX13_perform_1 : cX13_perform.data.toList.drop 11 = dktX13_perform_1 := dk_seg dksX13_perform_0 11 rfl rfl
theorem dksX13_perform_2 : cX13_perform.data.toList.drop 52 = dktX13_perform_2 := dk_seg dksX13_perform_1 41 rfl rfl
theorem dksX13_perform_3 : cX13_perform.data.toList.drop 76 = dktX13_perform_3 := dk_seg dksX13_perform_2 24 rfl rfl
theorem dksX13_perform_4 : cX13_perform.data.toList.drop 100 = dktX13_perform_4 := dk_seg dksX13_perform_3 24 rfl rfl
theorem dksX13_perform_5 : cX13_perform.data.toList.drop 106 = dktX13_perform_5 := dk_seg dksX13_perform_4 6 rfl rfl
theorem dksX13_perform_6 : cX13_perform.data.toList.drop 136 = dktX13_perform_6 := dk_seg dksX13_perform_5 30 rfl rfl
theorem dksX13_perform_7 : cX13_perform.data.toList.drop 160 = dktX13_perform_7 := dk_seg dksX13_perform_6 24 rfl rfl
theorem dksX13_perform_8 : cX13_perform.data.toList.drop 182 = dktX13_perform_8 := dk_seg dksX13_perform_7 22 rfl rfl
theorem dksX13_perform_9 : cX13_perform.data.toList.drop 206 = dktX13_perform_9 := dk_seg dksX13_perform_8 24 rfl rfl
theorem dX13_perform_0 : decode cX13_perform 0 = .ok (.aload_n 0, 1) := dk_42 (dk_at dksX13_perform_0 0 rfl rfl)
theorem dX13_perform_1 : decode cX13_perform 1 = .ok (.getfield 7, 3) := dk_180 0 7 (dk_at dksX13_perform_0 1 rfl rfl)
theorem dX13_perform_4 : decode cX13_perform 4 = .ok (.astore_n 2, 1) := dk_77 (dk_at dksX13_perform_0 4 rfl rfl)
theorem dX13_perform_5 : decode cX13_perform 5 = .ok (.iconst (-1), 1) := dk_2 (dk_at dksX13_perform_0 5 rfl rfl)
theorem dX13_perform_6 : decode cX13_perform 6 = .ok (.istore_n 3, 1) := dk_62 (dk_at dksX13_perform_0 6 rfl rfl)
theorem dX13_perform_7 : decode cX13_perform 7 = .ok (.aload_n 2, 1) := dk_44 (dk_at dksX13_perform_0 7 rfl rfl)
theorem dX13_perform_8 : decode cX13_perform 8 = .ok (.invokevirtual 17, 3) := dk_182 0 17 (dk_at dksX13_perform_0 8 rfl rfl)
theorem dX13_perform_11 : decode cX13_perform 11 = .ok (.lookupswitch 94 #[(-1367724422, 55), (3433489, 69), (3530173, 41), (3649544, 83)], 41) := by decide +kernel
theorem dX13_perform_52 : decode cX13_perform 52 = .ok (.aload_n 2, 1) := dk_44 (dk_at dksX13_perform_2 0 rfl rfl)
theorem dX13_perform_53 : decode cX13_perform 53 = .ok (.ldc 23, 2) := dk_18 23 (dk_at dksX13_perform_2 1 rfl rfl)
theorem dX13_perform_55 : decode cX13_perform 55 = .ok (.invokevirtual 25, 3) := dk_182 0 25 (dk_at dksX13_perform_2 3 rfl rfl)
theorem dX13_perform_58 : decode cX13_perform 58 = .ok (.ifCond .eq 47, 3) := dk_153 0 47 (dk_at dksX13_perform_2 6 rfl rfl)
theorem dX13_perform_61 : decode cX13_perform 61 = .ok (.iconst 0, 1) := dk_3 (dk_at dksX13_perform_2 9 rfl rfl)
theorem dX13_perform_62 : decode cX13_perform 62 = .ok (.istore_n 3, 1) := dk_62 (dk_at dksX13_perform_2 10 rfl rfl)
theorem dX13_perform_63 : decode cX13_perform 63 = .ok (.goto 42, 3) := dk_167 0 42 (dk_at dksX13_perform_2 11 rfl rfl)
theorem dX13_perform_66 : decode cX13_perform 66 = .ok (.aload_n 2, 1) := dk_44 (dk_at dksX13_perform_2 14 rfl rfl)
theorem dX13_perform_67 : decode cX13_perform 67 = .ok (.ldc 29, 2) := dk_18 29 (dk_at dksX13_perform_2 15 rfl rfl)
theorem dX13_perform_69 : decode cX13_perform 69 = .ok (.invokevirtual 25, 3) := dk_182 0 25 (dk_at dksX13_perform_2 17 rfl rfl)
theorem dX13_perform_72 : decode cX13_perform 72 = .ok (.ifCond .eq 33, 3) := dk_153 0 33 (dk_at dksX13_perform_2 20 rfl rfl)
theorem dX13_perform_75 : decode cX13_perform 75 = .ok (.iconst 1, 1) := dk_4 (dk_at dksX13_perform_2 23 rfl rfl)
theorem dX13_perform_76 : decode cX13_perform 76 = .ok (.istore_n 3, 1) := dk_62 (dk_at dksX13_perform_3 0 rfl rfl)
theorem dX13_perform_77 : decode cX13_perform 77 = .ok (.goto 28, 3) := dk_167 0 28 (dk_at dksX13_perform_3 1 rfl rfl)
theorem dX13_perform_80 : decode cX13_perform 80 = .ok (.aload_n 2, 1) := dk_44 (dk_at dksX13_perform_3 4 rfl rfl)
theorem dX13_perform_81 : decode cX13_perform 81 = .ok (.ldc 31, 2) := dk_18 31 (dk_at dksX13_perform_3 5 rfl rfl)
theorem dX13_perform_83 : decode cX13_perform 83 = .ok (.invokevirtual 25, 3) := dk_182 0 25 (dk_at dksX13_perform_3 7 rfl rfl)
theorem dX13_perform_86 : decode cX13_perform 86 = .ok (.ifCond .eq 19, 3) := dk_153 0 19 (dk_at dksX13_perform_3 10 rfl rfl)
theorem dX13_perform_89 : decode cX13_perform 89 = .ok (.iconst 2, 1) := dk_5 (dk_at dksX13_perform_3 13 rfl rfl)
theorem dX13_perform_90 : decode cX13_perform 90 = .ok (.istore_n 3, 1) := dk_62 (dk_at dksX13_perform_3 14 rfl rfl)
theorem dX13_perform_91 : decode cX13_perform 91 = .ok (.goto 14, 3) := dk_167 0 14 (dk_at dksX13_perform_3 15 rfl rfl)
theorem dX13_perform_94 : decode cX13_perform 94 = .ok (.aload_n 2, 1) := dk_44 (dk_at dksX13_perform_3 18 rfl rfl)
theorem dX13_perform_95 : decode cX13_perform 95 = .ok (.ldc 33, 2) := dk_18 33 (dk_at dksX13_perform_3 19 rfl rfl)
theorem dX13_perform_97 : decode cX13_perform 97 = .ok (.invokevirtual 25, 3) := dk_182 0 25 (dk_at dksX13_perform_3 21 rfl rfl)
theorem dX13_perform_100 : decode cX13_perform 100 = .ok (.ifCond .eq 5, 3) := dk_153 0 5 (dk_at dksX13_perform_4 0 rfl rfl)
theorem dX13_perform_103 : decode cX13_perform 103 = .ok (.iconst 3, 1) := dk_6 (dk_at dksX13_perform_4 3 rfl rfl)
theorem dX13_perform_104 : decode cX13_perform 104 = .ok (.istore_n 3, 1) := dk_62 (dk_at dksX13_perform_4 4 rfl rfl)
theorem dX13_perform_105 : decode cX13_perform 105 = .ok (.iload_n 3, 1) := dk_29 (dk_at dksX13_perform_4 5 rfl rfl)
theorem dX13_perform_106 : decode cX13_perform 106 = .ok (.tableswitch 100 0 3 #[30, 61, 74, 87], 30) := by decide +kernel
theorem dX13_perform_136 : decode cX13_perform 136 = .ok (.aload_n 1, 1) := dk_43 (dk_at dksX13_perform_6 0 rfl rfl)
theorem dX13_perform_137 : decode cX13_perform 137 = .ok (.aload_n 0, 1) := dk_42 (dk_at dksX13_perform_6 1 rfl rfl)
theorem dX13_perform_138 : decode cX13_perform 138 = .ok (.getfield 13, 3) := dk_180 0 13 (dk_at dksX13_perform_6 2 rfl rfl)
theorem dX13_perform_141 : decode cX13_perform 141 = .ok (.iconst 0, 1) := dk_3 (dk_at dksX13_perform_6 5 rfl rfl)
theorem dX13_perform_142 : decode cX13_perform 142 = .ok (.iaload, 1) := dk_46 (dk_at dksX13_perform_6 6 rfl rfl)
theorem dX13_perform_143 : decode cX13_perform 143 = .ok (.aload_n 0, 1) := dk_42 (dk_at dksX13_perform_6 7 rfl rfl)
theorem dX13_perform_144 : decode cX13_perform 144 = .ok (.getfield 13, 3) := dk_180 0 13 (dk_at dksX13_perform_6 8 rfl rfl)
theorem dX13_perform_147 : decode cX13_perform 147 = .ok (.iconst 1, 1) := dk_4 (dk_at dksX13_perform_6 11 rfl rfl)
theorem dX13_perform_148 : decode cX13_perform 148 = .ok (.iaload, 1) := dk_46 (dk_at dksX13_perform_6 12 rfl rfl)
theorem dX13_perform_149 : decode cX13_perform 149 = .ok (.aload_n 0, 1) := dk_42 (dk_at dksX13_perform_6 13 rfl rfl)
theorem dX13_perform_150 : decode cX13_perform 150 = .ok (.getfield 13, 3) := dk_180 0 13 (dk_at dksX13_perform_6 14 rfl rfl)
theorem dX13_perform_153 : decode cX13_perform 153 = .ok (.iconst 2, 1) := dk_5 (dk_at dksX13_perform_6 17 rfl rfl)
theorem dX13_perform_154 : decode cX13_perform 154 = .ok (.iaload, 1) := dk_46 (dk_at dksX13_perform_6 18 rfl rfl)
theorem dX13_perform_155 : decode cX13_perform 155 = .ok (.aload_n 0, 1) := dk_42 (dk_at dksX13_perform_6 19 rfl rfl)
theorem dX13_perform_156 : decode cX13_perform 156 = .ok (.getfield 13, 3) := dk_180 0 13 (dk_at dksX13_perform_6 20 rfl rfl)
theorem dX13_perform_159 : decode cX13_perform 159 = .ok (.iconst 3, 1) := dk_6 (dk_at dksX13_perform_6 23 rfl rfl)
theorem dX13_perform_160 : decode cX13_perform 160 = .ok (.iaload, 1) := dk_46 (dk_at dksX13_perform_7 0 rfl rfl)
theorem dX13_perform_161 : decode cX13_perform 161 = .ok (.invokevirtual 35, 3) := dk_182 0 35 (dk_at dksX13_perform_7 1 rfl rfl)
theorem dX13_perform_164 : decode cX13_perform 164 = .ok (.goto 52, 3) := dk_167 0 52 (dk_at dksX13_perform_7 4 rfl rfl)
theorem dX13_perform_167 : decode cX13_perform 167 = .ok (.aload_n 1, 1) := dk_43 (dk_at dksX13_perform_7 7 rfl rfl)
theorem dX13_perform_168 : decode cX13_perform 168 = .ok (.aload_n 0, 1) := dk_42 (dk_at dksX13_perform_7 8 rfl rfl)
theorem dX13_perform_169 : decode cX13_perform 169 = .ok (.getfield 13, 3) := dk_180 0 13 (dk_at dksX13_perform_7 9 rfl rfl)
theorem dX13_perform_172 : decode cX13_perform 172 = .ok (.iconst 0, 1) := dk_3 (dk_at dksX13_perform_7 12 rfl rfl)
theorem dX13_perform_173 : decode cX13_perform 173 = .ok (.iaload, 1) := dk_46 (dk_at dksX13_perform_7 13 rfl rfl)
theorem dX13_perform_174 : decode cX13_perform 174 = .ok (.invokevirtual 40, 3) := dk_182 0 40 (dk_at dksX13_perform_7 14 rfl rfl)
theorem dX13_perform_177 : decode cX13_perform 177 = .ok (.goto 39, 3) := dk_167 0 39 (dk_at dksX13_perform_7 17 rfl rfl)
theorem dX13_perform_180 : decode cX13_perform 180 = .ok (.aload_n 1, 1) := dk_43 (dk_at dksX13_perform_7 20 rfl rfl)
theorem dX13_perform_181 : decode cX13_perform 181 = .ok (.aload_n 0, 1) := dk_42 (dk_at dksX13_perform_7 21 rfl rfl)
theorem dX13_perform_182 : decode cX13_perform 182 = .ok (.getfield 13, 3) := dk_180 0 13 (dk_at dksX13_perform_8 0 rfl rfl)
theorem dX13_perform_185 : decode cX13_perform 185 = .ok (.iconst 0, 1) := dk_3 (dk_at dksX13_perform_8 3 rfl rfl)
theorem dX13_perform_186 : decode cX13_perform 186 = .ok (.iaload, 1) := dk_46 (dk_at dksX13_perform_8 4 rfl rfl)
theorem dX13_perform_187 : decode cX13_perform 187 = .ok (.invokevirtual 43, 3) := dk_182 0 43 (dk_at dksX13_perform_8 5 rfl rfl)
theorem dX13_perform_190 : decode cX13_perform 190 = .ok (.goto 26, 3) := dk_167 0 26 (dk_at dksX13_perform_8 8 rfl rfl)
theorem dX13_perform_193 : decode cX13_perform 193 = .ok (.aload_n 1, 1) := dk_43 (dk_at dksX13_perform_8 11 rfl rfl)
theorem dX13_perform_194 : decode cX13_perform 194 = .ok (.aload_n 0, 1) := dk_42 (dk_at dksX13_perform_8 12 rfl rfl)
theorem dX13_perform_195 : decode cX13_perform 195 = .ok (.getfield 13, 3) := dk_180 0 13 (dk_at dksX13_perform_8 13 rfl rfl)
theorem dX13_perform_198 : decode cX13_perform 198 = .ok (.iconst 0, 1) := dk_3 (dk_at dksX13_perform_8 16 rfl rfl)
theorem dX13_perform_199 : decode cX13_perform 199 = .ok (.iaload, 1) := dk_46 (dk_at dksX13_perform_8 17 rfl rfl)
theorem dX13_perform_200 : decode cX13_perform 200 = .ok (.invokevirtual 46, 3) := dk_182 0 46 (dk_at dksX13_perform_8 18 rfl rfl)
theorem dX13_perform_203 : decode cX13_perform 203 = .ok (.goto 13, 3) := dk_167 0 13 (dk_at dksX13_perform_8 21 rfl rfl)
theorem dX13_perform_206 : decode cX13_perform 206 = .ok (.aload_n 1, 1) := dk_43 (dk_at dksX13_perform_9 0 rfl rfl)
theorem dX13_perform_207 : decode cX13_perform 207 = .ok (.aload_n 0, 1) := dk_42 (dk_at dksX13_perform_9 1 rfl rfl)
theorem dX13_perform_208 : decode cX13_perform 208 = .ok (.getfield 13, 3) := dk_180 0 13 (dk_at dksX13_perform_9 2 rfl rfl)
theorem dX13_perform_211 : decode cX13_perform 211 = .ok (.iconst 0, 1) := dk_3 (dk_at dksX13_perform_9 5 rfl rfl)
theorem dX13_perform_212 : decode cX13_perform 212 = .ok (.iaload, 1) := dk_46 (dk_at dksX13_perform_9 6 rfl rfl)
theorem dX13_perform_213 : decode cX13_perform 213 = .ok (.invokevirtual 49, 3) := dk_182 0 49 (dk_at dksX13_perform_9 7 rfl rfl)
theorem dX13_perform_216 : decode cX13_perform 216 = .ok (.ireturn, 1) := dk_172 (dk_at dksX13_perform_9 10 rfl rfl)
theorem q194 : (Jvm.Cond.initialized "RoseGuild$Single") ∈ lw_all := lw_g (lw_at lw_m1 59 rfl) rfl
theorem q996 : (Jvm.Cond.selects "RoseGuild$Single" ({ cls := "java/lang/Object", name := "getClass", desc := "()Ljava/lang/Class;" } : Jvm.MethodName) ({ cls := "java/lang/Object", name := "getClass", desc := "()Ljava/lang/Class;" } : Jvm.MethodName)) ∈ lw_all := lw_g (lw_at lw_m4 141 rfl) rfl
theorem q1061 : (Jvm.Cond.selects "RoseGuild$Single" ({ cls := "java/lang/Object", name := "toString", desc := "()Ljava/lang/String;" } : Jvm.MethodName) ({ cls := "java/lang/Object", name := "toString", desc := "()Ljava/lang/String;" } : Jvm.MethodName)) ∈ lw_all := lw_g (lw_at lw_m4 206 rfl) rfl
theorem q1460 : (Jvm.Cond.selects "RoseGuild$Single" ({ cls := "java/lang/Object", name := "hashCode", desc := "()I" } : Jvm.MethodName) ({ cls := "java/lang/Object", name := "hashCode", desc := "()I" } : Jvm.MethodName)) ∈ lw_all := lw_g (lw_at lw_m6 125 rfl) rfl
theorem q1876 : (Jvm.Cond.selects "RoseGuild$Single" ({ cls := "java/lang/Object", name := "equals", desc := "(Ljava/lang/Object;)Z" } : Jvm.MethodName) ({ cls := "java/lang/Object", name := "equals", desc := "(Ljava/lang/Object;)Z" } : Jvm.MethodName)) ∈ lw_all := lw_g (lw_at lw_m8 61 rfl) rfl
theorem q2531 : (Jvm.Cond.instantiable "RoseGuild$Single" (2 : Nat)) ∈ lw_all := lw_g (lw_at lw_m10 236 rfl) rfl
theorem q2541 : (Jvm.Cond.instanceMethod ({ cls := "RoseGuild$Single", name := "<init>", desc := "(Ljava/lang/String;[I)V" } : Jvm.MethodName)) ∈ lw_all := lw_g (lw_at lw_m11 6 rfl) rfl
theorem q2542 : (Jvm.Cond.code ({ cls := "RoseGuild$Single", name := "<init>", desc := "(Ljava/lang/String;[I)V" } : Jvm.MethodName) prog_16_method_1_code (3 : Nat) (Option.none : Option Jvm.ClassFile.FieldType)) ∈ lw_all := lw_g (lw_at lw_m11 7 rfl) rfl
theorem q2543 : (Jvm.Cond.methodLink "RoseGuild$Single" (1 : Nat) ({ cls := "java/lang/Object", name := "<init>", desc := "()V" } : Jvm.MethodName)) ∈ lw_all := lw_g (lw_at lw_m11 8 rfl) rfl
theorem q2544 : (Jvm.Cond.fieldLink "RoseGuild$Single" (7 : Nat) "RoseGuild$Single" "word" "Ljava/lang/String;") ∈ lw_all := lw_g (lw_at lw_m11 9 rfl) rfl
theorem q2545 : (Jvm.Cond.fieldLink "RoseGuild$Single" (13 : Nat) "RoseGuild$Single" "numbers" "[I") ∈ lw_all := lw_g (lw_at lw_m11 10 rfl) rfl
theorem q2546 : (Jvm.Cond.laysFinal "RoseGuild$Single" "RoseGuild$Single" "word" "Ljava/lang/String;") ∈ lw_all := lw_g (lw_at lw_m11 11 rfl) rfl
theorem q2547 : (Jvm.Cond.soleField "RoseGuild$Single" "word") ∈ lw_all := lw_g (lw_at lw_m11 12 rfl) rfl
theorem q2548 : (Jvm.Cond.laysFinal "RoseGuild$Single" "RoseGuild$Single" "numbers" "[I") ∈ lw_all := lw_g (lw_at lw_m11 13 rfl) rfl
theorem q2549 : (Jvm.Cond.soleField "RoseGuild$Single" "numbers") ∈ lw_all := lw_g (lw_at lw_m11 14 rfl) rfl
theorem q2550 : (Jvm.Cond.superclass "RoseGuild$Single" "java/lang/Object") ∈ lw_all := lw_g (lw_at lw_m11 15 rfl) rfl
theorem q2937 : (Jvm.Cond.instanceMethod ({ cls := "RoseGuild$Single", name := "perform", desc := "(LRoseGuild$Guild;)I" } : Jvm.MethodName)) ∈ lw_all := lw_g (lw_at lw_m12 162 rfl) rfl
theorem q2938 : (Jvm.Cond.selects "RoseGuild$Single" ({ cls := "RoseGuild$Single", name := "perform", desc := "(LRoseGuild$Guild;)I" } : Jvm.MethodName) ({ cls := "RoseGuild$Single", name := "perform", desc := "(LRoseGuild$Guild;)I" } : Jvm.MethodName)) ∈ lw_all := lw_g (lw_at lw_m12 163 rfl) rfl
theorem q2939 : (Jvm.Cond.code ({ cls := "RoseGuild$Single", name := "perform", desc := "(LRoseGuild$Guild;)I" } : Jvm.MethodName) prog_16_method_2_code (4 : Nat) (Option.some Jvm.ClassFile.FieldType.int)) ∈ lw_all := lw_g (lw_at lw_m12 164 rfl) rfl
theorem q2940 : (Jvm.Cond.methodLink "RoseGuild$Single" (17 : Nat) ({ cls := "java/lang/String", name := "hashCode", desc := "()I" } : Jvm.MethodName)) ∈ lw_all := lw_g (lw_at lw_m12 165 rfl) rfl
theorem q2941 : (Jvm.Cond.stringRef "RoseGuild$Single" (23 : Nat) "sign") ∈ lw_tbl := lw_at lw_m12 166 rfl
theorem q2942 : (Jvm.Cond.methodLink "RoseGuild$Single" (25 : Nat) ({ cls := "java/lang/String", name := "equals", desc := "(Ljava/lang/Object;)Z" } : Jvm.MethodName)) ∈ lw_all := lw_g (lw_at lw_m12 167 rfl) rfl
theorem q2943 : (Jvm.Cond.stringRef "RoseGuild$Single" (29 : Nat) "cancel") ∈ lw_tbl := lw_at lw_m12 168 rfl
theorem q2944 : (Jvm.Cond.stringRef "RoseGuild$Single" (31 : Nat) "pass") ∈ lw_tbl := lw_at lw_m12 169 rfl
theorem q2945 : (Jvm.Cond.stringRef "RoseGuild$Single" (33 : Nat) "wind") ∈ lw_tbl := lw_at lw_m12 170 rfl
theorem q2946 : (Jvm.Cond.methodLink "RoseGuild$Single" (35 : Nat) ({ cls := "RoseGuild$Guild", name := "sign", desc := "(IIII)I" } : Jvm.MethodName)) ∈ lw_all := lw_g (lw_at lw_m12 171 rfl) rfl
theorem q3030 : (Jvm.Cond.methodLink "RoseGuild$Single" (40 : Nat) ({ cls := "RoseGuild$Guild", name := "cancel", desc := "(I)I" } : Jvm.MethodName)) ∈ lw_all := lw_g (lw_at lw_m13 15 rfl) rfl
theorem q3034 : (Jvm.Cond.methodLink "RoseGuild$Single" (43 : Nat) ({ cls := "RoseGuild$Guild", name := "advance", desc := "(I)I" } : Jvm.MethodName)) ∈ lw_all := lw_g (lw_at lw_m13 19 rfl) rfl
theorem q3149 : (Jvm.Cond.methodLink "RoseGuild$Single" (46 : Nat) ({ cls := "RoseGuild$Guild", name := "setWindOffset", desc := "(I)I" } : Jvm.MethodName)) ∈ lw_all := lw_g (lw_at lw_m13 134 rfl) rfl
theorem q3153 : (Jvm.Cond.methodLink "RoseGuild$Single" (49 : Nat) ({ cls := "RoseGuild$Guild", name := "setPrice", desc := "(I)I" } : Jvm.MethodName)) ∈ lw_all := lw_g (lw_at lw_m13 138 rfl) rfl
theorem q4381 : (Jvm.Cond.castable "RoseGuild$Single" "RoseGuild$Command") ∈ lw_tbl := lw_at lw_m18 166 rfl
theorem q4414 : (Jvm.Cond.castable "RoseGuild$Single" "java/lang/Object") ∈ lw_tbl := lw_at lw_m18 199 rfl
theorem in_X13 : ∀ w ∈ wsX130, w ∈ lw_all := lw_in wsX130 [2546, 2548] (by decide +kernel) (by decide +kernel)

/-! RoseGuild$Contract -/
set_option maxRecDepth 100000
def RX14 : String := "RoseGuild$Contract"
def TX14 : u_T := fun k => match k with
  | 0 => ("RoseGuild$Contract", "street", "I", true)
  | 1 => ("RoseGuild$Contract", "garden", "I", true)
  | _ => ("RoseGuild$Contract", "nights", "I", false)
def tyX14 : Nat → FieldType := fun k => match k with
  | 0 => .int
  | 1 => .int
  | _ => .int
abbrev wsX140 : List Cond := u_ws RX14 TX14 3
theorem nmX14 : ∀ a, a < 3 → ∀ b, b < 3 → a ≠ b → (TX14 a).2.1 ≠ (TX14 b).2.1 := by decide +kernel
theorem tyX14_ok : ∀ k, k < 3 → parseFieldDescriptor (TX14 k).2.2.1 = some (tyX14 k) := by decide +kernel
abbrev cX14_copy : ByteArray := prog_5_method_2_code
def yX14_copy : MethodName := ⟨RX14, "copy", "()LRoseGuild$Contract;"⟩
def dkwX14_copy_0 : List UInt8 := [187, 0, 8, 89, 42, 180, 0, 7, 42, 180, 0, 13, 42, 180, 0, 16, 183, 0, 19, 176]
abbrev dktX14_copy_0 : List UInt8 := dkwX14_copy_0 ++ []
theorem dksX14_copy_0 : cX14_copy.data.toList.drop 0 = dktX14_copy_0 := by decide +kernel
theorem dX14_copy_0 : decode cX14_copy 0 = .ok (.new 8, 3) := dk_187 0 8 (dk_at dksX14_copy_0 0 rfl rfl)
theorem dX14_copy_3 : decode cX14_copy 3 = .ok (.dup, 1) := dk_89 (dk_at dksX14_copy_0 3 rfl rfl)
theorem dX14_copy_4 : decode cX14_copy 4 = .ok (.aload_n 0, 1) := dk_42 (dk_at dksX14_copy_0 4 rfl rfl)
theorem dX14_copy_5 : decode cX14_copy 5 = .ok (.getfield 7, 3) := dk_180 0 7 (dk_at dksX14_copy_0 5 rfl rfl)
theorem dX14_copy_8 : decode cX14_copy 8 = .ok (.aload_n 0, 1) := dk_42 (dk_at dksX14_copy_0 8 rfl rfl)
theorem dX14_copy_9 : decode cX14_copy 9 = .ok (.getfield 13, 3) := dk_180 0 13 (dk_at dksX14_copy_0 9 rfl rfl)
theorem dX14_copy_12 : decode cX14_copy 12 = .ok (.aload_n 0, 1) := dk_42 (dk_at dksX14_copy_0 12 rfl rfl)
theorem dX14_copy_13 : decode cX14_copy 13 = .ok (.getfield 16, 3) := dk_180 0 16 (dk_at dksX14_copy_0 13 rfl rfl)
theorem dX14_copy_16 : decode cX14_copy 16 = .ok (.invokespecial 19, 3) := dk_183 0 19 (dk_at dksX14_copy_0 16 rfl rfl)
theorem dX14_copy_19 : decode cX14_copy 19 = .ok (.areturn, 1) := dk_176 (dk_at dksX14_copy_0 19 rfl rfl)
abbrev cX14_init : ByteArray := prog_5_method_1_code
def yX14_init : MethodName := ⟨RX14, "<init>", "(III)V"⟩
def dkwX14_init_0 : List UInt8 := [42, 183, 0, 1, 42, 27, 181, 0, 7, 42, 28, 181, 0, 13, 42, 29, 181, 0, 16, 177]
abbrev dktX14_init_0 : List UInt8 := dkwX14_init_0 ++ []
theorem dksX14_init_0 : cX14_init.data.toList.drop 0 = dktX14_init_0 := by decide +kernel
theorem dX14_init_0 : decode cX14_init 0 = .ok (.aload_n 0, 1) := dk_42 (dk_at dksX14_init_0 0 rfl rfl)
theorem dX14_init_1 : decode cX14_init 1 = .ok (.invokespecial 1, 3) := dk_183 0 1 (dk_at dksX14_init_0 1 rfl rfl)
theorem dX14_init_4 : decode cX14_init 4 = .ok (.aload_n 0, 1) := dk_42 (dk_at dksX14_init_0 4 rfl rfl)
theorem dX14_init_5 : decode cX14_init 5 = .ok (.iload_n 1, 1) := dk_27 (dk_at dksX14_init_0 5 rfl rfl)
theorem dX14_init_6 : decode cX14_init 6 = .ok (.putfield 7, 3) := dk_181 0 7 (dk_at dksX14_init_0 6 rfl rfl)
theorem dX14_init_9 : decode cX14_init 9 = .ok (.aload_n 0, 1) := dk_42 (dk_at dksX14_init_0 9 rfl rfl)
theorem dX14_init_10 : decode cX14_init 10 = .ok (.iload_n 2, 1) := dk_28 (dk_at dksX14_init_0 10 rfl rfl)
theorem dX14_init_11 : decode cX14_init 11 = .ok (.putfield 13, 3) := dk_181 0 13 (dk_at dksX14_init_0 11 rfl rfl)
theorem dX14_init_14 : decode cX14_init 14 = .ok (.aload_n 0, 1) := dk_42 (dk_at dksX14_init_0 14 rfl rfl)
theorem dX14_init_15 : decode cX14_init 15 = .ok (.iload_n 3, 1) := dk_29 (dk_at dksX14_init_0 15 rfl rfl)
theorem dX14_init_16 : decode cX14_init 16 = .ok (.putfield 16, 3) := dk_181 0 16 (dk_at dksX14_init_0 16 rfl rfl)
theorem dX14_init_19 : decode cX14_init 19 = .ok (.return_, 1) := dk_177 (dk_at dksX14_init_0 19 rfl rfl)
theorem q201 : (Jvm.Cond.initialized "RoseGuild$Contract") ∈ lw_all := lw_g (lw_at lw_m1 66 rfl) rfl
theorem q970 : (Jvm.Cond.selects "RoseGuild$Contract" ({ cls := "java/lang/Object", name := "toString", desc := "()Ljava/lang/String;" } : Jvm.MethodName) ({ cls := "java/lang/Object", name := "toString", desc := "()Ljava/lang/String;" } : Jvm.MethodName)) ∈ lw_all := lw_g (lw_at lw_m4 115 rfl) rfl
theorem q987 : (Jvm.Cond.selects "RoseGuild$Contract" ({ cls := "java/lang/Object", name := "getClass", desc := "()Ljava/lang/Class;" } : Jvm.MethodName) ({ cls := "java/lang/Object", name := "getClass", desc := "()Ljava/lang/Class;" } : Jvm.MethodName)) ∈ lw_all := lw_g (lw_at lw_m4 132 rfl) rfl
theorem q1444 : (Jvm.Cond.selects "RoseGuild$Contract" ({ cls := "java/lang/Object", name := "hashCode", desc := "()I" } : Jvm.MethodName) ({ cls := "java/lang/Object", name := "hashCode", desc := "()I" } : Jvm.MethodName)) ∈ lw_all := lw_g (lw_at lw_m6 109 rfl) rfl
theorem q1862 : (Jvm.Cond.selects "RoseGuild$Contract" ({ cls := "java/lang/Object", name := "equals", desc := "(Ljava/lang/Object;)Z" } : Jvm.MethodName) ({ cls := "java/lang/Object", name := "equals", desc := "(Ljava/lang/Object;)Z" } : Jvm.MethodName)) ∈ lw_all := lw_g (lw_at lw_m8 47 rfl) rfl
theorem q2800 : (Jvm.Cond.instanceMethod ({ cls := "RoseGuild$Contract", name := "copy", desc := "()LRoseGuild$Contract;" } : Jvm.MethodName)) ∈ lw_all := lw_g (lw_at lw_m12 25 rfl) rfl
theorem q2801 : (Jvm.Cond.selects "RoseGuild$Contract" ({ cls := "RoseGuild$Contract", name := "copy", desc := "()LRoseGuild$Contract;" } : Jvm.MethodName) ({ cls := "RoseGuild$Contract", name := "copy", desc := "()LRoseGuild$Contract;" } : Jvm.MethodName)) ∈ lw_all := lw_g (lw_at lw_m12 26 rfl) rfl
theorem q2802 : (Jvm.Cond.code ({ cls := "RoseGuild$Contract", name := "copy", desc := "()LRoseGuild$Contract;" } : Jvm.MethodName) prog_5_method_2_code (1 : Nat) (Option.some (Jvm.ClassFile.FieldType.object "RoseGuild$Contract"))) ∈ lw_all := lw_g (lw_at lw_m12 27 rfl) rfl
theorem q2803 : (Jvm.Cond.classLink "RoseGuild$Contract" (8 : Nat) "RoseGuild$Contract") ∈ lw_all := lw_g (lw_at lw_m12 28 rfl) rfl
theorem q2804 : (Jvm.Cond.instantiable "RoseGuild$Contract" (3 : Nat)) ∈ lw_all := lw_g (lw_at lw_m12 29 rfl) rfl
theorem q2805 : (Jvm.Cond.methodLink "RoseGuild$Contract" (19 : Nat) ({ cls := "RoseGuild$Contract", name := "<init>", desc := "(III)V" } : Jvm.MethodName)) ∈ lw_all := lw_g (lw_at lw_m12 30 rfl) rfl
theorem q2806 : (Jvm.Cond.instanceMethod ({ cls := "RoseGuild$Contract", name := "<init>", desc := "(III)V" } : Jvm.MethodName)) ∈ lw_all := lw_g (lw_at lw_m12 31 rfl) rfl
theorem q2807 : (Jvm.Cond.code ({ cls := "RoseGuild$Contract", name := "<init>", desc := "(III)V" } : Jvm.MethodName) prog_5_method_1_code (4 : Nat) (Option.none : Option Jvm.ClassFile.FieldType)) ∈ lw_all := lw_g (lw_at lw_m12 32 rfl) rfl
theorem q2808 : (Jvm.Cond.methodLink "RoseGuild$Contract" (1 : Nat) ({ cls := "java/lang/Object", name := "<init>", desc := "()V" } : Jvm.MethodName)) ∈ lw_all := lw_g (lw_at lw_m12 33 rfl) rfl
theorem q2809 : (Jvm.Cond.fieldLink "RoseGuild$Contract" (7 : Nat) "RoseGuild$Contract" "street" "I") ∈ lw_all := lw_g (lw_at lw_m12 34 rfl) rfl
theorem q2812 : (Jvm.Cond.fieldLink "RoseGuild$Contract" (13 : Nat) "RoseGuild$Contract" "garden" "I") ∈ lw_all := lw_g (lw_at lw_m12 37 rfl) rfl
theorem q2815 : (Jvm.Cond.fieldLink "RoseGuild$Contract" (16 : Nat) "RoseGuild$Contract" "nights" "I") ∈ lw_all := lw_g (lw_at lw_m12 40 rfl) rfl
theorem q2818 : (Jvm.Cond.laysFinal "RoseGuild$Contract" "RoseGuild$Contract" "street" "I") ∈ lw_all := lw_g (lw_at lw_m12 43 rfl) rfl
theorem q2819 : (Jvm.Cond.soleField "RoseGuild$Contract" "street") ∈ lw_all := lw_g (lw_at lw_m12 44 rfl) rfl
theorem q2820 : (Jvm.Cond.laysFinal "RoseGuild$Contract" "RoseGuild$Contract" "garden" "I") ∈ lw_all := lw_g (lw_at lw_m12 45 rfl) rfl
theorem q2821 : (Jvm.Cond.soleField "RoseGuild$Contract" "garden") ∈ lw_all := lw_g (lw_at lw_m12 46 rfl) rfl
theorem q2822 : (Jvm.Cond.lays "RoseGuild$Contract" "RoseGuild$Contract" "nights" "I") ∈ lw_all := lw_g (lw_at lw_m12 47 rfl) rfl
theorem q2823 : (Jvm.Cond.soleField "RoseGuild$Contract" "nights") ∈ lw_all := lw_g (lw_at lw_m12 48 rfl) rfl
theorem q2824 : (Jvm.Cond.superclass "RoseGuild$Contract" "java/lang/Object") ∈ lw_all := lw_g (lw_at lw_m12 49 rfl) rfl
theorem q4420 : (Jvm.Cond.castable "RoseGuild$Contract" "java/lang/Object") ∈ lw_tbl := lw_at lw_m18 205 rfl
theorem in_X14 : ∀ w ∈ wsX140, w ∈ lw_all := lw_in wsX140 [2818, 2820, 2822] (by decide +kernel) (by decide +kernel)

/-! RoseGuild$Problem -/
set_option maxRecDepth 100000
def RX15 : String := "RoseGuild$Problem"
def TX15 : u_T := fun k => match k with
  | 0 => ("java/lang/Throwable", "cause", "Ljava/lang/Throwable;", false)
  | 1 => ("java/lang/Throwable", "stackTrace", "[Ljava/lang/StackTraceElement;", false)
  | 2 => ("java/lang/Throwable", "suppressedExceptions", "Ljava/util/List;", false)
  | 3 => ("java/lang/Throwable", "detailMessage", "Ljava/lang/String;", false)
  | 4 => ("java/lang/Throwable", "backtrace", "Ljava/lang/Object;", false)
  | 5 => ("java/lang/Throwable", "depth", "I", false)
  | _ => ("RoseGuild$Problem", "kind", "LRoseGuild$Kind;", true)
def tyX15 : Nat → FieldType := fun k => match k with
  | 0 => .object "java/lang/Throwable"
  | 1 => .array (.object "java/lang/StackTraceElement")
  | 2 => .object "java/util/List"
  | 3 => .object "java/lang/String"
  | 4 => .object "java/lang/Object"
  | 5 => .int
  | _ => .object "RoseGuild$Kind"
abbrev wsX150 : List Cond := u_ws RX15 TX15 7
theorem nmX15 : ∀ a, a < 7 → ∀ b, b < 7 → a ≠ b → (TX15 a).2.1 ≠ (TX15 b).2.1 := by decide +kernel
theorem tyX15_ok : ∀ k, k < 7 → parseFieldDescriptor (TX15 k).2.2.1 = some (tyX15 k) := by decide +kernel
abbrev cX15_unless : ByteArray := prog_13_method_3_code
def yX15_unless : MethodName := ⟨RX15, "unless", "(ZLRoseGuild$Kind;)V"⟩
def dkwX15_unless_0 : List UInt8 := [26, 154, 0, 12, 187, 0, 8, 89, 43, 183, 0, 33, 191, 177]
abbrev dktX15_unless_0 : List UInt8 := dkwX15_unless_0 ++ []
theorem dksX15_unless_0 : cX15_unless.data.toList.drop 0 = dktX15_unless_0 := by decide +kernel
theorem dX15_unless_0 : decode cX15_unless 0 = .ok (.iload_n 0, 1) := dk_26 (dk_at dksX15_unless_0 0 rfl rfl)
theorem dX15_unless_1 : decode cX15_unless 1 = .ok (.ifCond .ne 12, 3) := dk_154 0 12 (dk_at dksX15_unless_0 1 rfl rfl)
theorem dX15_unless_4 : decode cX15_unless 4 = .ok (.new 8, 3) := dk_187 0 8 (dk_at dksX15_unless_0 4 rfl rfl)
theorem dX15_unless_7 : decode cX15_unless 7 = .ok (.dup, 1) := dk_89 (dk_at dksX15_unless_0 7 rfl rfl)
theorem dX15_unless_8 : decode cX15_unless 8 = .ok (.aload_n 1, 1) := dk_43 (dk_at dksX15_unless_0 8 rfl rfl)
theorem dX15_unless_9 : decode cX15_unless 9 = .ok (.invokespecial 33, 3) := dk_183 0 33 (dk_at dksX15_unless_0 9 rfl rfl)
theorem dX15_unless_12 : decode cX15_unless 12 = .ok (.athrow, 1) := dk_191 (dk_at dksX15_unless_0 12 rfl rfl)
theorem dX15_unless_13 : decode cX15_unless 13 = .ok (.return_, 1) := dk_177 (dk_at dksX15_unless_0 13 rfl rfl)
abbrev cX15_init : ByteArray := prog_13_method_1_code
def yX15_init : MethodName := ⟨RX15, "<init>", "(LRoseGuild$Kind;)V"⟩
def dkwX15_init_0 : List UInt8 := [42, 1, 1, 3, 3, 183, 0, 1, 42, 43, 181, 0, 7, 177]
abbrev dktX15_init_0 : List UInt8 := dkwX15_init_0 ++ []
theorem dksX15_init_0 : cX15_init.data.toList.drop 0 = dktX15_init_0 := by decide +kernel
theorem dX15_init_0 : decode cX15_init 0 = .ok (.aload_n 0, 1) := dk_42 (dk_at dksX15_init_0 0 rfl rfl)
theorem dX15_init_1 : decode cX15_init 1 = .ok (.aconst_null, 1) := dk_1 (dk_at dksX15_init_0 1 rfl rfl)
theorem dX15_init_2 : decode cX15_init 2 = .ok (.aconst_null, 1) := dk_1 (dk_at dksX15_init_0 2 rfl rfl)
theorem dX15_init_3 : decode cX15_init 3 = .ok (.iconst 0, 1) := dk_3 (dk_at dksX15_init_0 3 rfl rfl)
theorem dX15_init_4 : decode cX15_init 4 = .ok (.iconst 0, 1) := dk_3 (dk_at dksX15_init_0 4 rfl rfl)
theorem dX15_init_5 : decode cX15_init 5 = .ok (.invokespecial 1, 3) := dk_183 0 1 (dk_at dksX15_init_0 5 rfl rfl)
theorem dX15_init_8 : decode cX15_init 8 = .ok (.aload_n 0, 1) := dk_42 (dk_at dksX15_init_0 8 rfl rfl)
theorem dX15_init_9 : decode cX15_init 9 = .ok (.aload_n 1, 1) := dk_43 (dk_at dksX15_init_0 9 rfl rfl)
theorem dX15_init_10 : decode cX15_init 10 = .ok (.putfield 7, 3) := dk_181 0 7 (dk_at dksX15_init_0 10 rfl rfl)
theorem dX15_init_13 : decode cX15_init 13 = .ok (.return_, 1) := dk_177 (dk_at dksX15_init_0 13 rfl rfl)
abbrev cX15_toThrow : ByteArray := prog_13_method_2_code
def yX15_toThrow : MethodName := ⟨RX15, "toThrow", "()Ljava/lang/RuntimeException;"⟩
def dkwX15_toThrow_3 : List UInt8 := [183, 0, 29, 167, 0, 10, 187, 0, 30, 89, 183, 0, 32, 176]
abbrev dktX15_toThrow_3 : List UInt8 := dkwX15_toThrow_3 ++ []
def dkwX15_toThrow_2 : List UInt8 := [187, 0, 19, 89, 183, 0, 21, 191, 187, 0, 24, 89, 183, 0, 26, 167, 0, 20, 187, 0, 27, 89]
abbrev dktX15_toThrow_2 : List UInt8 := dkwX15_toThrow_2 ++ dktX15_toThrow_3
def dkwX15_toThrow_1 : List UInt8 := [170, 0, 0, 0, 25, 0, 0, 0, 0, 0, 0, 0, 2, 0, 0, 0, 33, 0, 0, 0, 43, 0, 0, 0, 53]
abbrev dktX15_toThrow_1 : List UInt8 := dkwX15_toThrow_1 ++ dktX15_toThrow_2
def dkwX15_toThrow_0 : List UInt8 := [42, 180, 0, 7, 182, 0, 13]
abbrev dktX15_toThrow_0 : List UInt8 := dkwX15_toThrow_0 ++ dktX15_toThrow_1
theorem dksX15_toThrow_0 : cX15_toThrow.data.toList.drop 0 = dktX15_toThrow_0 := by decide +kernel
theorem dksX15_toThrow_1 : cX15_toThrow.data.toList.drop 7 = dktX15_toThrow_1 := dk_seg dksX15_toThrow_0 7 rfl rfl
theorem dksX15_toThrow_2 : cX15_toThrow.data.toList.drop 32 = dktX15_toThrow_2 := dk_seg dksX15_toThrow_1 25 rfl rfl
theorem dksX15_toThrow_3 : cX15_toThrow.data.toList.drop 54 = dktX15_toThrow_3 := dk_seg dksX15_toThrow_2 22 rfl rfl
theorem dX15_toThrow_0 : decode cX15_toThrow 0 = .ok (.aload_n 0, 1) := dk_42 (dk_at dksX15_toThrow_0 0 rfl rfl)
theorem dX15_toThrow_1 : decode cX15_toThrow 1 = .ok (.getfield 7, 3) := dk_180 0 7 (dk_at dksX15_toThrow_0 1 rfl rfl)
theorem dX15_toThrow_4 : decode cX15_toThrow 4 = .ok (.invokevirtual 13, 3) := dk_182 0 13 (dk_at dksX15_toThrow_0 4 rfl rfl)
theorem dX15_toThrow_7 : decode cX15_toThrow 7 = .ok (.tableswitch 25 0 2 #[33, 43, 53], 25) := by decide +kernel
theorem dX15_toThrow_32 : decode cX15_toThrow 32 = .ok (.new 19, 3) := dk_187 0 19 (dk_at dksX15_toThrow_2 0 rfl rfl)
theorem dX15_toThrow_35 : decode cX15_toThrow 35 = .ok (.dup, 1) := dk_89 (dk_at dksX15_toThrow_2 3 rfl rfl)
theorem dX15_toThrow_36 : decode cX15_toThrow 36 = .ok (.invokespecial 21, 3) := dk_183 0 21 (dk_at dksX15_toThrow_2 4 rfl rfl)
theorem dX15_toThrow_39 : decode cX15_toThrow 39 = .ok (.athrow, 1) := dk_191 (dk_at dksX15_toThrow_2 7 rfl rfl)
theorem dX15_toThrow_40 : decode cX15_toThrow 40 = .ok (.new 24, 3) := dk_187 0 24 (dk_at dksX15_toThrow_2 8 rfl rfl)
theorem dX15_toThrow_43 : decode cX15_toThrow 43 = .ok (.dup, 1) := dk_89 (dk_at dksX15_toThrow_2 11 rfl rfl)
theorem dX15_toThrow_44 : decode cX15_toThrow 44 = .ok (.invokespecial 26, 3) := dk_183 0 26 (dk_at dksX15_toThrow_2 12 rfl rfl)
theorem dX15_toThrow_47 : decode cX15_toThrow 47 = .ok (.goto 20, 3) := dk_167 0 20 (dk_at dksX15_toThrow_2 15 rfl rfl)
theorem dX15_toThrow_50 : decode cX15_toThrow 50 = .ok (.new 27, 3) := dk_187 0 27 (dk_at dksX15_toThrow_2 18 rfl rfl)
theorem dX15_toThrow_53 : decode cX15_toThrow 53 = .ok (.dup, 1) := dk_89 (dk_at dksX15_toThrow_2 21 rfl rfl)
theorem dX15_toThrow_54 : decode cX15_toThrow 54 = .ok (.invokespecial 29, 3) := dk_183 0 29 (dk_at dksX15_toThrow_3 0 rfl rfl)
theorem dX15_toThrow_57 : decode cX15_toThrow 57 = .ok (.goto 10, 3) := dk_167 0 10 (dk_at dksX15_toThrow_3 3 rfl rfl)
theorem dX15_toThrow_60 : decode cX15_toThrow 60 = .ok (.new 30, 3) := dk_187 0 30 (dk_at dksX15_toThrow_3 6 rfl rfl)
theorem dX15_toThrow_63 : decode cX15_toThrow 63 = .ok (.dup, 1) := dk_89 (dk_at dksX15_toThrow_3 9 rfl rfl)
theorem dX15_toThrow_64 : decode cX15_toThrow 64 = .ok (.invokespecial 32, 3) := dk_183 0 32 (dk_at dksX15_toThrow_3 10 rfl rfl)
theorem dX15_toThrow_67 : decode cX15_toThrow 67 = .ok (.areturn, 1) := dk_176 (dk_at dksX15_toThrow_3 13 rfl rfl)
theorem q203 : (Jvm.Cond.initialized "RoseGuild$Problem") ∈ lw_all := lw_g (lw_at lw_m1 68 rfl) rfl
theorem q349 : (Jvm.Cond.selects "RoseGuild$Problem" ({ cls := "java/lang/Throwable", name := "fillInStackTrace", desc := "()Ljava/lang/Throwable;" } : Jvm.MethodName) ({ cls := "java/lang/Throwable", name := "fillInStackTrace", desc := "()Ljava/lang/Throwable;" } : Jvm.MethodName)) ∈ lw_all := lw_g (lw_at lw_m1 214 rfl) rfl
theorem q978 : (Jvm.Cond.selects "RoseGuild$Problem" ({ cls := "java/lang/Object", name := "toString", desc := "()Ljava/lang/String;" } : Jvm.MethodName) ({ cls := "java/lang/Throwable", name := "toString", desc := "()Ljava/lang/String;" } : Jvm.MethodName)) ∈ lw_all := lw_g (lw_at lw_m4 123 rfl) rfl
theorem q993 : (Jvm.Cond.selects "RoseGuild$Problem" ({ cls := "java/lang/Object", name := "getClass", desc := "()Ljava/lang/Class;" } : Jvm.MethodName) ({ cls := "java/lang/Object", name := "getClass", desc := "()Ljava/lang/Class;" } : Jvm.MethodName)) ∈ lw_all := lw_g (lw_at lw_m4 138 rfl) rfl
theorem q1031 : (Jvm.Cond.selects "RoseGuild$Problem" ({ cls := "java/lang/Throwable", name := "getLocalizedMessage", desc := "()Ljava/lang/String;" } : Jvm.MethodName) ({ cls := "java/lang/Throwable", name := "getLocalizedMessage", desc := "()Ljava/lang/String;" } : Jvm.MethodName)) ∈ lw_all := lw_g (lw_at lw_m4 176 rfl) rfl
theorem q1044 : (Jvm.Cond.selects "RoseGuild$Problem" ({ cls := "java/lang/Throwable", name := "getMessage", desc := "()Ljava/lang/String;" } : Jvm.MethodName) ({ cls := "java/lang/Throwable", name := "getMessage", desc := "()Ljava/lang/String;" } : Jvm.MethodName)) ∈ lw_all := lw_g (lw_at lw_m4 189 rfl) rfl
theorem q1457 : (Jvm.Cond.selects "RoseGuild$Problem" ({ cls := "java/lang/Object", name := "hashCode", desc := "()I" } : Jvm.MethodName) ({ cls := "java/lang/Object", name := "hashCode", desc := "()I" } : Jvm.MethodName)) ∈ lw_all := lw_g (lw_at lw_m6 122 rfl) rfl
theorem q1873 : (Jvm.Cond.selects "RoseGuild$Problem" ({ cls := "java/lang/Object", name := "equals", desc := "(Ljava/lang/Object;)Z" } : Jvm.MethodName) ({ cls := "java/lang/Object", name := "equals", desc := "(Ljava/lang/Object;)Z" } : Jvm.MethodName)) ∈ lw_all := lw_g (lw_at lw_m8 58 rfl) rfl
theorem q2958 : (Jvm.Cond.static ({ cls := "RoseGuild$Problem", name := "unless", desc := "(ZLRoseGuild$Kind;)V" } : Jvm.MethodName)) ∈ lw_all := lw_g (lw_at lw_m12 183 rfl) rfl
theorem q2959 : (Jvm.Cond.code ({ cls := "RoseGuild$Problem", name := "unless", desc := "(ZLRoseGuild$Kind;)V" } : Jvm.MethodName) prog_13_method_3_code (2 : Nat) (Option.none : Option Jvm.ClassFile.FieldType)) ∈ lw_all := lw_g (lw_at lw_m12 184 rfl) rfl
theorem q2960 : (Jvm.Cond.classLink "RoseGuild$Problem" (8 : Nat) "RoseGuild$Problem") ∈ lw_all := lw_g (lw_at lw_m12 185 rfl) rfl
theorem q2961 : (Jvm.Cond.instantiable "RoseGuild$Problem" (7 : Nat)) ∈ lw_all := lw_g (lw_at lw_m12 186 rfl) rfl
theorem q2962 : (Jvm.Cond.castable "RoseGuild$Problem" "RoseGuild$Problem") ∈ lw_tbl := lw_at lw_m12 187 rfl
theorem q2963 : (Jvm.Cond.selects "RoseGuild$Problem" ({ cls := "java/lang/Throwable", name := "fillInStackTrace", desc := "(I)Ljava/lang/Throwable;" } : Jvm.MethodName) ({ cls := "java/lang/Throwable", name := "fillInStackTrace", desc := "(I)Ljava/lang/Throwable;" } : Jvm.MethodName)) ∈ lw_all := lw_g (lw_at lw_m12 188 rfl) rfl
theorem q2964 : (Jvm.Cond.lays "RoseGuild$Problem" "java/lang/Throwable" "cause" "Ljava/lang/Throwable;") ∈ lw_all := lw_g (lw_at lw_m12 189 rfl) rfl
theorem q2965 : (Jvm.Cond.lays "RoseGuild$Problem" "java/lang/Throwable" "stackTrace" "[Ljava/lang/StackTraceElement;") ∈ lw_all := lw_g (lw_at lw_m12 190 rfl) rfl
theorem q2966 : (Jvm.Cond.lays "RoseGuild$Problem" "java/lang/Throwable" "suppressedExceptions" "Ljava/util/List;") ∈ lw_all := lw_g (lw_at lw_m12 191 rfl) rfl
theorem q2967 : (Jvm.Cond.lays "RoseGuild$Problem" "java/lang/Throwable" "detailMessage" "Ljava/lang/String;") ∈ lw_all := lw_g (lw_at lw_m12 192 rfl) rfl
theorem q2968 : (Jvm.Cond.lays "RoseGuild$Problem" "java/lang/Throwable" "backtrace" "Ljava/lang/Object;") ∈ lw_all := lw_g (lw_at lw_m12 193 rfl) rfl
theorem q2969 : (Jvm.Cond.methodLink "RoseGuild$Problem" (33 : Nat) ({ cls := "RoseGuild$Problem", name := "<init>", desc := "(LRoseGuild$Kind;)V" } : Jvm.MethodName)) ∈ lw_all := lw_g (lw_at lw_m12 194 rfl) rfl
theorem q2970 : (Jvm.Cond.instanceMethod ({ cls := "RoseGuild$Problem", name := "<init>", desc := "(LRoseGuild$Kind;)V" } : Jvm.MethodName)) ∈ lw_all := lw_g (lw_at lw_m12 195 rfl) rfl
theorem q2971 : (Jvm.Cond.code ({ cls := "RoseGuild$Problem", name := "<init>", desc := "(LRoseGuild$Kind;)V" } : Jvm.MethodName) prog_13_method_1_code (2 : Nat) (Option.none : Option Jvm.ClassFile.FieldType)) ∈ lw_all := lw_g (lw_at lw_m12 196 rfl) rfl
theorem q2972 : (Jvm.Cond.methodLink "RoseGuild$Problem" (1 : Nat) ({ cls := "java/lang/Exception", name := "<init>", desc := "(Ljava/lang/String;Ljava/lang/Throwable;ZZ)V" } : Jvm.MethodName)) ∈ lw_all := lw_g (lw_at lw_m12 197 rfl) rfl
theorem q2973 : (Jvm.Cond.fieldLink "RoseGuild$Problem" (7 : Nat) "RoseGuild$Problem" "kind" "LRoseGuild$Kind;") ∈ lw_all := lw_g (lw_at lw_m12 198 rfl) rfl
theorem q2974 : (Jvm.Cond.laysFinal "RoseGuild$Problem" "RoseGuild$Problem" "kind" "LRoseGuild$Kind;") ∈ lw_all := lw_g (lw_at lw_m12 199 rfl) rfl
theorem q2975 : (Jvm.Cond.soleField "RoseGuild$Problem" "kind") ∈ lw_all := lw_g (lw_at lw_m12 200 rfl) rfl
theorem q2976 : (Jvm.Cond.lays "RoseGuild$Problem" "java/lang/Throwable" "depth" "I") ∈ lw_all := lw_g (lw_at lw_m12 201 rfl) rfl
theorem q2977 : (Jvm.Cond.superclass "RoseGuild$Problem" "java/lang/Exception") ∈ lw_all := lw_g (lw_at lw_m12 202 rfl) rfl
theorem q3559 : (Jvm.Cond.instanceMethod ({ cls := "RoseGuild$Problem", name := "toThrow", desc := "()Ljava/lang/RuntimeException;" } : Jvm.MethodName)) ∈ lw_all := lw_g (lw_at lw_m15 64 rfl) rfl
theorem q3560 : (Jvm.Cond.selects "RoseGuild$Problem" ({ cls := "RoseGuild$Problem", name := "toThrow", desc := "()Ljava/lang/RuntimeException;" } : Jvm.MethodName) ({ cls := "RoseGuild$Problem", name := "toThrow", desc := "()Ljava/lang/RuntimeException;" } : Jvm.MethodName)) ∈ lw_all := lw_g (lw_at lw_m15 65 rfl) rfl
theorem q3561 : (Jvm.Cond.code ({ cls := "RoseGuild$Problem", name := "toThrow", desc := "()Ljava/lang/RuntimeException;" } : Jvm.MethodName) prog_13_method_2_code (1 : Nat) (Option.some (Jvm.ClassFile.FieldType.object "java/lang/RuntimeException"))) ∈ lw_all := lw_g (lw_at lw_m15 66 rfl) rfl
theorem q3562 : (Jvm.Cond.methodLink "RoseGuild$Problem" (13 : Nat) ({ cls := "RoseGuild$Kind", name := "ordinal", desc := "()I" } : Jvm.MethodName)) ∈ lw_all := lw_g (lw_at lw_m15 67 rfl) rfl
theorem q3568 : (Jvm.Cond.classLink "RoseGuild$Problem" (19 : Nat) "java/lang/IncompatibleClassChangeError") ∈ lw_all := lw_g (lw_at lw_m15 73 rfl) rfl
theorem q3579 : (Jvm.Cond.methodLink "RoseGuild$Problem" (21 : Nat) ({ cls := "java/lang/IncompatibleClassChangeError", name := "<init>", desc := "()V" } : Jvm.MethodName)) ∈ lw_all := lw_g (lw_at lw_m15 84 rfl) rfl
theorem q3591 : (Jvm.Cond.classLink "RoseGuild$Problem" (24 : Nat) "java/lang/IndexOutOfBoundsException") ∈ lw_all := lw_g (lw_at lw_m15 96 rfl) rfl
theorem q3592 : (Jvm.Cond.methodLink "RoseGuild$Problem" (26 : Nat) ({ cls := "java/lang/IndexOutOfBoundsException", name := "<init>", desc := "()V" } : Jvm.MethodName)) ∈ lw_all := lw_g (lw_at lw_m15 97 rfl) rfl
theorem q3593 : (Jvm.Cond.classLink "RoseGuild$Problem" (27 : Nat) "java/lang/IllegalArgumentException") ∈ lw_all := lw_g (lw_at lw_m15 98 rfl) rfl
theorem q3594 : (Jvm.Cond.methodLink "RoseGuild$Problem" (29 : Nat) ({ cls := "java/lang/IllegalArgumentException", name := "<init>", desc := "()V" } : Jvm.MethodName)) ∈ lw_all := lw_g (lw_at lw_m15 99 rfl) rfl
theorem q3595 : (Jvm.Cond.classLink "RoseGuild$Problem" (30 : Nat) "java/lang/IllegalStateException") ∈ lw_all := lw_g (lw_at lw_m15 100 rfl) rfl
theorem q3596 : (Jvm.Cond.methodLink "RoseGuild$Problem" (32 : Nat) ({ cls := "java/lang/IllegalStateException", name := "<init>", desc := "()V" } : Jvm.MethodName)) ∈ lw_all := lw_g (lw_at lw_m15 101 rfl) rfl
theorem q4347 : (Jvm.Cond.selects "RoseGuild$Problem" ({ cls := "java/lang/Throwable", name := "toString", desc := "()Ljava/lang/String;" } : Jvm.MethodName) ({ cls := "java/lang/Throwable", name := "toString", desc := "()Ljava/lang/String;" } : Jvm.MethodName)) ∈ lw_all := lw_g (lw_at lw_m18 132 rfl) rfl
theorem q4370 : (Jvm.Cond.castable "RoseGuild$Problem" "java/lang/Throwable") ∈ lw_tbl := lw_at lw_m18 155 rfl
theorem q4422 : (Jvm.Cond.castable "RoseGuild$Problem" "java/lang/Object") ∈ lw_tbl := lw_at lw_m18 207 rfl
theorem in_X15 : ∀ w ∈ wsX150, w ∈ lw_all := lw_in wsX150 [2964, 2965, 2966, 2967, 2968, 2976, 2974] (by decide +kernel) (by decide +kernel)

/-! RoseGuild$Place -/
set_option maxRecDepth 100000
def RX16 : String := "RoseGuild$Place"
abbrev cX16_isNamed : ByteArray := prog_11_method_5_code
def yX16_isNamed : MethodName := ⟨RX16, "isNamed", "(Ljava/lang/String;)Z"⟩
def dkwX16_isNamed_0 : List UInt8 := [42, 185, 0, 26, 1, 0, 43, 182, 0, 30, 172]
abbrev dktX16_isNamed_0 : List UInt8 := dkwX16_isNamed_0 ++ []
theorem dksX16_isNamed_0 : cX16_isNamed.data.toList.drop 0 = dktX16_isNamed_0 := by decide +kernel
theorem dX16_isNamed_0 : decode cX16_isNamed 0 = .ok (.aload_n 0, 1) := dk_42 (dk_at dksX16_isNamed_0 0 rfl rfl)
theorem dX16_isNamed_1 : decode cX16_isNamed 1 = .ok (.invokeinterface 26 1, 5) := by decide +kernel
theorem dX16_isNamed_6 : decode cX16_isNamed 6 = .ok (.aload_n 1, 1) := dk_43 (dk_at dksX16_isNamed_0 6 rfl rfl)
theorem dX16_isNamed_7 : decode cX16_isNamed 7 = .ok (.invokevirtual 30, 3) := dk_182 0 30 (dk_at dksX16_isNamed_0 7 rfl rfl)
theorem dX16_isNamed_10 : decode cX16_isNamed 10 = .ok (.ireturn, 1) := dk_172 (dk_at dksX16_isNamed_0 10 rfl rfl)
abbrev cX16_between : ByteArray := prog_11_method_3_code
def yX16_between : MethodName := ⟨RX16, "between", "(LRoseGuild$Point;LRoseGuild$Point;)I"⟩
def dkwX16_between_1 : List UInt8 := [96, 172]
abbrev dktX16_between_1 : List UInt8 := dkwX16_between_1 ++ []
def dkwX16_between_0 : List UInt8 := [42, 180, 0, 1, 43, 180, 0, 1, 100, 184, 0, 7, 42, 180, 0, 13, 43, 180, 0, 13, 100, 184, 0, 7]
abbrev dktX16_between_0 : List UInt8 := dkwX16_between_0 ++ dktX16_between_1
theorem dksX16_between_0 : cX16_between.data.toList.drop 0 = dktX16_between_0 := by decide +kernel
theorem dksX16_between_1 : cX16_between.data.toList.drop 24 = dktX16_between_1 := dk_seg dksX16_between_0 24 rfl rfl
theorem dX16_between_0 : decode cX16_between 0 = .ok (.aload_n 0, 1) := dk_42 (dk_at dksX16_between_0 0 rfl rfl)
theorem dX16_between_1 : decode cX16_between 1 = .ok (.getfield 1, 3) := dk_180 0 1 (dk_at dksX16_between_0 1 rfl rfl)
theorem dX16_between_4 : decode cX16_between 4 = .ok (.aload_n 1, 1) := dk_43 (dk_at dksX16_between_0 4 rfl rfl)
theorem dX16_between_5 : decode cX16_between 5 = .ok (.getfield 1, 3) := dk_180 0 1 (dk_at dksX16_between_0 5 rfl rfl)
theorem dX16_between_8 : decode cX16_between 8 = .ok (.isub, 1) := dk_100 (dk_at dksX16_between_0 8 rfl rfl)
theorem dX16_between_9 : decode cX16_between 9 = .ok (.invokestatic 7, 3) := dk_184 0 7 (dk_at dksX16_between_0 9 rfl rfl)
theorem dX16_between_12 : decode cX16_between 12 = .ok (.aload_n 0, 1) := dk_42 (dk_at dksX16_between_0 12 rfl rfl)
theorem dX16_between_13 : decode cX16_between 13 = .ok (.getfield 13, 3) := dk_180 0 13 (dk_at dksX16_between_0 13 rfl rfl)
theorem dX16_between_16 : decode cX16_between 16 = .ok (.aload_n 1, 1) := dk_43 (dk_at dksX16_between_0 16 rfl rfl)
theorem dX16_between_17 : decode cX16_between 17 = .ok (.getfield 13, 3) := dk_180 0 13 (dk_at dksX16_between_0 17 rfl rfl)
theorem dX16_between_20 : decode cX16_between 20 = .ok (.isub, 1) := dk_100 (dk_at dksX16_between_0 20 rfl rfl)
theorem dX16_between_21 : decode cX16_between 21 = .ok (.invokestatic 7, 3) := dk_184 0 7 (dk_at dksX16_between_0 21 rfl rfl)
theorem dX16_between_24 : decode cX16_between 24 = .ok (.iadd, 1) := dk_96 (dk_at dksX16_between_1 0 rfl rfl)
theorem dX16_between_25 : decode cX16_between 25 = .ok (.ireturn, 1) := dk_172 (dk_at dksX16_between_1 1 rfl rfl)
abbrev cX16_distance : ByteArray := prog_11_method_4_code
def yX16_distance : MethodName := ⟨RX16, "distance", "(LRoseGuild$Place;)I"⟩
def dkwX16_distance_0 : List UInt8 := [42, 185, 0, 16, 1, 0, 43, 185, 0, 16, 1, 0, 184, 0, 22, 172]
abbrev dktX16_distance_0 : List UInt8 := dkwX16_distance_0 ++ []
theorem dksX16_distance_0 : cX16_distance.data.toList.drop 0 = dktX16_distance_0 := by decide +kernel
theorem dX16_distance_0 : decode cX16_distance 0 = .ok (.aload_n 0, 1) := dk_42 (dk_at dksX16_distance_0 0 rfl rfl)
theorem dX16_distance_1 : decode cX16_distance 1 = .ok (.invokeinterface 16 1, 5) := by decide +kernel
theorem dX16_distance_6 : decode cX16_distance 6 = .ok (.aload_n 1, 1) := dk_43 (dk_at dksX16_distance_0 6 rfl rfl)
theorem dX16_distance_7 : decode cX16_distance 7 = .ok (.invokeinterface 16 1, 5) := by decide +kernel
theorem dX16_distance_12 : decode cX16_distance 12 = .ok (.invokestatic 22, 3) := dk_184 0 22 (dk_at dksX16_distance_0 12 rfl rfl)
theorem dX16_distance_15 : decode cX16_distance 15 = .ok (.ireturn, 1) := dk_172 (dk_at dksX16_distance_0 15 rfl rfl)
abbrev cX16_distanceInDirection : ByteArray := prog_11_method_6_code
def yX16_distanceInDirection : MethodName := ⟨RX16, "distanceInDirection", "(LRoseGuild$Place;I)I"⟩
def dkwX16_distanceInDirection_5 : List UInt8 := [3, 167, 0, 18, 21, 4, 154, 0, 12, 3, 29, 116, 184, 0, 36, 167, 0, 4, 3, 172]
abbrev dktX16_distanceInDirection_5 : List UInt8 := dkwX16_distanceInDirection_5 ++ []
def dkwX16_distanceInDirection_4 : List UInt8 := [29, 184, 0, 36, 167, 0, 39, 3, 167, 0, 35, 29, 154, 0, 12, 3, 21, 4, 184, 0, 36, 167, 0, 22]
abbrev dktX16_distanceInDirection_4 : List UInt8 := dkwX16_distanceInDirection_4 ++ dktX16_distanceInDirection_5
def dkwX16_distanceInDirection_3 : List UInt8 := [29, 154, 0, 13, 3, 21, 4, 116, 184, 0, 36, 167, 0, 56, 3, 167, 0, 52, 21, 4, 154, 0, 11, 3]
abbrev dktX16_distanceInDirection_3 : List UInt8 := dkwX16_distanceInDirection_3 ++ dktX16_distanceInDirection_4
def dkwX16_distanceInDirection_2 : List UInt8 := [170, 0, 0, 0, 0, 78, 0, 0, 0, 0, 0, 0, 0, 2, 0, 0, 0, 26, 0, 0, 0, 44, 0, 0, 0, 61]
abbrev dktX16_distanceInDirection_2 : List UInt8 := dkwX16_distanceInDirection_2 ++ dktX16_distanceInDirection_3
def dkwX16_distanceInDirection_1 : List UInt8 := [185, 0, 16, 1, 0, 180, 0, 13, 42, 185, 0, 16, 1, 0, 180, 0, 13, 100, 54, 4, 28]
abbrev dktX16_distanceInDirection_1 : List UInt8 := dkwX16_distanceInDirection_1 ++ dktX16_distanceInDirection_2
def dkwX16_distanceInDirection_0 : List UInt8 := [43, 185, 0, 16, 1, 0, 180, 0, 1, 42, 185, 0, 16, 1, 0, 180, 0, 1, 100, 62, 43]
abbrev dktX16_distanceInDirection_0 : List UInt8 := dkwX16_distanceInDirection_0 ++ dktX16_distanceInDirection_1
theorem dksX16_distanceInDirection_0 : cX16_distanceInDirection.data.toList.drop 0 = dktX16_distanceInDirection_0 := by decide +kernel
theorem dksX16_distanceInDirection_1 : cX16_distanceInDirection.data.toList.drop 21 = dktX16_distanceInDirection_1 := dk_seg dksX16_distanceInDirection_0 21 rfl rfl
theorem dksX16_distanceInDirection_2 : cX16_distanceInDirection.data.toList.drop 42 = dktX16_distanceInDirection_2 := dk_seg dksX16_distanceInDirection_1 21 rfl rfl
theorem dksX16_distanceInDirection_3 : cX16_distanceInDirection.data.toList.drop 68 = dktX16_distanceInDirection_3 := dk_seg dksX16_distanceInDirection_2 26 rfl rfl
theorem dksX16_distanceInDirection_4 : cX16_distanceInDirection.data.toList.drop 92 = dktX16_distanceInDirection_4 := dk_seg dksX16_distanceInDirection_3 24 rfl rfl
theorem dksX16_distanceInDirection_5 : cX16_distanceInDirection.data.toList.drop 116 = dktX16_distanceInDirection_5 := dk_seg dksX16_distanceInDirection_4 24 rfl rfl
theorem dX16_distanceInDirection_0 : decode cX16_distanceInDirection 0 = .ok (.aload_n 1, 1) := dk_43 (dk_at dksX16_distanceInDirection_0 0 rfl rfl)
theorem dX16_distanceInDirection_1 : decode cX16_distanceInDirection 1 = .ok (.invokeinterface 16 1, 5) := by decide +kernel
theorem dX16_distanceInDirection_6 : decode cX16_distanceInDirection 6 = .ok (.getfield 1, 3) := dk_180 0 1 (dk_at dksX16_distanceInDirection_0 6 rfl rfl)
theorem dX16_distanceInDirection_9 : decode cX16_distanceInDirection 9 = .ok (.aload_n 0, 1) := dk_42 (dk_at dksX16_distanceInDirection_0 9 rfl rfl)
theorem dX16_distanceInDirection_10 : decode cX16_distanceInDirection 10 = .ok (.invokeinterface 16 1, 5) := by decide +kernel
theorem dX16_distanceInDirection_15 : decode cX16_distanceInDirection 15 = .ok (.getfield 1, 3) := dk_180 0 1 (dk_at dksX16_distanceInDirection_0 15 rfl rfl)
theorem dX16_distanceInDirection_18 : decode cX16_distanceInDirection 18 = .ok (.isub, 1) := dk_100 (dk_at dksX16_distanceInDirection_0 18 rfl rfl)
theorem dX16_distanceInDirection_19 : decode cX16_distanceInDirection 19 = .ok (.istore_n 3, 1) := dk_62 (dk_at dksX16_distanceInDirection_0 19 rfl rfl)
theorem dX16_distanceInDirection_20 : decode cX16_distanceInDirection 20 = .ok (.aload_n 1, 1) := dk_43 (dk_at dksX16_distanceInDirection_0 20 rfl rfl)
theorem dX16_distanceInDirection_21 : decode cX16_distanceInDirection 21 = .ok (.invokeinterface 16 1, 5) := by decide +kernel
theorem dX16_distanceInDirection_26 : decode cX16_distanceInDirection 26 = .ok (.getfield 13, 3) := dk_180 0 13 (dk_at dksX16_distanceInDirection_1 5 rfl rfl)
theorem dX16_distanceInDirection_29 : decode cX16_distanceInDirection 29 = .ok (.aload_n 0, 1) := dk_42 (dk_at dksX16_distanceInDirection_1 8 rfl rfl)
theorem dX16_distanceInDirection_30 : decode cX16_distanceInDirection 30 = .ok (.invokeinterface 16 1, 5) := by decide +kernel
theorem dX16_distanceInDirection_35 : decode cX16_distanceInDirection 35 = .ok (.getfield 13, 3) := dk_180 0 13 (dk_at dksX16_distanceInDirection_1 14 rfl rfl)
theorem dX16_distanceInDirection_38 : decode cX16_distanceInDirection 38 = .ok (.isub, 1) := dk_100 (dk_at dksX16_distanceInDirection_1 17 rfl rfl)
theorem dX16_distanceInDirection_39 : decode cX16_distanceInDirection 39 = .ok (.istore 4, 2) := dk_54 4 (dk_at dksX16_distanceInDirection_1 18 rfl rfl)
theorem dX16_distanceInDirection_41 : decode cX16_distanceInDirection 41 = .ok (.iload_n 2, 1) := dk_28 (dk_at dksX16_distanceInDirection_1 20 rfl rfl)
theorem dX16_distanceInDirection_42 : decode cX16_distanceInDirection 42 = .ok (.tableswitch 78 0 2 #[26, 44, 61], 26) := by decide +kernel
theorem dX16_distanceInDirection_68 : decode cX16_distanceInDirection 68 = .ok (.iload_n 3, 1) := dk_29 (dk_at dksX16_distanceInDirection_3 0 rfl rfl)
theorem dX16_distanceInDirection_69 : decode cX16_distanceInDirection 69 = .ok (.ifCond .ne 13, 3) := dk_154 0 13 (dk_at dksX16_distanceInDirection_3 1 rfl rfl)
theorem dX16_distanceInDirection_72 : decode cX16_distanceInDirection 72 = .ok (.iconst 0, 1) := dk_3 (dk_at dksX16_distanceInDirection_3 4 rfl rfl)
theorem dX16_distanceInDirection_73 : decode cX16_distanceInDirection 73 = .ok (.iload 4, 2) := dk_21 4 (dk_at dksX16_distanceInDirection_3 5 rfl rfl)
theorem dX16_distanceInDirection_75 : decode cX16_distanceInDirection 75 = .ok (.ineg, 1) := dk_116 (dk_at dksX16_distanceInDirection_3 7 rfl rfl)
theorem dX16_distanceInDirection_76 : decode cX16_distanceInDirection 76 = .ok (.invokestatic 36, 3) := dk_184 0 36 (dk_at dksX16_distanceInDirection_3 8 rfl rfl)
theorem dX16_distanceInDirection_79 : decode cX16_distanceInDirection 79 = .ok (.goto 56, 3) := dk_167 0 56 (dk_at dksX16_distanceInDirection_3 11 rfl rfl)
theorem dX16_distanceInDirection_82 : decode cX16_distanceInDirection 82 = .ok (.iconst 0, 1) := dk_3 (dk_at dksX16_distanceInDirection_3 14 rfl rfl)
theorem dX16_distanceInDirection_83 : decode cX16_distanceInDirection 83 = .ok (.goto 52, 3) := dk_167 0 52 (dk_at dksX16_distanceInDirection_3 15 rfl rfl)
theorem dX16_distanceInDirection_86 : decode cX16_distanceInDirection 86 = .ok (.iload 4, 2) := dk_21 4 (dk_at dksX16_distanceInDirection_3 18 rfl rfl)
theorem dX16_distanceInDirection_88 : decode cX16_distanceInDirection 88 = .ok (.ifCond .ne 11, 3) := dk_154 0 11 (dk_at dksX16_distanceInDirection_3 20 rfl rfl)
theorem dX16_distanceInDirection_91 : decode cX16_distanceInDirection 91 = .ok (.iconst 0, 1) := dk_3 (dk_at dksX16_distanceInDirection_3 23 rfl rfl)
theorem dX16_distanceInDirection_92 : decode cX16_distanceInDirection 92 = .ok (.iload_n 3, 1) := dk_29 (dk_at dksX16_distanceInDirection_4 0 rfl rfl)
theorem dX16_distanceInDirection_93 : decode cX16_distanceInDirection 93 = .ok (.invokestatic 36, 3) := dk_184 0 36 (dk_at dksX16_distanceInDirection_4 1 rfl rfl)
theorem dX16_distanceInDirection_96 : decode cX16_distanceInDirection 96 = .ok (.goto 39, 3) := dk_167 0 39 (dk_at dksX16_distanceInDirection_4 4 rfl rfl)
theorem dX16_distanceInDirection_99 : decode cX16_distanceInDirection 99 = .ok (.iconst 0, 1) := dk_3 (dk_at dksX16_distanceInDirection_4 7 rfl rfl)
theorem dX16_distanceInDirection_100 : decode cX16_distanceInDirection 100 = .ok (.goto 35, 3) := dk_167 0 35 (dk_at dksX16_distanceInDirection_4 8 rfl rfl)
theorem dX16_distanceInDirection_103 : decode cX16_distanceInDirection 103 = .ok (.iload_n 3, 1) := dk_29 (dk_at dksX16_distanceInDirection_4 11 rfl rfl)
theorem dX16_distanceInDirection_104 : decode cX16_distanceInDirection 104 = .ok (.ifCond .ne 12, 3) := dk_154 0 12 (dk_at dksX16_distanceInDirection_4 12 rfl rfl)
theorem dX16_distanceInDirection_107 : decode cX16_distanceInDirection 107 = .ok (.iconst 0, 1) := dk_3 (dk_at dksX16_distanceInDirection_4 15 rfl rfl)
theorem dX16_distanceInDirection_108 : decode cX16_distanceInDirection 108 = .ok (.iload 4, 2) := dk_21 4 (dk_at dksX16_distanceInDirection_4 16 rfl rfl)
theorem dX16_distanceInDirection_110 : decode cX16_distanceInDirection 110 = .ok (.invokestatic 36, 3) := dk_184 0 36 (dk_at dksX16_distanceInDirection_4 18 rfl rfl)
theorem dX16_distanceInDirection_113 : decode cX16_distanceInDirection 113 = .ok (.goto 22, 3) := dk_167 0 22 (dk_at dksX16_distanceInDirection_4 21 rfl rfl)
theorem dX16_distanceInDirection_116 : decode cX16_distanceInDirection 116 = .ok (.iconst 0, 1) := dk_3 (dk_at dksX16_distanceInDirection_5 0 rfl rfl)
theorem dX16_distanceInDirection_117 : decode cX16_distanceInDirection 117 = .ok (.goto 18, 3) := dk_167 0 18 (dk_at dksX16_distanceInDirection_5 1 rfl rfl)
theorem dX16_distanceInDirection_120 : decode cX16_distanceInDirection 120 = .ok (.iload 4, 2) := dk_21 4 (dk_at dksX16_distanceInDirection_5 4 rfl rfl)
theorem dX16_distanceInDirection_122 : decode cX16_distanceInDirection 122 = .ok (.ifCond .ne 12, 3) := dk_154 0 12 (dk_at dksX16_distanceInDirection_5 6 rfl rfl)
theorem dX16_distanceInDirection_125 : decode cX16_distanceInDirection 125 = .ok (.iconst 0, 1) := dk_3 (dk_at dksX16_distanceInDirection_5 9 rfl rfl)
theorem dX16_distanceInDirection_126 : decode cX16_distanceInDirection 126 = .ok (.iload_n 3, 1) := dk_29 (dk_at dksX16_distanceInDirection_5 10 rfl rfl)
theorem dX16_distanceInDirection_127 : decode cX16_distanceInDirection 127 = .ok (.ineg, 1) := dk_116 (dk_at dksX16_distanceInDirection_5 11 rfl rfl)
theorem dX16_distanceInDirection_128 : decode cX16_distanceInDirection 128 = .ok (.invokestatic 36, 3) := dk_184 0 36 (dk_at dksX16_distanceInDirection_5 12 rfl rfl)
theorem dX16_distanceInDirection_131 : decode cX16_distanceInDirection 131 = .ok (.goto 4, 3) := dk_167 0 4 (dk_at dksX16_distanceInDirection_5 15 rfl rfl)
theorem dX16_distanceInDirection_134 : decode cX16_distanceInDirection 134 = .ok (.iconst 0, 1) := dk_3 (dk_at dksX16_distanceInDirection_5 18 rfl rfl)
theorem dX16_distanceInDirection_135 : decode cX16_distanceInDirection 135 = .ok (.ireturn, 1) := dk_172 (dk_at dksX16_distanceInDirection_5 19 rfl rfl)
theorem q204 : (Jvm.Cond.initialized "RoseGuild$Place") ∈ lw_all := lw_g (lw_at lw_m1 69 rfl) rfl
theorem q1302 : (Jvm.Cond.fieldLinkNest "RoseGuild$Place" (1 : Nat) "RoseGuild$Point" "column" "I" "RoseGuild") ∈ lw_tbl := lw_at lw_m5 207 rfl
theorem q1304 : (Jvm.Cond.fieldLinkNest "RoseGuild$Place" (13 : Nat) "RoseGuild$Point" "row" "I" "RoseGuild") ∈ lw_tbl := lw_at lw_m5 209 rfl
theorem q2351 : (Jvm.Cond.interfaceMethod "RoseGuild$Place" "RoseGuild$Place" "isNamed" "(Ljava/lang/String;)Z") ∈ lw_tbl := lw_at lw_m10 56 rfl
theorem q2352 : (Jvm.Cond.declares ({ cls := "RoseGuild$Place", name := "isNamed", desc := "(Ljava/lang/String;)Z" } : Jvm.MethodName)) ∈ lw_tbl := lw_at lw_m10 57 rfl
theorem q2355 : (Jvm.Cond.instanceMethod ({ cls := "RoseGuild$Place", name := "isNamed", desc := "(Ljava/lang/String;)Z" } : Jvm.MethodName)) ∈ lw_all := lw_g (lw_at lw_m10 60 rfl) rfl
theorem q2356 : (Jvm.Cond.publicMethod ({ cls := "RoseGuild$Place", name := "isNamed", desc := "(Ljava/lang/String;)Z" } : Jvm.MethodName)) ∈ lw_tbl := lw_at lw_m10 61 rfl
theorem q2357 : (Jvm.Cond.code ({ cls := "RoseGuild$Place", name := "isNamed", desc := "(Ljava/lang/String;)Z" } : Jvm.MethodName) prog_11_method_5_code (2 : Nat) (Option.some Jvm.ClassFile.FieldType.boolean)) ∈ lw_all := lw_g (lw_at lw_m10 62 rfl) rfl
theorem q2358 : (Jvm.Cond.interfaceEntry "RoseGuild$Place" (26 : Nat)) ∈ lw_tbl := lw_at lw_m10 63 rfl
theorem q2359 : (Jvm.Cond.methodLink "RoseGuild$Place" (26 : Nat) ({ cls := "RoseGuild$Place", name := "name", desc := "()Ljava/lang/String;" } : Jvm.MethodName)) ∈ lw_all := lw_g (lw_at lw_m10 64 rfl) rfl
theorem q2360 : (Jvm.Cond.interfaceMethod "RoseGuild$Place" "RoseGuild$Place" "name" "()Ljava/lang/String;") ∈ lw_tbl := lw_at lw_m10 65 rfl
theorem q2361 : (Jvm.Cond.declares ({ cls := "RoseGuild$Place", name := "name", desc := "()Ljava/lang/String;" } : Jvm.MethodName)) ∈ lw_tbl := lw_at lw_m10 66 rfl
theorem q2373 : (Jvm.Cond.methodLink "RoseGuild$Place" (30 : Nat) ({ cls := "java/lang/String", name := "equals", desc := "(Ljava/lang/Object;)Z" } : Jvm.MethodName)) ∈ lw_all := lw_g (lw_at lw_m10 78 rfl) rfl
theorem q2994 : (Jvm.Cond.interfaceMethod "RoseGuild$Place" "RoseGuild$Place" "point" "()LRoseGuild$Point;") ∈ lw_tbl := lw_at lw_m12 219 rfl
theorem q2995 : (Jvm.Cond.declares ({ cls := "RoseGuild$Place", name := "point", desc := "()LRoseGuild$Point;" } : Jvm.MethodName)) ∈ lw_tbl := lw_at lw_m12 220 rfl
theorem q3007 : (Jvm.Cond.static ({ cls := "RoseGuild$Place", name := "between", desc := "(LRoseGuild$Point;LRoseGuild$Point;)I" } : Jvm.MethodName)) ∈ lw_all := lw_g (lw_at lw_m12 232 rfl) rfl
theorem q3008 : (Jvm.Cond.code ({ cls := "RoseGuild$Place", name := "between", desc := "(LRoseGuild$Point;LRoseGuild$Point;)I" } : Jvm.MethodName) prog_11_method_3_code (2 : Nat) (Option.some Jvm.ClassFile.FieldType.int)) ∈ lw_all := lw_g (lw_at lw_m12 233 rfl) rfl
theorem q3009 : (Jvm.Cond.methodLink "RoseGuild$Place" (7 : Nat) ({ cls := "java/lang/Math", name := "abs", desc := "(I)I" } : Jvm.MethodName)) ∈ lw_all := lw_g (lw_at lw_m12 234 rfl) rfl
theorem q3014 : (Jvm.Cond.interfaceMethod "RoseGuild$Place" "RoseGuild$Place" "distance" "(LRoseGuild$Place;)I") ∈ lw_tbl := lw_at lw_m12 239 rfl
theorem q3015 : (Jvm.Cond.declares ({ cls := "RoseGuild$Place", name := "distance", desc := "(LRoseGuild$Place;)I" } : Jvm.MethodName)) ∈ lw_tbl := lw_at lw_m13 0 rfl
theorem q3017 : (Jvm.Cond.instanceMethod ({ cls := "RoseGuild$Place", name := "distance", desc := "(LRoseGuild$Place;)I" } : Jvm.MethodName)) ∈ lw_all := lw_g (lw_at lw_m13 2 rfl) rfl
theorem q3018 : (Jvm.Cond.publicMethod ({ cls := "RoseGuild$Place", name := "distance", desc := "(LRoseGuild$Place;)I" } : Jvm.MethodName)) ∈ lw_tbl := lw_at lw_m13 3 rfl
theorem q3019 : (Jvm.Cond.code ({ cls := "RoseGuild$Place", name := "distance", desc := "(LRoseGuild$Place;)I" } : Jvm.MethodName) prog_11_method_4_code (2 : Nat) (Option.some Jvm.ClassFile.FieldType.int)) ∈ lw_all := lw_g (lw_at lw_m13 4 rfl) rfl
theorem q3020 : (Jvm.Cond.interfaceEntry "RoseGuild$Place" (16 : Nat)) ∈ lw_tbl := lw_at lw_m13 5 rfl
theorem q3021 : (Jvm.Cond.methodLink "RoseGuild$Place" (16 : Nat) ({ cls := "RoseGuild$Place", name := "point", desc := "()LRoseGuild$Point;" } : Jvm.MethodName)) ∈ lw_all := lw_g (lw_at lw_m13 6 rfl) rfl
theorem q3022 : (Jvm.Cond.methodLink "RoseGuild$Place" (22 : Nat) ({ cls := "RoseGuild$Place", name := "between", desc := "(LRoseGuild$Point;LRoseGuild$Point;)I" } : Jvm.MethodName)) ∈ lw_all := lw_g (lw_at lw_m13 7 rfl) rfl
theorem q3125 : (Jvm.Cond.declares ({ cls := "RoseGuild$Place", name := "distanceInDirection", desc := "(LRoseGuild$Place;I)I" } : Jvm.MethodName)) ∈ lw_tbl := lw_at lw_m13 110 rfl
theorem q3127 : (Jvm.Cond.instanceMethod ({ cls := "RoseGuild$Place", name := "distanceInDirection", desc := "(LRoseGuild$Place;I)I" } : Jvm.MethodName)) ∈ lw_all := lw_g (lw_at lw_m13 112 rfl) rfl
theorem q3128 : (Jvm.Cond.publicMethod ({ cls := "RoseGuild$Place", name := "distanceInDirection", desc := "(LRoseGuild$Place;I)I" } : Jvm.MethodName)) ∈ lw_tbl := lw_at lw_m13 113 rfl
theorem q3129 : (Jvm.Cond.code ({ cls := "RoseGuild$Place", name := "distanceInDirection", desc := "(LRoseGuild$Place;I)I" } : Jvm.MethodName) prog_11_method_6_code (5 : Nat) (Option.some Jvm.ClassFile.FieldType.int)) ∈ lw_all := lw_g (lw_at lw_m13 114 rfl) rfl
theorem q3130 : (Jvm.Cond.methodLink "RoseGuild$Place" (36 : Nat) ({ cls := "java/lang/Math", name := "max", desc := "(II)I" } : Jvm.MethodName)) ∈ lw_all := lw_g (lw_at lw_m13 115 rfl) rfl

/-! RoseGuild$Delivery -/
set_option maxRecDepth 100000
def RX17 : String := "RoseGuild$Delivery"
def TX17 : u_T := fun k => match k with
  | 0 => ("RoseGuild$Delivery", "night", "I", true)
  | 1 => ("RoseGuild$Delivery", "cart", "I", true)
  | 2 => ("RoseGuild$Delivery", "load", "I", true)
  | _ => ("RoseGuild$Delivery", "isLate", "Z", true)
def tyX17 : Nat → FieldType := fun k => match k with
  | 0 => .int
  | 1 => .int
  | 2 => .int
  | _ => .boolean
abbrev wsX170 : List Cond := u_ws RX17 TX17 4
theorem nmX17 : ∀ a, a < 4 → ∀ b, b < 4 → a ≠ b → (TX17 a).2.1 ≠ (TX17 b).2.1 := by decide +kernel
theorem tyX17_ok : ∀ k, k < 4 → parseFieldDescriptor (TX17 k).2.2.1 = some (tyX17 k) := by decide +kernel
abbrev cX17_init : ByteArray := prog_6_method_1_code
def yX17_init : MethodName := ⟨RX17, "<init>", "(IIIZ)V"⟩
def dkwX17_init_1 : List UInt8 := [181, 0, 19, 177]
abbrev dktX17_init_1 : List UInt8 := dkwX17_init_1 ++ []
def dkwX17_init_0 : List UInt8 := [42, 183, 0, 1, 42, 27, 181, 0, 7, 42, 28, 181, 0, 13, 42, 29, 181, 0, 16, 42, 21, 4]
abbrev dktX17_init_0 : List UInt8 := dkwX17_init_0 ++ dktX17_init_1
theorem dksX17_init_0 : cX17_init.data.toList.drop 0 = dktX17_init_0 := by decide +kernel
theorem dksX17_init_1 : cX17_init.data.toList.drop 22 = dktX17_init_1 := dk_seg dksX17_init_0 22 rfl rfl
theorem dX17_init_0 : decode cX17_init 0 = .ok (.aload_n 0, 1) := dk_42 (dk_at dksX17_init_0 0 rfl rfl)
theorem dX17_init_1 : decode cX17_init 1 = .ok (.invokespecial 1, 3) := dk_183 0 1 (dk_at dksX17_init_0 1 rfl rfl)
theorem dX17_init_4 : decode cX17_init 4 = .ok (.aload_n 0, 1) := dk_42 (dk_at dksX17_init_0 4 rfl rfl)
theorem dX17_init_5 : decode cX17_init 5 = .ok (.iload_n 1, 1) := dk_27 (dk_at dksX17_init_0 5 rfl rfl)
theorem dX17_init_6 : decode cX17_init 6 = .ok (.putfield 7, 3) := dk_181 0 7 (dk_at dksX17_init_0 6 rfl rfl)
theorem dX17_init_9 : decode cX17_init 9 = .ok (.aload_n 0, 1) := dk_42 (dk_at dksX17_init_0 9 rfl rfl)
theorem dX17_init_10 : decode cX17_init 10 = .ok (.iload_n 2, 1) := dk_28 (dk_at dksX17_init_0 10 rfl rfl)
theorem dX17_init_11 : decode cX17_init 11 = .ok (.putfield 13, 3) := dk_181 0 13 (dk_at dksX17_init_0 11 rfl rfl)
theorem dX17_init_14 : decode cX17_init 14 = .ok (.aload_n 0, 1) := dk_42 (dk_at dksX17_init_0 14 rfl rfl)
theorem dX17_init_15 : decode cX17_init 15 = .ok (.iload_n 3, 1) := dk_29 (dk_at dksX17_init_0 15 rfl rfl)
theorem dX17_init_16 : decode cX17_init 16 = .ok (.putfield 16, 3) := dk_181 0 16 (dk_at dksX17_init_0 16 rfl rfl)
theorem dX17_init_19 : decode cX17_init 19 = .ok (.aload_n 0, 1) := dk_42 (dk_at dksX17_init_0 19 rfl rfl)
theorem dX17_init_20 : decode cX17_init 20 = .ok (.iload 4, 2) := dk_21 4 (dk_at dksX17_init_0 20 rfl rfl)
theorem dX17_init_22 : decode cX17_init 22 = .ok (.putfield 19, 3) := dk_181 0 19 (dk_at dksX17_init_1 0 rfl rfl)
theorem dX17_init_25 : decode cX17_init 25 = .ok (.return_, 1) := dk_177 (dk_at dksX17_init_1 3 rfl rfl)
theorem q205 : (Jvm.Cond.initialized "RoseGuild$Delivery") ∈ lw_all := lw_g (lw_at lw_m1 70 rfl) rfl
theorem q971 : (Jvm.Cond.selects "RoseGuild$Delivery" ({ cls := "java/lang/Object", name := "toString", desc := "()Ljava/lang/String;" } : Jvm.MethodName) ({ cls := "java/lang/Object", name := "toString", desc := "()Ljava/lang/String;" } : Jvm.MethodName)) ∈ lw_all := lw_g (lw_at lw_m4 116 rfl) rfl
theorem q988 : (Jvm.Cond.selects "RoseGuild$Delivery" ({ cls := "java/lang/Object", name := "getClass", desc := "()Ljava/lang/Class;" } : Jvm.MethodName) ({ cls := "java/lang/Object", name := "getClass", desc := "()Ljava/lang/Class;" } : Jvm.MethodName)) ∈ lw_all := lw_g (lw_at lw_m4 133 rfl) rfl
theorem q1445 : (Jvm.Cond.selects "RoseGuild$Delivery" ({ cls := "java/lang/Object", name := "hashCode", desc := "()I" } : Jvm.MethodName) ({ cls := "java/lang/Object", name := "hashCode", desc := "()I" } : Jvm.MethodName)) ∈ lw_all := lw_g (lw_at lw_m6 110 rfl) rfl
theorem q1863 : (Jvm.Cond.selects "RoseGuild$Delivery" ({ cls := "java/lang/Object", name := "equals", desc := "(Ljava/lang/Object;)Z" } : Jvm.MethodName) ({ cls := "java/lang/Object", name := "equals", desc := "(Ljava/lang/Object;)Z" } : Jvm.MethodName)) ∈ lw_all := lw_g (lw_at lw_m8 48 rfl) rfl
theorem q3076 : (Jvm.Cond.instantiable "RoseGuild$Delivery" (4 : Nat)) ∈ lw_all := lw_g (lw_at lw_m13 61 rfl) rfl
theorem q3078 : (Jvm.Cond.instanceMethod ({ cls := "RoseGuild$Delivery", name := "<init>", desc := "(IIIZ)V" } : Jvm.MethodName)) ∈ lw_all := lw_g (lw_at lw_m13 63 rfl) rfl
theorem q3079 : (Jvm.Cond.code ({ cls := "RoseGuild$Delivery", name := "<init>", desc := "(IIIZ)V" } : Jvm.MethodName) prog_6_method_1_code (5 : Nat) (Option.none : Option Jvm.ClassFile.FieldType)) ∈ lw_all := lw_g (lw_at lw_m13 64 rfl) rfl
theorem q3080 : (Jvm.Cond.methodLink "RoseGuild$Delivery" (1 : Nat) ({ cls := "java/lang/Object", name := "<init>", desc := "()V" } : Jvm.MethodName)) ∈ lw_all := lw_g (lw_at lw_m13 65 rfl) rfl
theorem q3081 : (Jvm.Cond.fieldLink "RoseGuild$Delivery" (7 : Nat) "RoseGuild$Delivery" "night" "I") ∈ lw_all := lw_g (lw_at lw_m13 66 rfl) rfl
theorem q3083 : (Jvm.Cond.fieldLink "RoseGuild$Delivery" (13 : Nat) "RoseGuild$Delivery" "cart" "I") ∈ lw_all := lw_g (lw_at lw_m13 68 rfl) rfl
theorem q3085 : (Jvm.Cond.fieldLink "RoseGuild$Delivery" (16 : Nat) "RoseGuild$Delivery" "load" "I") ∈ lw_all := lw_g (lw_at lw_m13 70 rfl) rfl
theorem q3087 : (Jvm.Cond.fieldLink "RoseGuild$Delivery" (19 : Nat) "RoseGuild$Delivery" "isLate" "Z") ∈ lw_all := lw_g (lw_at lw_m13 72 rfl) rfl
theorem q3089 : (Jvm.Cond.laysFinal "RoseGuild$Delivery" "RoseGuild$Delivery" "night" "I") ∈ lw_all := lw_g (lw_at lw_m13 74 rfl) rfl
theorem q3090 : (Jvm.Cond.soleField "RoseGuild$Delivery" "night") ∈ lw_all := lw_g (lw_at lw_m13 75 rfl) rfl
theorem q3091 : (Jvm.Cond.laysFinal "RoseGuild$Delivery" "RoseGuild$Delivery" "cart" "I") ∈ lw_all := lw_g (lw_at lw_m13 76 rfl) rfl
theorem q3092 : (Jvm.Cond.soleField "RoseGuild$Delivery" "cart") ∈ lw_all := lw_g (lw_at lw_m13 77 rfl) rfl
theorem q3093 : (Jvm.Cond.laysFinal "RoseGuild$Delivery" "RoseGuild$Delivery" "load" "I") ∈ lw_all := lw_g (lw_at lw_m13 78 rfl) rfl
theorem q3094 : (Jvm.Cond.soleField "RoseGuild$Delivery" "load") ∈ lw_all := lw_g (lw_at lw_m13 79 rfl) rfl
theorem q3095 : (Jvm.Cond.laysFinal "RoseGuild$Delivery" "RoseGuild$Delivery" "isLate" "Z") ∈ lw_all := lw_g (lw_at lw_m13 80 rfl) rfl
theorem q3096 : (Jvm.Cond.soleField "RoseGuild$Delivery" "isLate") ∈ lw_all := lw_g (lw_at lw_m13 81 rfl) rfl
theorem q3097 : (Jvm.Cond.superclass "RoseGuild$Delivery" "java/lang/Object") ∈ lw_all := lw_g (lw_at lw_m13 82 rfl) rfl
theorem q4423 : (Jvm.Cond.castable "RoseGuild$Delivery" "java/lang/Object") ∈ lw_tbl := lw_at lw_m18 208 rfl
theorem in_X17 : ∀ w ∈ wsX170, w ∈ lw_all := lw_in wsX170 [3089, 3091, 3093, 3095] (by decide +kernel) (by decide +kernel)

