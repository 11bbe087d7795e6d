/-! DECODE ROWS BY BYTES: one lemma an opcode; a method's code is cut into short pieces once, and a row reads its own piece alone. -/
set_option maxRecDepth 100000
/-- the code has just these bytes from pc on -/
def DkAt (code : ByteArray) (pc : Nat) (bs : List UInt8) : Prop := ∀ (j : Nat) (b : UInt8), bs[j]? = some b → code.data.toList[pc + j]? = some b
/-- the piece W has the bytes bs from its place j on -/
def dkIn (W : List UInt8) (j : Nat) (bs : List UInt8) : Bool := decide ((W.drop j).take bs.length = bs)
theorem dk_seg {l W T : List UInt8} {o o2 : Nat} (h : l.drop o = W ++ T) (n : Nat) (hn : W.length = n) (ho : o + n = o2) : l.drop o2 = T := by
  subst ho
  rw [← List.drop_drop, h, List.drop_left' hn]
theorem dk_at {code : ByteArray} {W T bs : List UInt8} {o pc : Nat} (h : code.data.toList.drop o = W ++ T) (j : Nat) (hp : o + j = pc) (hw : dkIn W j bs = true) : DkAt code pc bs := by
  subst hp
  intro i b e
  have h1 := of_decide_eq_true hw
  have h2 : i < bs.length := (List.getElem?_eq_some_iff.mp e).1
  have h3 : W[j + i]? = some b := by
    rw [← h1, List.getElem?_take, if_pos h2, List.getElem?_drop] at e
    exact e
  have h4 : j + i < W.length := (List.getElem?_eq_some_iff.mp h3).1
  have h5 : (code.data.toList.drop o)[j + i]? = some b := by
    rw [h, List.getElem?_append_left h4]
    exact h3
  rw [List.getElem?_drop, ← Nat.add_assoc] at h5
  exact h5
theorem dk_u1 {A : ByteArray} {p : Nat} {b : UInt8} (h : A.data.toList[p]? = some b) : (Reader.u1 : Reader DecodeError Nat) A p = .ok (b.toNat, p + 1) := by
  obtain ⟨h1, h2⟩ := List.getElem?_eq_some_iff.mp h
  have h3 : p < A.size := by simpa using h1
  have h4 : A[p]'h3 = b := h2
  have e : (Reader.u1 : Reader DecodeError Nat) A p = (if h : p < A.size then .ok (A[p].toNat, p + 1) else .error (HasTruncated.truncated p)) := by
    show (do if h : p < A.size then do set (p + 1); Pure.pure A[p].toNat else MonadExcept.throw (HasTruncated.truncated p) : Reader DecodeError Nat) A p = _
    by_cases hi : p < A.size
    · rw [dif_pos hi, dif_pos hi]; rfl
    · rw [dif_neg hi, dif_neg hi]; rfl
  rw [e, dif_pos h3, h4]
theorem dk_bind {α β : Type} {r : Reader DecodeError α} {f : α → Reader DecodeError β} {A : ByteArray} {p s : Nat} {a : α} (h : r A p = .ok (a, s)) : (r >>= f) A p = f a A s := by
  show (do let (a, s) ← r A p; f a A s : Except DecodeError (β × Nat)) = _
  rw [h]
  rfl
theorem dk_map {α β : Type} {r : Reader DecodeError α} {g : α → β} {A : ByteArray} {p s : Nat} {a : α} (h : r A p = .ok (a, s)) : (g <$> r) A p = .ok (g a, s) := by
  show (do let (a, s) ← r A p; .ok (g a, s) : Except DecodeError (β × Nat)) = _
  rw [h]
  rfl
theorem dk_u2 {A : ByteArray} {p : Nat} {a b : UInt8} (h : A.data.toList[p]? = some a) (h2 : A.data.toList[p + 1]? = some b) : (Reader.u2 : Reader DecodeError Nat) A p = .ok (a.toNat * 256 + b.toNat, p + 2) := by
  show (Reader.u1 >>= fun hi => Reader.u1 >>= fun lo => Pure.pure (hi * 256 + lo) : Reader DecodeError Nat) A p = _
  rw [dk_bind (dk_u1 h), dk_bind (dk_u1 h2)]
  rfl
theorem dk_of {code : ByteArray} {pc n : Nat} {i : Instr} (h : Decoder.instr pc code pc = .ok (i, pc + n)) : decode code pc = .ok (i, n) := by
  have e : decode code pc = (match Decoder.instr pc code pc with | .error x => .error x | .ok (j, s) => .ok (j, s - pc)) := by
    show (do let (j, s) ← Decoder.instr pc code pc; Pure.pure (j, s - pc) : Except DecodeError (Instr × Nat)) = _
    cases Decoder.instr pc code pc <;> rfl
  rw [e, h]
  show Except.ok (i, pc + n - pc) = _
  rw [Nat.add_sub_cancel_left]
theorem dk_1 {code : ByteArray} {pc : Nat} (h : DkAt code pc [1]) : decode code pc = .ok (.aconst_null, 1) := dk_of ((dk_bind (dk_u1 (h 0 _ rfl))).trans rfl)
theorem dk_2 {code : ByteArray} {pc : Nat} (h : DkAt code pc [2]) : decode code pc = .ok (.iconst (-1), 1) := dk_of ((dk_bind (dk_u1 (h 0 _ rfl))).trans rfl)
theorem dk_3 {code : ByteArray} {pc : Nat} (h : DkAt code pc [3]) : decode code pc = .ok (.iconst 0, 1) := dk_of ((dk_bind (dk_u1 (h 0 _ rfl))).trans rfl)
theorem dk_4 {code : ByteArray} {pc : Nat} (h : DkAt code pc [4]) : decode code pc = .ok (.iconst 1, 1) := dk_of ((dk_bind (dk_u1 (h 0 _ rfl))).trans rfl)
theorem dk_5 {code : ByteArray} {pc : Nat} (h : DkAt code pc [5]) : decode code pc = .ok (.iconst 2, 1) := dk_of ((dk_bind (dk_u1 (h 0 _ rfl))).trans rfl)
theorem dk_6 {code : ByteArray} {pc : Nat} (h : DkAt code pc [6]) : decode code pc = .ok (.iconst 3, 1) := dk_of ((dk_bind (dk_u1 (h 0 _ rfl))).trans rfl)
theorem dk_7 {code : ByteArray} {pc : Nat} (h : DkAt code pc [7]) : decode code pc = .ok (.iconst 4, 1) := dk_of ((dk_bind (dk_u1 (h 0 _ rfl))).trans rfl)
theorem dk_8 {code : ByteArray} {pc : Nat} (h : DkAt code pc [8]) : decode code pc = .ok (.iconst 5, 1) := dk_of ((dk_bind (dk_u1 (h 0 _ rfl))).trans rfl)
theorem dk_9 {code : ByteArray} {pc : Nat} (h : DkAt code pc [9]) : decode code pc = .ok (.lconst 0, 1) := dk_of ((dk_bind (dk_u1 (h 0 _ rfl))).trans rfl)
theorem dk_10 {code : ByteArray} {pc : Nat} (h : DkAt code pc [10]) : decode code pc = .ok (.lconst 1, 1) := dk_of ((dk_bind (dk_u1 (h 0 _ rfl))).trans rfl)
theorem dk_14 {code : ByteArray} {pc : Nat} (h : DkAt code pc [14]) : decode code pc = .ok (.dconst 0, 1) := dk_of ((dk_bind (dk_u1 (h 0 _ rfl))).trans rfl)
theorem dk_16 {code : ByteArray} {pc : Nat} (a : UInt8) (h : DkAt code pc [16, a]) : decode code pc = .ok (.bipush (Reader.signed 8 a.toNat), 2) := dk_of ((dk_bind (dk_u1 (h 0 _ rfl))).trans ((dk_bind (dk_map (dk_u1 (h 1 _ rfl)))).trans rfl))
theorem dk_17 {code : ByteArray} {pc : Nat} (a b : UInt8) (h : DkAt code pc [17, a, b]) : decode code pc = .ok (.sipush (Reader.signed 16 (a.toNat * 256 + b.toNat)), 3) := dk_of ((dk_bind (dk_u1 (h 0 _ rfl))).trans ((dk_bind (dk_map (dk_u2 (h 1 _ rfl) (h 2 _ rfl)))).trans rfl))
theorem dk_18 {code : ByteArray} {pc : Nat} (a : UInt8) (h : DkAt code pc [18, a]) : decode code pc = .ok (.ldc a.toNat, 2) := dk_of ((dk_bind (dk_u1 (h 0 _ rfl))).trans ((dk_bind (dk_u1 (h 1 _ rfl))).trans rfl))
theorem dk_19 {code : ByteArray} {pc : Nat} (a b : UInt8) (h : DkAt code pc [19, a, b]) : decode code pc = .ok (.ldc_w (a.toNat * 256 + b.toNat), 3) := dk_of ((dk_bind (dk_u1 (h 0 _ rfl))).trans ((dk_bind (dk_u2 (h 1 _ rfl) (h 2 _ rfl))).trans rfl))
theorem dk_20 {code : ByteArray} {pc : Nat} (a b : UInt8) (h : DkAt code pc [20, a, b]) : decode code pc = .ok (.ldc2_w (a.toNat * 256 + b.toNat), 3) := dk_of ((dk_bind (dk_u1 (h 0 _ rfl))).trans ((dk_bind (dk_u2 (h 1 _ rfl) (h 2 _ rfl))).trans rfl))
theorem dk_21 {code : ByteArray} {pc : Nat} (a : UInt8) (h : DkAt code pc [21, a]) : decode code pc = .ok (.iload a.toNat, 2) := dk_of ((dk_bind (dk_u1 (h 0 _ rfl))).trans ((dk_bind (dk_u1 (h 1 _ rfl))).trans rfl))
theorem dk_22 {code : ByteArray} {pc : Nat} (a : UInt8) (h : DkAt code pc [22, a]) : decode code pc = .ok (.lload a.toNat, 2) := dk_of ((dk_bind (dk_u1 (h 0 _ rfl))).trans ((dk_bind (dk_u1 (h 1 _ rfl))).trans rfl))
theorem dk_23 {code : ByteArray} {pc : Nat} (a : UInt8) (h : DkAt code pc [23, a]) : decode code pc = .ok (.fload a.toNat, 2) := dk_of ((dk_bind (dk_u1 (h 0 _ rfl))).trans ((dk_bind (dk_u1 (h 1 _ rfl))).trans rfl))
theorem dk_24 {code : ByteArray} {pc : Nat} (a : UInt8) (h : DkAt code pc [24, a]) : decode code pc = .ok (.dload a.toNat, 2) := dk_of ((dk_bind (dk_u1 (h 0 _ rfl))).trans ((dk_bind (dk_u1 (h 1 _ rfl))).trans rfl))
theorem dk_25 {code : ByteArray} {pc : Nat} (a : UInt8) (h : DkAt code pc [25, a]) : decode code pc = .ok (.aload a.toNat, 2) := dk_of ((dk_bind (dk_u1 (h 0 _ rfl))).trans ((dk_bind (dk_u1 (h 1 _ rfl))).trans rfl))
theorem dk_26 {code : ByteArray} {pc : Nat} (h : DkAt code pc [26]) : decode code pc = .ok (.iload_n 0, 1) := dk_of ((dk_bind (dk_u1 (h 0 _ rfl))).trans rfl)
theorem dk_27 {code : ByteArray} {pc : Nat} (h : DkAt code pc [27]) : decode code pc = .ok (.iload_n 1, 1) := dk_of ((dk_bind (dk_u1 (h 0 _ rfl))).trans rfl)
theorem dk_28 {code : ByteArray} {pc : Nat} (h : DkAt code pc [28]) : decode code pc = .ok (.iload_n 2, 1) := dk_of ((dk_bind (dk_u1 (h 0 _ rfl))).trans rfl)
theorem dk_29 {code : ByteArray} {pc : Nat} (h : DkAt code pc [29]) : decode code pc = .ok (.iload_n 3, 1) := dk_of ((dk_bind (dk_u1 (h 0 _ rfl))).trans rfl)
theorem dk_30 {code : ByteArray} {pc : Nat} (h : DkAt code pc [30]) : decode code pc = .ok (.lload_n 0, 1) := dk_of ((dk_bind (dk_u1 (h 0 _ rfl))).trans rfl)
theorem dk_31 {code : ByteArray} {pc : Nat} (h : DkAt code pc [31]) : decode code pc = .ok (.lload_n 1, 1) := dk_of ((dk_bind (dk_u1 (h 0 _ rfl))).trans rfl)
theorem dk_32 {code : ByteArray} {pc : Nat} (h : DkAt code pc [32]) : decode code pc = .ok (.lload_n 2, 1) := dk_of ((dk_bind (dk_u1 (h 0 _ rfl))).trans rfl)
theorem dk_33 {code : ByteArray} {pc : Nat} (h : DkAt code pc [33]) : decode code pc = .ok (.lload_n 3, 1) := dk_of ((dk_bind (dk_u1 (h 0 _ rfl))).trans rfl)
theorem dk_42 {code : ByteArray} {pc : Nat} (h : DkAt code pc [42]) : decode code pc = .ok (.aload_n 0, 1) := dk_of ((dk_bind (dk_u1 (h 0 _ rfl))).trans rfl)
theorem dk_43 {code : ByteArray} {pc : Nat} (h : DkAt code pc [43]) : decode code pc = .ok (.aload_n 1, 1) := dk_of ((dk_bind (dk_u1 (h 0 _ rfl))).trans rfl)
theorem dk_44 {code : ByteArray} {pc : Nat} (h : DkAt code pc [44]) : decode code pc = .ok (.aload_n 2, 1) := dk_of ((dk_bind (dk_u1 (h 0 _ rfl))).trans rfl)
theorem dk_45 {code : ByteArray} {pc : Nat} (h : DkAt code pc [45]) : decode code pc = .ok (.aload_n 3, 1) := dk_of ((dk_bind (dk_u1 (h 0 _ rfl))).trans rfl)
theorem dk_46 {code : ByteArray} {pc : Nat} (h : DkAt code pc [46]) : decode code pc = .ok (.iaload, 1) := dk_of ((dk_bind (dk_u1 (h 0 _ rfl))).trans rfl)
theorem dk_47 {code : ByteArray} {pc : Nat} (h : DkAt code pc [47]) : decode code pc = .ok (.laload, 1) := dk_of ((dk_bind (dk_u1 (h 0 _ rfl))).trans rfl)
theorem dk_50 {code : ByteArray} {pc : Nat} (h : DkAt code pc [50]) : decode code pc = .ok (.aaload, 1) := dk_of ((dk_bind (dk_u1 (h 0 _ rfl))).trans rfl)
theorem dk_51 {code : ByteArray} {pc : Nat} (h : DkAt code pc [51]) : decode code pc = .ok (.baload, 1) := dk_of ((dk_bind (dk_u1 (h 0 _ rfl))).trans rfl)
theorem dk_52 {code : ByteArray} {pc : Nat} (h : DkAt code pc [52]) : decode code pc = .ok (.caload, 1) := dk_of ((dk_bind (dk_u1 (h 0 _ rfl))).trans rfl)
theorem dk_53 {code : ByteArray} {pc : Nat} (h : DkAt code pc [53]) : decode code pc = .ok (.saload, 1) := dk_of ((dk_bind (dk_u1 (h 0 _ rfl))).trans rfl)
theorem dk_54 {code : ByteArray} {pc : Nat} (a : UInt8) (h : DkAt code pc [54, a]) : decode code pc = .ok (.istore a.toNat, 2) := dk_of ((dk_bind (dk_u1 (h 0 _ rfl))).trans ((dk_bind (dk_u1 (h 1 _ rfl))).trans rfl))
theorem dk_55 {code : ByteArray} {pc : Nat} (a : UInt8) (h : DkAt code pc [55, a]) : decode code pc = .ok (.lstore a.toNat, 2) := dk_of ((dk_bind (dk_u1 (h 0 _ rfl))).trans ((dk_bind (dk_u1 (h 1 _ rfl))).trans rfl))
theorem dk_56 {code : ByteArray} {pc : Nat} (a : UInt8) (h : DkAt code pc [56, a]) : decode code pc = .ok (.fstore a.toNat, 2) := dk_of ((dk_bind (dk_u1 (h 0 _ rfl))).trans ((dk_bind (dk_u1 (h 1 _ rfl))).trans rfl))
theorem dk_57 {code : ByteArray} {pc : Nat} (a : UInt8) (h : DkAt code pc [57, a]) : decode code pc = .ok (.dstore a.toNat, 2) := dk_of ((dk_bind (dk_u1 (h 0 _ rfl))).trans ((dk_bind (dk_u1 (h 1 _ rfl))).trans rfl))
theorem dk_58 {code : ByteArray} {pc : Nat} (a : UInt8) (h : DkAt code pc [58, a]) : decode code pc = .ok (.astore a.toNat, 2) := dk_of ((dk_bind (dk_u1 (h 0 _ rfl))).trans ((dk_bind (dk_u1 (h 1 _ rfl))).trans rfl))
theorem dk_59 {code : ByteArray} {pc : Nat} (h : DkAt code pc [59]) : decode code pc = .ok (.istore_n 0, 1) := dk_of ((dk_bind (dk_u1 (h 0 _ rfl))).trans rfl)
theorem dk_60 {code : ByteArray} {pc : Nat} (h : DkAt code pc [60]) : decode code pc = .ok (.istore_n 1, 1) := dk_of ((dk_bind (dk_u1 (h 0 _ rfl))).trans rfl)
theorem dk_61 {code : ByteArray} {pc : Nat} (h : DkAt code pc [61]) : decode code pc = .ok (.istore_n 2, 1) := dk_of ((dk_bind (dk_u1 (h 0 _ rfl))).trans rfl)
theorem dk_62 {code : ByteArray} {pc : Nat} (h : DkAt code pc [62]) : decode code pc = .ok (.istore_n 3, 1) := dk_of ((dk_bind (dk_u1 (h 0 _ rfl))).trans rfl)
theorem dk_63 {code : ByteArray} {pc : Nat} (h : DkAt code pc [63]) : decode code pc = .ok (.lstore_n 0, 1) := dk_of ((dk_bind (dk_u1 (h 0 _ rfl))).trans rfl)
theorem dk_64 {code : ByteArray} {pc : Nat} (h : DkAt code pc [64]) : decode code pc = .ok (.lstore_n 1, 1) := dk_of ((dk_bind (dk_u1 (h 0 _ rfl))).trans rfl)
theorem dk_65 {code : ByteArray} {pc : Nat} (h : DkAt code pc [65]) : decode code pc = .ok (.lstore_n 2, 1) := dk_of ((dk_bind (dk_u1 (h 0 _ rfl))).trans rfl)
theorem dk_66 {code : ByteArray} {pc : Nat} (h : DkAt code pc [66]) : decode code pc = .ok (.lstore_n 3, 1) := dk_of ((dk_bind (dk_u1 (h 0 _ rfl))).trans rfl)
theorem dk_75 {code : ByteArray} {pc : Nat} (h : DkAt code pc [75]) : decode code pc = .ok (.astore_n 0, 1) := dk_of ((dk_bind (dk_u1 (h 0 _ rfl))).trans rfl)
theorem dk_76 {code : ByteArray} {pc : Nat} (h : DkAt code pc [76]) : decode code pc = .ok (.astore_n 1, 1) := dk_of ((dk_bind (dk_u1 (h 0 _ rfl))).trans rfl)
theorem dk_77 {code : ByteArray} {pc : Nat} (h : DkAt code pc [77]) : decode code pc = .ok (.astore_n 2, 1) := dk_of ((dk_bind (dk_u1 (h 0 _ rfl))).trans rfl)
theorem dk_78 {code : ByteArray} {pc : Nat} (h : DkAt code pc [78]) : decode code pc = .ok (.astore_n 3, 1) := dk_of ((dk_bind (dk_u1 (h 0 _ rfl))).trans rfl)
theorem dk_79 {code : ByteArray} {pc : Nat} (h : DkAt code pc [79]) : decode code pc = .ok (.iastore, 1) := dk_of ((dk_bind (dk_u1 (h 0 _ rfl))).trans rfl)
theorem dk_80 {code : ByteArray} {pc : Nat} (h : DkAt code pc [80]) : decode code pc = .ok (.lastore, 1) := dk_of ((dk_bind (dk_u1 (h 0 _ rfl))).trans rfl)
theorem dk_83 {code : ByteArray} {pc : Nat} (h : DkAt code pc [83]) : decode code pc = .ok (.aastore, 1) := dk_of ((dk_bind (dk_u1 (h 0 _ rfl))).trans rfl)
theorem dk_84 {code : ByteArray} {pc : Nat} (h : DkAt code pc [84]) : decode code pc = .ok (.bastore, 1) := dk_of ((dk_bind (dk_u1 (h 0 _ rfl))).trans rfl)
theorem dk_87 {code : ByteArray} {pc : Nat} (h : DkAt code pc [87]) : decode code pc = .ok (.pop, 1) := dk_of ((dk_bind (dk_u1 (h 0 _ rfl))).trans rfl)
theorem dk_89 {code : ByteArray} {pc : Nat} (h : DkAt code pc [89]) : decode code pc = .ok (.dup, 1) := dk_of ((dk_bind (dk_u1 (h 0 _ rfl))).trans rfl)
theorem dk_90 {code : ByteArray} {pc : Nat} (h : DkAt code pc [90]) : decode code pc = .ok (.dup_x1, 1) := dk_of ((dk_bind (dk_u1 (h 0 _ rfl))).trans rfl)
theorem dk_91 {code : ByteArray} {pc : Nat} (h : DkAt code pc [91]) : decode code pc = .ok (.dup_x2, 1) := dk_of ((dk_bind (dk_u1 (h 0 _ rfl))).trans rfl)
theorem dk_92 {code : ByteArray} {pc : Nat} (h : DkAt code pc [92]) : decode code pc = .ok (.dup2, 1) := dk_of ((dk_bind (dk_u1 (h 0 _ rfl))).trans rfl)
theorem dk_96 {code : ByteArray} {pc : Nat} (h : DkAt code pc [96]) : decode code pc = .ok (.iadd, 1) := dk_of ((dk_bind (dk_u1 (h 0 _ rfl))).trans rfl)
theorem dk_97 {code : ByteArray} {pc : Nat} (h : DkAt code pc [97]) : decode code pc = .ok (.ladd, 1) := dk_of ((dk_bind (dk_u1 (h 0 _ rfl))).trans rfl)
theorem dk_100 {code : ByteArray} {pc : Nat} (h : DkAt code pc [100]) : decode code pc = .ok (.isub, 1) := dk_of ((dk_bind (dk_u1 (h 0 _ rfl))).trans rfl)
theorem dk_101 {code : ByteArray} {pc : Nat} (h : DkAt code pc [101]) : decode code pc = .ok (.lsub, 1) := dk_of ((dk_bind (dk_u1 (h 0 _ rfl))).trans rfl)
theorem dk_104 {code : ByteArray} {pc : Nat} (h : DkAt code pc [104]) : decode code pc = .ok (.imul, 1) := dk_of ((dk_bind (dk_u1 (h 0 _ rfl))).trans rfl)
theorem dk_105 {code : ByteArray} {pc : Nat} (h : DkAt code pc [105]) : decode code pc = .ok (.lmul, 1) := dk_of ((dk_bind (dk_u1 (h 0 _ rfl))).trans rfl)
theorem dk_106 {code : ByteArray} {pc : Nat} (h : DkAt code pc [106]) : decode code pc = .ok (.fmul, 1) := dk_of ((dk_bind (dk_u1 (h 0 _ rfl))).trans rfl)
theorem dk_108 {code : ByteArray} {pc : Nat} (h : DkAt code pc [108]) : decode code pc = .ok (.idiv, 1) := dk_of ((dk_bind (dk_u1 (h 0 _ rfl))).trans rfl)
theorem dk_109 {code : ByteArray} {pc : Nat} (h : DkAt code pc [109]) : decode code pc = .ok (.ldiv, 1) := dk_of ((dk_bind (dk_u1 (h 0 _ rfl))).trans rfl)
theorem dk_110 {code : ByteArray} {pc : Nat} (h : DkAt code pc [110]) : decode code pc = .ok (.fdiv, 1) := dk_of ((dk_bind (dk_u1 (h 0 _ rfl))).trans rfl)
theorem dk_111 {code : ByteArray} {pc : Nat} (h : DkAt code pc [111]) : decode code pc = .ok (.ddiv, 1) := dk_of ((dk_bind (dk_u1 (h 0 _ rfl))).trans rfl)
theorem dk_112 {code : ByteArray} {pc : Nat} (h : DkAt code pc [112]) : decode code pc = .ok (.irem, 1) := dk_of ((dk_bind (dk_u1 (h 0 _ rfl))).trans rfl)
theorem dk_113 {code : ByteArray} {pc : Nat} (h : DkAt code pc [113]) : decode code pc = .ok (.lrem, 1) := dk_of ((dk_bind (dk_u1 (h 0 _ rfl))).trans rfl)
theorem dk_116 {code : ByteArray} {pc : Nat} (h : DkAt code pc [116]) : decode code pc = .ok (.ineg, 1) := dk_of ((dk_bind (dk_u1 (h 0 _ rfl))).trans rfl)
theorem dk_117 {code : ByteArray} {pc : Nat} (h : DkAt code pc [117]) : decode code pc = .ok (.lneg, 1) := dk_of ((dk_bind (dk_u1 (h 0 _ rfl))).trans rfl)
theorem dk_120 {code : ByteArray} {pc : Nat} (h : DkAt code pc [120]) : decode code pc = .ok (.ishl, 1) := dk_of ((dk_bind (dk_u1 (h 0 _ rfl))).trans rfl)
theorem dk_121 {code : ByteArray} {pc : Nat} (h : DkAt code pc [121]) : decode code pc = .ok (.lshl, 1) := dk_of ((dk_bind (dk_u1 (h 0 _ rfl))).trans rfl)
theorem dk_122 {code : ByteArray} {pc : Nat} (h : DkAt code pc [122]) : decode code pc = .ok (.ishr, 1) := dk_of ((dk_bind (dk_u1 (h 0 _ rfl))).trans rfl)
theorem dk_124 {code : ByteArray} {pc : Nat} (h : DkAt code pc [124]) : decode code pc = .ok (.iushr, 1) := dk_of ((dk_bind (dk_u1 (h 0 _ rfl))).trans rfl)
theorem dk_125 {code : ByteArray} {pc : Nat} (h : DkAt code pc [125]) : decode code pc = .ok (.lushr, 1) := dk_of ((dk_bind (dk_u1 (h 0 _ rfl))).trans rfl)
theorem dk_126 {code : ByteArray} {pc : Nat} (h : DkAt code pc [126]) : decode code pc = .ok (.iand, 1) := dk_of ((dk_bind (dk_u1 (h 0 _ rfl))).trans rfl)
theorem dk_127 {code : ByteArray} {pc : Nat} (h : DkAt code pc [127]) : decode code pc = .ok (.land, 1) := dk_of ((dk_bind (dk_u1 (h 0 _ rfl))).trans rfl)
theorem dk_128 {code : ByteArray} {pc : Nat} (h : DkAt code pc [128]) : decode code pc = .ok (.ior, 1) := dk_of ((dk_bind (dk_u1 (h 0 _ rfl))).trans rfl)
theorem dk_129 {code : ByteArray} {pc : Nat} (h : DkAt code pc [129]) : decode code pc = .ok (.lor, 1) := dk_of ((dk_bind (dk_u1 (h 0 _ rfl))).trans rfl)
theorem dk_130 {code : ByteArray} {pc : Nat} (h : DkAt code pc [130]) : decode code pc = .ok (.ixor, 1) := dk_of ((dk_bind (dk_u1 (h 0 _ rfl))).trans rfl)
theorem dk_131 {code : ByteArray} {pc : Nat} (h : DkAt code pc [131]) : decode code pc = .ok (.lxor, 1) := dk_of ((dk_bind (dk_u1 (h 0 _ rfl))).trans rfl)
theorem dk_132 {code : ByteArray} {pc : Nat} (a b : UInt8) (h : DkAt code pc [132, a, b]) : decode code pc = .ok (.iinc a.toNat (Reader.signed 8 b.toNat), 3) := dk_of ((dk_bind (dk_u1 (h 0 _ rfl))).trans ((dk_bind (dk_u1 (h 1 _ rfl))).trans ((dk_bind (dk_map (dk_u1 (h 2 _ rfl)))).trans rfl)))
theorem dk_133 {code : ByteArray} {pc : Nat} (h : DkAt code pc [133]) : decode code pc = .ok (.i2l, 1) := dk_of ((dk_bind (dk_u1 (h 0 _ rfl))).trans rfl)
theorem dk_134 {code : ByteArray} {pc : Nat} (h : DkAt code pc [134]) : decode code pc = .ok (.i2f, 1) := dk_of ((dk_bind (dk_u1 (h 0 _ rfl))).trans rfl)
theorem dk_136 {code : ByteArray} {pc : Nat} (h : DkAt code pc [136]) : decode code pc = .ok (.l2i, 1) := dk_of ((dk_bind (dk_u1 (h 0 _ rfl))).trans rfl)
theorem dk_137 {code : ByteArray} {pc : Nat} (h : DkAt code pc [137]) : decode code pc = .ok (.l2f, 1) := dk_of ((dk_bind (dk_u1 (h 0 _ rfl))).trans rfl)
theorem dk_138 {code : ByteArray} {pc : Nat} (h : DkAt code pc [138]) : decode code pc = .ok (.l2d, 1) := dk_of ((dk_bind (dk_u1 (h 0 _ rfl))).trans rfl)
theorem dk_139 {code : ByteArray} {pc : Nat} (h : DkAt code pc [139]) : decode code pc = .ok (.f2i, 1) := dk_of ((dk_bind (dk_u1 (h 0 _ rfl))).trans rfl)
theorem dk_141 {code : ByteArray} {pc : Nat} (h : DkAt code pc [141]) : decode code pc = .ok (.f2d, 1) := dk_of ((dk_bind (dk_u1 (h 0 _ rfl))).trans rfl)
theorem dk_145 {code : ByteArray} {pc : Nat} (h : DkAt code pc [145]) : decode code pc = .ok (.i2b, 1) := dk_of ((dk_bind (dk_u1 (h 0 _ rfl))).trans rfl)
theorem dk_146 {code : ByteArray} {pc : Nat} (h : DkAt code pc [146]) : decode code pc = .ok (.i2c, 1) := dk_of ((dk_bind (dk_u1 (h 0 _ rfl))).trans rfl)
theorem dk_148 {code : ByteArray} {pc : Nat} (h : DkAt code pc [148]) : decode code pc = .ok (.lcmp, 1) := dk_of ((dk_bind (dk_u1 (h 0 _ rfl))).trans rfl)
theorem dk_150 {code : ByteArray} {pc : Nat} (h : DkAt code pc [150]) : decode code pc = .ok (.fcmp .g, 1) := dk_of ((dk_bind (dk_u1 (h 0 _ rfl))).trans rfl)
theorem dk_151 {code : ByteArray} {pc : Nat} (h : DkAt code pc [151]) : decode code pc = .ok (.dcmp .l, 1) := dk_of ((dk_bind (dk_u1 (h 0 _ rfl))).trans rfl)
theorem dk_153 {code : ByteArray} {pc : Nat} (a b : UInt8) (h : DkAt code pc [153, a, b]) : decode code pc = .ok (.ifCond .eq (Reader.signed 16 (a.toNat * 256 + b.toNat)), 3) := dk_of ((dk_bind (dk_u1 (h 0 _ rfl))).trans ((dk_bind (dk_map (dk_u2 (h 1 _ rfl) (h 2 _ rfl)))).trans rfl))
theorem dk_154 {code : ByteArray} {pc : Nat} (a b : UInt8) (h : DkAt code pc [154, a, b]) : decode code pc = .ok (.ifCond .ne (Reader.signed 16 (a.toNat * 256 + b.toNat)), 3) := dk_of ((dk_bind (dk_u1 (h 0 _ rfl))).trans ((dk_bind (dk_map (dk_u2 (h 1 _ rfl) (h 2 _ rfl)))).trans rfl))
theorem dk_155 {code : ByteArray} {pc : Nat} (a b : UInt8) (h : DkAt code pc [155, a, b]) : decode code pc = .ok (.ifCond .lt (Reader.signed 16 (a.toNat * 256 + b.toNat)), 3) := dk_of ((dk_bind (dk_u1 (h 0 _ rfl))).trans ((dk_bind (dk_map (dk_u2 (h 1 _ rfl) (h 2 _ rfl)))).trans rfl))
theorem dk_156 {code : ByteArray} {pc : Nat} (a b : UInt8) (h : DkAt code pc [156, a, b]) : decode code pc = .ok (.ifCond .ge (Reader.signed 16 (a.toNat * 256 + b.toNat)), 3) := dk_of ((dk_bind (dk_u1 (h 0 _ rfl))).trans ((dk_bind (dk_map (dk_u2 (h 1 _ rfl) (h 2 _ rfl)))).trans rfl))
theorem dk_157 {code : ByteArray} {pc : Nat} (a b : UInt8) (h : DkAt code pc [157, a, b]) : decode code pc = .ok (.ifCond .gt (Reader.signed 16 (a.toNat * 256 + b.toNat)), 3) := dk_of ((dk_bind (dk_u1 (h 0 _ rfl))).trans ((dk_bind (dk_map (dk_u2 (h 1 _ rfl) (h 2 _ rfl)))).trans rfl))
theorem dk_158 {code : ByteArray} {pc : Nat} (a b : UInt8) (h : DkAt code pc [158, a, b]) : decode code pc = .ok (.ifCond .le (Reader.signed 16 (a.toNat * 256 + b.toNat)), 3) := dk_of ((dk_bind (dk_u1 (h 0 _ rfl))).trans ((dk_bind (dk_map (dk_u2 (h 1 _ rfl) (h 2 _ rfl)))).trans rfl))
theorem dk_159 {code : ByteArray} {pc : Nat} (a b : UInt8) (h : DkAt code pc [159, a, b]) : decode code pc = .ok (.if_icmp .eq (Reader.signed 16 (a.toNat * 256 + b.toNat)), 3) := dk_of ((dk_bind (dk_u1 (h 0 _ rfl))).trans ((dk_bind (dk_map (dk_u2 (h 1 _ rfl) (h 2 _ rfl)))).trans rfl))
theorem dk_160 {code : ByteArray} {pc : Nat} (a b : UInt8) (h : DkAt code pc [160, a, b]) : decode code pc = .ok (.if_icmp .ne (Reader.signed 16 (a.toNat * 256 + b.toNat)), 3) := dk_of ((dk_bind (dk_u1 (h 0 _ rfl))).trans ((dk_bind (dk_map (dk_u2 (h 1 _ rfl) (h 2 _ rfl)))).trans rfl))
theorem dk_161 {code : ByteArray} {pc : Nat} (a b : UInt8) (h : DkAt code pc [161, a, b]) : decode code pc = .ok (.if_icmp .lt (Reader.signed 16 (a.toNat * 256 + b.toNat)), 3) := dk_of ((dk_bind (dk_u1 (h 0 _ rfl))).trans ((dk_bind (dk_map (dk_u2 (h 1 _ rfl) (h 2 _ rfl)))).trans rfl))
theorem dk_162 {code : ByteArray} {pc : Nat} (a b : UInt8) (h : DkAt code pc [162, a, b]) : decode code pc = .ok (.if_icmp .ge (Reader.signed 16 (a.toNat * 256 + b.toNat)), 3) := dk_of ((dk_bind (dk_u1 (h 0 _ rfl))).trans ((dk_bind (dk_map (dk_u2 (h 1 _ rfl) (h 2 _ rfl)))).trans rfl))
theorem dk_163 {code : ByteArray} {pc : Nat} (a b : UInt8) (h : DkAt code pc [163, a, b]) : decode code pc = .ok (.if_icmp .gt (Reader.signed 16 (a.toNat * 256 + b.toNat)), 3) := dk_of ((dk_bind (dk_u1 (h 0 _ rfl))).trans ((dk_bind (dk_map (dk_u2 (h 1 _ rfl) (h 2 _ rfl)))).trans rfl))
theorem dk_164 {code : ByteArray} {pc : Nat} (a b : UInt8) (h : DkAt code pc [164, a, b]) : decode code pc = .ok (.if_icmp .le (Reader.signed 16 (a.toNat * 256 + b.toNat)), 3) := dk_of ((dk_bind (dk_u1 (h 0 _ rfl))).trans ((dk_bind (dk_map (dk_u2 (h 1 _ rfl) (h 2 _ rfl)))).trans rfl))
theorem dk_165 {code : ByteArray} {pc : Nat} (a b : UInt8) (h : DkAt code pc [165, a, b]) : decode code pc = .ok (.if_acmp .eq (Reader.signed 16 (a.toNat * 256 + b.toNat)), 3) := dk_of ((dk_bind (dk_u1 (h 0 _ rfl))).trans ((dk_bind (dk_map (dk_u2 (h 1 _ rfl) (h 2 _ rfl)))).trans rfl))
theorem dk_166 {code : ByteArray} {pc : Nat} (a b : UInt8) (h : DkAt code pc [166, a, b]) : decode code pc = .ok (.if_acmp .ne (Reader.signed 16 (a.toNat * 256 + b.toNat)), 3) := dk_of ((dk_bind (dk_u1 (h 0 _ rfl))).trans ((dk_bind (dk_map (dk_u2 (h 1 _ rfl) (h 2 _ rfl)))).trans rfl))
theorem dk_167 {code : ByteArray} {pc : Nat} (a b : UInt8) (h : DkAt code pc [167, a, b]) : decode code pc = .ok (.goto (Reader.signed 16 (a.toNat * 256 + b.toNat)), 3) := dk_of ((dk_bind (dk_u1 (h 0 _ rfl))).trans ((dk_bind (dk_map (dk_u2 (h 1 _ rfl) (h 2 _ rfl)))).trans rfl))
theorem dk_172 {code : ByteArray} {pc : Nat} (h : DkAt code pc [172]) : decode code pc = .ok (.ireturn, 1) := dk_of ((dk_bind (dk_u1 (h 0 _ rfl))).trans rfl)
theorem dk_173 {code : ByteArray} {pc : Nat} (h : DkAt code pc [173]) : decode code pc = .ok (.lreturn, 1) := dk_of ((dk_bind (dk_u1 (h 0 _ rfl))).trans rfl)
theorem dk_174 {code : ByteArray} {pc : Nat} (h : DkAt code pc [174]) : decode code pc = .ok (.freturn, 1) := dk_of ((dk_bind (dk_u1 (h 0 _ rfl))).trans rfl)
theorem dk_175 {code : ByteArray} {pc : Nat} (h : DkAt code pc [175]) : decode code pc = .ok (.dreturn, 1) := dk_of ((dk_bind (dk_u1 (h 0 _ rfl))).trans rfl)
theorem dk_176 {code : ByteArray} {pc : Nat} (h : DkAt code pc [176]) : decode code pc = .ok (.areturn, 1) := dk_of ((dk_bind (dk_u1 (h 0 _ rfl))).trans rfl)
theorem dk_177 {code : ByteArray} {pc : Nat} (h : DkAt code pc [177]) : decode code pc = .ok (.return_, 1) := dk_of ((dk_bind (dk_u1 (h 0 _ rfl))).trans rfl)
theorem dk_178 {code : ByteArray} {pc : Nat} (a b : UInt8) (h : DkAt code pc [178, a, b]) : decode code pc = .ok (.getstatic (a.toNat * 256 + b.toNat), 3) := dk_of ((dk_bind (dk_u1 (h 0 _ rfl))).trans ((dk_bind (dk_u2 (h 1 _ rfl) (h 2 _ rfl))).trans rfl))
theorem dk_180 {code : ByteArray} {pc : Nat} (a b : UInt8) (h : DkAt code pc [180, a, b]) : decode code pc = .ok (.getfield (a.toNat * 256 + b.toNat), 3) := dk_of ((dk_bind (dk_u1 (h 0 _ rfl))).trans ((dk_bind (dk_u2 (h 1 _ rfl) (h 2 _ rfl))).trans rfl))
theorem dk_181 {code : ByteArray} {pc : Nat} (a b : UInt8) (h : DkAt code pc [181, a, b]) : decode code pc = .ok (.putfield (a.toNat * 256 + b.toNat), 3) := dk_of ((dk_bind (dk_u1 (h 0 _ rfl))).trans ((dk_bind (dk_u2 (h 1 _ rfl) (h 2 _ rfl))).trans rfl))
theorem dk_182 {code : ByteArray} {pc : Nat} (a b : UInt8) (h : DkAt code pc [182, a, b]) : decode code pc = .ok (.invokevirtual (a.toNat * 256 + b.toNat), 3) := dk_of ((dk_bind (dk_u1 (h 0 _ rfl))).trans ((dk_bind (dk_u2 (h 1 _ rfl) (h 2 _ rfl))).trans rfl))
theorem dk_183 {code : ByteArray} {pc : Nat} (a b : UInt8) (h : DkAt code pc [183, a, b]) : decode code pc = .ok (.invokespecial (a.toNat * 256 + b.toNat), 3) := dk_of ((dk_bind (dk_u1 (h 0 _ rfl))).trans ((dk_bind (dk_u2 (h 1 _ rfl) (h 2 _ rfl))).trans rfl))
theorem dk_184 {code : ByteArray} {pc : Nat} (a b : UInt8) (h : DkAt code pc [184, a, b]) : decode code pc = .ok (.invokestatic (a.toNat * 256 + b.toNat), 3) := dk_of ((dk_bind (dk_u1 (h 0 _ rfl))).trans ((dk_bind (dk_u2 (h 1 _ rfl) (h 2 _ rfl))).trans rfl))
theorem dk_187 {code : ByteArray} {pc : Nat} (a b : UInt8) (h : DkAt code pc [187, a, b]) : decode code pc = .ok (.new (a.toNat * 256 + b.toNat), 3) := dk_of ((dk_bind (dk_u1 (h 0 _ rfl))).trans ((dk_bind (dk_u2 (h 1 _ rfl) (h 2 _ rfl))).trans rfl))
theorem dk_188_8 {code : ByteArray} {pc : Nat} (h : DkAt code pc [188, 8]) : decode code pc = .ok (.newarray .byte, 2) := dk_of ((dk_bind (dk_u1 (h 0 _ rfl))).trans ((dk_bind (dk_u1 (h 1 _ rfl))).trans rfl))
theorem dk_188_10 {code : ByteArray} {pc : Nat} (h : DkAt code pc [188, 10]) : decode code pc = .ok (.newarray .int, 2) := dk_of ((dk_bind (dk_u1 (h 0 _ rfl))).trans ((dk_bind (dk_u1 (h 1 _ rfl))).trans rfl))
theorem dk_188_11 {code : ByteArray} {pc : Nat} (h : DkAt code pc [188, 11]) : decode code pc = .ok (.newarray .long, 2) := dk_of ((dk_bind (dk_u1 (h 0 _ rfl))).trans ((dk_bind (dk_u1 (h 1 _ rfl))).trans rfl))
theorem dk_189 {code : ByteArray} {pc : Nat} (a b : UInt8) (h : DkAt code pc [189, a, b]) : decode code pc = .ok (.anewarray (a.toNat * 256 + b.toNat), 3) := dk_of ((dk_bind (dk_u1 (h 0 _ rfl))).trans ((dk_bind (dk_u2 (h 1 _ rfl) (h 2 _ rfl))).trans rfl))
theorem dk_190 {code : ByteArray} {pc : Nat} (h : DkAt code pc [190]) : decode code pc = .ok (.arraylength, 1) := dk_of ((dk_bind (dk_u1 (h 0 _ rfl))).trans rfl)
theorem dk_191 {code : ByteArray} {pc : Nat} (h : DkAt code pc [191]) : decode code pc = .ok (.athrow, 1) := dk_of ((dk_bind (dk_u1 (h 0 _ rfl))).trans rfl)
theorem dk_192 {code : ByteArray} {pc : Nat} (a b : UInt8) (h : DkAt code pc [192, a, b]) : decode code pc = .ok (.checkcast (a.toNat * 256 + b.toNat), 3) := dk_of ((dk_bind (dk_u1 (h 0 _ rfl))).trans ((dk_bind (dk_u2 (h 1 _ rfl) (h 2 _ rfl))).trans rfl))
theorem dk_193 {code : ByteArray} {pc : Nat} (a b : UInt8) (h : DkAt code pc [193, a, b]) : decode code pc = .ok (.instanceof (a.toNat * 256 + b.toNat), 3) := dk_of ((dk_bind (dk_u1 (h 0 _ rfl))).trans ((dk_bind (dk_u2 (h 1 _ rfl) (h 2 _ rfl))).trans rfl))
theorem dk_198 {code : ByteArray} {pc : Nat} (a b : UInt8) (h : DkAt code pc [198, a, b]) : decode code pc = .ok (.ifnull (Reader.signed 16 (a.toNat * 256 + b.toNat)), 3) := dk_of ((dk_bind (dk_u1 (h 0 _ rfl))).trans ((dk_bind (dk_map (dk_u2 (h 1 _ rfl) (h 2 _ rfl)))).trans rfl))
theorem dk_199 {code : ByteArray} {pc : Nat} (a b : UInt8) (h : DkAt code pc [199, a, b]) : decode code pc = .ok (.ifnonnull (Reader.signed 16 (a.toNat * 256 + b.toNat)), 3) := dk_of ((dk_bind (dk_u1 (h 0 _ rfl))).trans ((dk_bind (dk_map (dk_u2 (h 1 _ rfl) (h 2 _ rfl)))).trans rfl))
/-! ThreeBodiesModel -/
set_option maxRecDepth 100000
def RX6 : String := "ThreeBodiesModel"
def TX6 : u_T := fun k => match k with
  | 0 => ("ThreeBodiesModel", "thrown", "I", false)
  | 1 => ("ThreeBodiesModel", "now", "[J", true)
  | 2 => ("ThreeBodiesModel", "then", "[J", true)
  | 3 => ("ThreeBodiesModel", "draft", "[J", true)
  | 4 => ("ThreeBodiesModel", "tried", "[J", true)
  | 5 => ("ThreeBodiesModel", "saved", "[J", true)
  | 6 => ("ThreeBodiesModel", "history", "[J", true)
  | 7 => ("ThreeBodiesModel", "told", "[J", true)
  | 8 => ("ThreeBodiesModel", "draftTold", "[J", true)
  | 9 => ("ThreeBodiesModel", "isSaved", "Z", false)
  | 10 => ("ThreeBodiesModel", "recorded", "I", false)
  | 11 => ("ThreeBodiesModel", "remembered", "I", false)
  | 12 => ("ThreeBodiesModel", "memory", "[J", true)
  | 13 => ("ThreeBodiesModel", "buffer", "[I", true)
  | 14 => ("ThreeBodiesModel", "buffered", "I", false)
  | 15 => ("ThreeBodiesModel", "textEnd", "I", false)
  | 16 => ("ThreeBodiesModel", "at", "I", false)
  | 17 => ("ThreeBodiesModel", "begin", "I", false)
  | 18 => ("ThreeBodiesModel", "kind", "I", false)
  | 19 => ("ThreeBodiesModel", "value", "J", false)
  | 20 => ("ThreeBodiesModel", "word", "J", false)
  | 21 => ("ThreeBodiesModel", "wrong", "I", false)
  | 22 => ("ThreeBodiesModel", "wrongAt", "I", false)
  | 23 => ("ThreeBodiesModel", "gives", "[J", true)
  | 24 => ("ThreeBodiesModel", "ahead", "[J", true)
  | 25 => ("ThreeBodiesModel", "path", "[J", true)
  | 26 => ("ThreeBodiesModel", "refined", "J", false)
  | 27 => ("ThreeBodiesModel", "cellX", "[J", true)
  | 28 => ("ThreeBodiesModel", "cellY", "[J", true)
  | 29 => ("ThreeBodiesModel", "stays", "[I", true)
  | 30 => ("ThreeBodiesModel", "cellMany", "I", false)
  | 31 => ("ThreeBodiesModel", "text", "[B", true)
  | 32 => ("ThreeBodiesModel", "texts", "I", false)
  | 33 => ("ThreeBodiesModel", "codes", "[I", true)
  | 34 => ("ThreeBodiesModel", "wait", "[I", true)
  | 35 => ("ThreeBodiesModel", "stack", "[I", true)
  | 36 => ("ThreeBodiesModel", "coded", "I", false)
  | 37 => ("ThreeBodiesModel", "waits", "I", false)
  | _ => ("ThreeBodiesModel", "open", "I", false)
def tyX6 : Nat → FieldType := fun k => match k with
  | 0 => .int
  | 1 => .array .long
  | 2 => .array .long
  | 3 => .array .long
  | 4 => .array .long
  | 5 => .array .long
  | 6 => .array .long
  | 7 => .array .long
  | 8 => .array .long
  | 9 => .boolean
  | 10 => .int
  | 11 => .int
  | 12 => .array .long
  | 13 => .array .int
  | 14 => .int
  | 15 => .int
  | 16 => .int
  | 17 => .int
  | 18 => .int
  | 19 => .long
  | 20 => .long
  | 21 => .int
  | 22 => .int
  | 23 => .array .long
  | 24 => .array .long
  | 25 => .array .long
  | 26 => .long
  | 27 => .array .long
  | 28 => .array .long
  | 29 => .array .int
  | 30 => .int
  | 31 => .array .byte
  | 32 => .int
  | 33 => .array .int
  | 34 => .array .int
  | 35 => .array .int
  | 36 => .int
  | 37 => .int
  | _ => .int
abbrev wsX60 : List Cond := u_ws RX6 TX6 39
set_option maxRecDepth 100000 in
theorem nmX6 : ∀ a, a < 39 → ∀ b, b < 39 → a ≠ b → (TX6 a).2.1 ≠ (TX6 b).2.1 := by decide +kernel
set_option maxRecDepth 100000 in
theorem tyX6_ok : ∀ k, k < 39 → parseFieldDescriptor (TX6 k).2.2.1 = some (tyX6 k) := by decide +kernel
abbrev cX6_init : ByteArray := prog_25_method_1_code
def yX6_init : MethodName := ⟨RX6, "<init>", "()V"⟩
def dkwX6_init_10 : List UInt8 := [182, 0, 85, 177]
abbrev dktX6_init_10 : List UInt8 := dkwX6_init_10 ++ []
def dkwX6_init_9 : List UInt8 := [4, 4, 184, 0, 79, 20, 0, 83, 80, 42, 180, 0, 16, 5, 5, 184, 0, 79, 20, 0, 83, 80, 42]
abbrev dktX6_init_9 : List UInt8 := dkwX6_init_9 ++ dktX6_init_10
def dkwX6_init_8 : List UInt8 := [162, 0, 20, 42, 180, 0, 16, 27, 3, 184, 0, 79, 10, 80, 132, 1, 1, 167, 255, 237, 42, 180, 0, 16]
abbrev dktX6_init_8 : List UInt8 := dkwX6_init_8 ++ dktX6_init_9
def dkwX6_init_7 : List UInt8 := [188, 10, 181, 0, 70, 42, 17, 0, 200, 188, 10, 181, 0, 73, 42, 182, 0, 76, 3, 60, 27, 6]
abbrev dktX6_init_7 : List UInt8 := dkwX6_init_7 ++ dktX6_init_8
def dkwX6_init_6 : List UInt8 := [181, 0, 60, 42, 16, 80, 188, 8, 181, 0, 63, 42, 17, 0, 200, 188, 10, 181, 0, 67, 42, 17, 0, 200]
abbrev dktX6_init_6 : List UInt8 := dkwX6_init_6 ++ dktX6_init_7
def dkwX6_init_5 : List UInt8 := [17, 1, 45, 188, 11, 181, 0, 54, 42, 17, 1, 45, 188, 11, 181, 0, 57, 42, 17, 1, 45, 188, 10]
abbrev dktX6_init_5 : List UInt8 := dkwX6_init_5 ++ dktX6_init_6
def dkwX6_init_4 : List UInt8 := [188, 11, 181, 0, 45, 42, 16, 21, 188, 11, 181, 0, 48, 42, 17, 7, 14, 188, 11, 181, 0, 51, 42]
abbrev dktX6_init_4 : List UInt8 := dkwX6_init_4 ++ dktX6_init_5
def dkwX6_init_3 : List UInt8 := [16, 6, 188, 11, 181, 0, 34, 42, 17, 2, 88, 188, 10, 181, 0, 37, 42, 2, 181, 0, 41, 42, 16, 6]
abbrev dktX6_init_3 : List UInt8 := dkwX6_init_3 ++ dktX6_init_4
def dkwX6_init_2 : List UInt8 := [17, 4, 86, 188, 11, 181, 0, 25, 42, 8, 188, 11, 181, 0, 28, 42, 8, 188, 11, 181, 0, 31, 42]
abbrev dktX6_init_2 : List UInt8 := dkwX6_init_2 ++ dktX6_init_3
def dkwX6_init_1 : List UInt8 := [188, 11, 181, 0, 16, 42, 16, 111, 188, 11, 181, 0, 19, 42, 16, 111, 188, 11, 181, 0, 22, 42]
abbrev dktX6_init_1 : List UInt8 := dkwX6_init_1 ++ dktX6_init_2
def dkwX6_init_0 : List UInt8 := [42, 183, 0, 1, 42, 16, 111, 188, 11, 181, 0, 7, 42, 16, 111, 188, 11, 181, 0, 13, 42, 16, 111]
abbrev dktX6_init_0 : List UInt8 := dkwX6_init_0 ++ dktX6_init_1
theorem dksX6_init_0 : cX6_init.data.toList.drop 0 = dktX6_init_0 := by decide +kernel
theorem dksX6_init_1 : cX6_init.data.toList.drop 23 = dktX6_init_1 := dk_seg dksX6_init_0 23 rfl rfl
theorem dksX6_init_2 : cX6_init.data.toList.drop 45 = dktX6_init_2 := dk_seg dksX6_init_1 22 rfl rfl
theorem dksX6_init_3 : cX6_init.data.toList.drop 68 = dktX6_init_3 := dk_seg dksX6_init_2 23 rfl rfl
theorem dksX6_init_4 : cX6_init.data.toList.drop 92 = dktX6_init_4 := dk_seg dksX6_init_3 24 rfl rfl
theorem dksX6_init_5 : cX6_init.data.toList.drop 115 = dktX6_init_5 := dk_seg dksX6_init_4 23 rfl rfl
theorem dksX6_init_6 : cX6_init.data.toList.drop 138 = dktX6_init_6 := dk_seg dksX6_init_5 23 rfl rfl
theorem dksX6_init_7 : cX6_init.data.toList.drop 162 = dktX6_init_7 := dk_seg dksX6_init_6 24 rfl rfl
theorem dksX6_init_8 : cX6_init.data.toList.drop 184 = dktX6_init_8 := dk_seg dksX6_init_7 22 rfl rfl
theorem dksX6_init_9 : cX6_init.data.toList.drop 208 = dktX6_init_9 := dk_seg dksX6_init_8 24 rfl rfl
theorem dksX6_init_10 : cX6_init.data.toList.drop 231 = dktX6_init_10 := dk_seg dksX6_init_9 23 rfl rfl
theorem dX6_init_0 : decode cX6_init 0 = .ok (.aload_n 0, 1) := dk_42 (dk_at dksX6_init_0 0 rfl rfl)
theorem dX6_init_1 : decode cX6_init 1 = .ok (.invokespecial 1, 3) := dk_183 0 1 (dk_at dksX6_init_0 1 rfl rfl)
theorem dX6_init_4 : decode cX6_init 4 = .ok (.aload_n 0, 1) := dk_42 (dk_at dksX6_init_0 4 rfl rfl)
theorem dX6_init_5 : decode cX6_init 5 = .ok (.bipush 111, 2) := dk_16 111 (dk_at dksX6_init_0 5 rfl rfl)
theorem dX6_init_7 : decode cX6_init 7 = .ok (.newarray .long, 2) := dk_188_11 (dk_at dksX6_init_0 7 rfl rfl)
theorem dX6_init_9 : decode cX6_init 9 = .ok (.putfield 7, 3) := dk_181 0 7 (dk_at dksX6_init_0 9 rfl rfl)
theorem dX6_init_12 : decode cX6_init 12 = .ok (.aload_n 0, 1) := dk_42 (dk_at dksX6_init_0 12 rfl rfl)
theorem dX6_init_13 : decode cX6_init 13 = .ok (.bipush 111, 2) := dk_16 111 (dk_at dksX6_init_0 13 rfl rfl)
theorem dX6_init_15 : decode cX6_init 15 = .ok (.newarray .long, 2) := dk_188_11 (dk_at dksX6_init_0 15 rfl rfl)
theorem dX6_init_17 : decode cX6_init 17 = .ok (.putfield 13, 3) := dk_181 0 13 (dk_at dksX6_init_0 17 rfl rfl)
theorem dX6_init_20 : decode cX6_init 20 = .ok (.aload_n 0, 1) := dk_42 (dk_at dksX6_init_0 20 rfl rfl)
theorem dX6_init_21 : decode cX6_init 21 = .ok (.bipush 111, 2) := dk_16 111 (dk_at dksX6_init_0 21 rfl rfl)
theorem dX6_init_23 : decode cX6_init 23 = .ok (.newarray .long, 2) := dk_188_11 (dk_at dksX6_init_1 0 rfl rfl)
theorem dX6_init_25 : decode cX6_init 25 = .ok (.putfield 16, 3) := dk_181 0 16 (dk_at dksX6_init_1 2 rfl rfl)
theorem dX6_init_28 : decode cX6_init 28 = .ok (.aload_n 0, 1) := dk_42 (dk_at dksX6_init_1 5 rfl rfl)
theorem dX6_init_29 : decode cX6_init 29 = .ok (.bipush 111, 2) := dk_16 111 (dk_at dksX6_init_1 6 rfl rfl)
theorem dX6_init_31 : decode cX6_init 31 = .ok (.newarray .long, 2) := dk_188_11 (dk_at dksX6_init_1 8 rfl rfl)
theorem dX6_init_33 : decode cX6_init 33 = .ok (.putfield 19, 3) := dk_181 0 19 (dk_at dksX6_init_1 10 rfl rfl)
theorem dX6_init_36 : decode cX6_init 36 = .ok (.aload_n 0, 1) := dk_42 (dk_at dksX6_init_1 13 rfl rfl)
theorem dX6_init_37 : decode cX6_init 37 = .ok (.bipush 111, 2) := dk_16 111 (dk_at dksX6_init_1 14 rfl rfl)
theorem dX6_init_39 : decode cX6_init 39 = .ok (.newarray .long, 2) := dk_188_11 (dk_at dksX6_init_1 16 rfl rfl)
theorem dX6_init_41 : decode cX6_init 41 = .ok (.putfield 22, 3) := dk_181 0 22 (dk_at dksX6_init_1 18 rfl rfl)
theorem dX6_init_44 : decode cX6_init 44 = .ok (.aload_n 0, 1) := dk_42 (dk_at dksX6_init_1 21 rfl rfl)
theorem dX6_init_45 : decode cX6_init 45 = .ok (.sipush 1110, 3) := dk_17 4 86 (dk_at dksX6_init_2 0 rfl rfl)
theorem dX6_init_48 : decode cX6_init 48 = .ok (.newarray .long, 2) := dk_188_11 (dk_at dksX6_init_2 3 rfl rfl)
theorem dX6_init_50 : decode cX6_init 50 = .ok (.putfield 25, 3) := dk_181 0 25 (dk_at dksX6_init_2 5 rfl rfl)
theorem dX6_init_53 : decode cX6_init 53 = .ok (.aload_n 0, 1) := dk_42 (dk_at dksX6_init_2 8 rfl rfl)
theorem dX6_init_54 : decode cX6_init 54 = .ok (.iconst 5, 1) := dk_8 (dk_at dksX6_init_2 9 rfl rfl)
theorem dX6_init_55 : decode cX6_init 55 = .ok (.newarray .long, 2) := dk_188_11 (dk_at dksX6_init_2 10 rfl rfl)
theorem dX6_init_57 : decode cX6_init 57 = .ok (.putfield 28, 3) := dk_181 0 28 (dk_at dksX6_init_2 12 rfl rfl)
theorem dX6_init_60 : decode cX6_init 60 = .ok (.aload_n 0, 1) := dk_42 (dk_at dksX6_init_2 15 rfl rfl)
theorem dX6_init_61 : decode cX6_init 61 = .ok (.iconst 5, 1) := dk_8 (dk_at dksX6_init_2 16 rfl rfl)
theorem dX6_init_62 : decode cX6_init 62 = .ok (.newarray .long, 2) := dk_188_11 (dk_at dksX6_init_2 17 rfl rfl)
theorem dX6_init_64 : decode cX6_init 64 = .ok (.putfield 31, 3) := dk_181 0 31 (dk_at dksX6_init_2 19 rfl rfl)
theorem dX6_init_67 : decode cX6_init 67 = .ok (.aload_n 0, 1) := dk_42 (dk_at dksX6_init_2 22 rfl rfl)
theorem dX6_init_68 : decode cX6_init 68 = .ok (.bipush 6, 2) := dk_16 6 (dk_at dksX6_init_3 0 rfl rfl)
theorem dX6_init_70 : decode cX6_init 70 = .ok (.newarray .long, 2) := dk_188_11 (dk_at dksX6_init_3 2 rfl rfl)
theorem dX6_init_72 : decode cX6_init 72 = .ok (.putfield 34, 3) := dk_181 0 34 (dk_at dksX6_init_3 4 rfl rfl)
theorem dX6_init_75 : decode cX6_init 75 = .ok (.aload_n 0, 1) := dk_42 (dk_at dksX6_init_3 7 rfl rfl)
theorem dX6_init_76 : decode cX6_init 76 = .ok (.sipush 600, 3) := dk_17 2 88 (dk_at dksX6_init_3 8 rfl rfl)
theorem dX6_init_79 : decode cX6_init 79 = .ok (.newarray .int, 2) := dk_188_10 (dk_at dksX6_init_3 11 rfl rfl)
theorem dX6_init_81 : decode cX6_init 81 = .ok (.putfield 37, 3) := dk_181 0 37 (dk_at dksX6_init_3 13 rfl rfl)
theorem dX6_init_84 : decode cX6_init 84 = .ok (.aload_n 0, 1) := dk_42 (dk_at dksX6_init_3 16 rfl rfl)
theorem dX6_init_85 : decode cX6_init 85 = .ok (.iconst (-1), 1) := dk_2 (dk_at dksX6_init_3 17 rfl rfl)
theorem dX6_init_86 : decode cX6_init 86 = .ok (.putfield 41, 3) := dk_181 0 41 (dk_at dksX6_init_3 18 rfl rfl)
theorem dX6_init_89 : decode cX6_init 89 = .ok (.aload_n 0, 1) := dk_42 (dk_at dksX6_init_3 21 rfl rfl)
theorem dX6_init_90 : decode cX6_init 90 = .ok (.bipush 6, 2) := dk_16 6 (dk_at dksX6_init_3 22 rfl rfl)
theorem dX6_init_92 : decode cX6_init 92 = .ok (.newarray .long, 2) := dk_188_11 (dk_at dksX6_init_4 0 rfl rfl)
theorem dX6_init_94 : decode cX6_init 94 = .ok (.putfield 45, 3) := dk_181 0 45 (dk_at dksX6_init_4 2 rfl rfl)
theorem dX6_init_97 : decode cX6_init 97 = .ok (.aload_n 0, 1) := dk_42 (dk_at dksX6_init_4 5 rfl rfl)
theorem dX6_init_98 : decode cX6_init 98 = .ok (.bipush 21, 2) := dk_16 21 (dk_at dksX6_init_4 6 rfl rfl)
theorem dX6_init_100 : decode cX6_init 100 = .ok (.newarray .long, 2) := dk_188_11 (dk_at dksX6_init_4 8 rfl rfl)
theorem dX6_init_102 : decode cX6_init 102 = .ok (.putfield 48, 3) := dk_181 0 48 (dk_at dksX6_init_4 10 rfl rfl)
theorem dX6_init_105 : decode cX6_init 105 = .ok (.aload_n 0, 1) := dk_42 (dk_at dksX6_init_4 13 rfl rfl)
theorem dX6_init_106 : decode cX6_init 106 = .ok (.sipush 1806, 3) := dk_17 7 14 (dk_at dksX6_init_4 14 rfl rfl)
theorem dX6_init_109 : decode cX6_init 109 = .ok (.newarray .long, 2) := dk_188_11 (dk_at dksX6_init_4 17 rfl rfl)
theorem dX6_init_111 : decode cX6_init 111 = .ok (.putfield 51, 3) := dk_181 0 51 (dk_at dksX6_init_4 19 rfl rfl)
theorem dX6_init_114 : decode cX6_init 114 = .ok (.aload_n 0, 1) := dk_42 (dk_at dksX6_init_4 22 rfl rfl)
theorem dX6_init_115 : decode cX6_init 115 = .ok (.sipush 301, 3) := dk_17 1 45 (dk_at dksX6_init_5 0 rfl rfl)
theorem dX6_init_118 : decode cX6_init 118 = .ok (.newarray .long, 2) := dk_188_11 (dk_at dksX6_init_5 3 rfl rfl)
theorem dX6_init_120 : decode cX6_init 120 = .ok (.putfield 54, 3) := dk_181 0 54 (dk_at dksX6_init_5 5 rfl rfl)
theorem dX6_init_123 : decode cX6_init 123 = .ok (.aload_n 0, 1) := dk_42 (dk_at dksX6_init_5 8 rfl rfl)
theorem dX6_init_124 : decode cX6_init 124 = .ok (.sipush 301, 3) := dk_17 1 45 (dk_at dksX6_init_5 9 rfl rfl)
theorem dX6_init_127 : decode cX6_init 127 = .ok (.newarray .long, 2) := dk_188_11 (dk_at dksX6_init_5 12 rfl rfl)
theorem dX6_init_129 : decode cX6_init 129 = .ok (.putfield 57, 3) := dk_181 0 57 (dk_at dksX6_init_5 14 rfl rfl)
theorem dX6_init_132 : decode cX6_init 132 = .ok (.aload_n 0, 1) := dk_42 (dk_at dksX6_init_5 17 rfl rfl)
theorem dX6_init_133 : decode cX6_init 133 = .ok (.sipush 301, 3) := dk_17 1 45 (dk_at dksX6_init_5 18 rfl rfl)
theorem dX6_init_136 : decode cX6_init 136 = .ok (.newarray .int, 2) := dk_188_10 (dk_at dksX6_init_5 21 rfl rfl)
theorem dX6_init_138 : decode cX6_init 138 = .ok (.putfield 60, 3) := dk_181 0 60 (dk_at dksX6_init_6 0 rfl rfl)
theorem dX6_init_141 : decode cX6_init 141 = .ok (.aload_n 0, 1) := dk_42 (dk_at dksX6_init_6 3 rfl rfl)
theorem dX6_init_142 : decode cX6_init 142 = .ok (.bipush 80, 2) := dk_16 80 (dk_at dksX6_init_6 4 rfl rfl)
theorem dX6_init_144 : decode cX6_init 144 = .ok (.newarray .byte, 2) := dk_188_8 (dk_at dksX6_init_6 6 rfl rfl)
theorem dX6_init_146 : decode cX6_init 146 = .ok (.putfield 63, 3) := dk_181 0 63 (dk_at dksX6_init_6 8 rfl rfl)
theorem dX6_init_149 : decode cX6_init 149 = .ok (.aload_n 0, 1) := dk_42 (dk_at dksX6_init_6 11 rfl rfl)
theorem dX6_init_150 : decode cX6_init 150 = .ok (.sipush 200, 3) := dk_17 0 200 (dk_at dksX6_init_6 12 rfl rfl)
theorem dX6_init_153 : decode cX6_init 153 = .ok (.newarray .int, 2) := dk_188_10 (dk_at dksX6_init_6 15 rfl rfl)
theorem dX6_init_155 : decode cX6_init 155 = .ok (.putfield 67, 3) := dk_181 0 67 (dk_at dksX6_init_6 17 rfl rfl)
theorem dX6_init_158 : decode cX6_init 158 = .ok (.aload_n 0, 1) := dk_42 (dk_at dksX6_init_6 20 rfl rfl)
theorem dX6_init_159 : decode cX6_init 159 = .ok (.sipush 200, 3) := dk_17 0 200 (dk_at dksX6_init_6 21 rfl rfl)
theorem dX6_init_162 : decode cX6_init 162 = .ok (.newarray .int, 2) := dk_188_10 (dk_at dksX6_init_7 0 rfl rfl)
theorem dX6_init_164 : decode cX6_init 164 = .ok (.putfield 70, 3) := dk_181 0 70 (dk_at dksX6_init_7 2 rfl rfl)
theorem dX6_init_167 : decode cX6_init 167 = .ok (.aload_n 0, 1) := dk_42 (dk_at dksX6_init_7 5 rfl rfl)
theorem dX6_init_168 : decode cX6_init 168 = .ok (.sipush 200, 3) := dk_17 0 200 (dk_at dksX6_init_7 6 rfl rfl)
theorem dX6_init_171 : decode cX6_init 171 = .ok (.newarray .int, 2) := dk_188_10 (dk_at dksX6_init_7 9 rfl rfl)
theorem dX6_init_173 : decode cX6_init 173 = .ok (.putfield 73, 3) := dk_181 0 73 (dk_at dksX6_init_7 11 rfl rfl)
theorem dX6_init_176 : decode cX6_init 176 = .ok (.aload_n 0, 1) := dk_42 (dk_at dksX6_init_7 14 rfl rfl)
theorem dX6_init_177 : decode cX6_init 177 = .ok (.invokevirtual 76, 3) := dk_182 0 76 (dk_at dksX6_init_7 15 rfl rfl)
theorem dX6_init_180 : decode cX6_init 180 = .ok (.iconst 0, 1) := dk_3 (dk_at dksX6_init_7 18 rfl rfl)
theorem dX6_init_181 : decode cX6_init 181 = .ok (.istore_n 1, 1) := dk_60 (dk_at dksX6_init_7 19 rfl rfl)
theorem dX6_init_182 : decode cX6_init 182 = .ok (.iload_n 1, 1) := dk_27 (dk_at dksX6_init_7 20 rfl rfl)
theorem dX6_init_183 : decode cX6_init 183 = .ok (.iconst 3, 1) := dk_6 (dk_at dksX6_init_7 21 rfl rfl)
theorem dX6_init_184 : decode cX6_init 184 = .ok (.if_icmp .ge 20, 3) := dk_162 0 20 (dk_at dksX6_init_8 0 rfl rfl)
theorem dX6_init_187 : decode cX6_init 187 = .ok (.aload_n 0, 1) := dk_42 (dk_at dksX6_init_8 3 rfl rfl)
theorem dX6_init_188 : decode cX6_init 188 = .ok (.getfield 16, 3) := dk_180 0 16 (dk_at dksX6_init_8 4 rfl rfl)
theorem dX6_init_191 : decode cX6_init 191 = .ok (.iload_n 1, 1) := dk_27 (dk_at dksX6_init_8 7 rfl rfl)
theorem dX6_init_192 : decode cX6_init 192 = .ok (.iconst 0, 1) := dk_3 (dk_at dksX6_init_8 8 rfl rfl)
theorem dX6_init_193 : decode cX6_init 193 = .ok (.invokestatic 79, 3) := dk_184 0 79 (dk_at dksX6_init_8 9 rfl rfl)
theorem dX6_init_196 : decode cX6_init 196 = .ok (.lconst 1, 1) := dk_10 (dk_at dksX6_init_8 12 rfl rfl)
theorem dX6_init_197 : decode cX6_init 197 = .ok (.lastore, 1) := dk_80 (dk_at dksX6_init_8 13 rfl rfl)
theorem dX6_init_198 : decode cX6_init 198 = .ok (.iinc 1 1, 3) := dk_132 1 1 (dk_at dksX6_init_8 14 rfl rfl)
theorem dX6_init_201 : decode cX6_init 201 = .ok (.goto (-19), 3) := dk_167 255 237 (dk_at dksX6_init_8 17 rfl rfl)
theorem dX6_init_204 : decode cX6_init 204 = .ok (.aload_n 0, 1) := dk_42 (dk_at dksX6_init_8 20 rfl rfl)
theorem dX6_init_205 : decode cX6_init 205 = .ok (.getfield 16, 3) := dk_180 0 16 (dk_at dksX6_init_8 21 rfl rfl)
theorem dX6_init_208 : decode cX6_init 208 = .ok (.iconst 1, 1) := dk_4 (dk_at dksX6_init_9 0 rfl rfl)
theorem dX6_init_209 : decode cX6_init 209 = .ok (.iconst 1, 1) := dk_4 (dk_at dksX6_init_9 1 rfl rfl)
theorem dX6_init_210 : decode cX6_init 210 = .ok (.invokestatic 79, 3) := dk_184 0 79 (dk_at dksX6_init_9 2 rfl rfl)
theorem dX6_init_213 : decode cX6_init 213 = .ok (.ldc2_w 83, 3) := dk_20 0 83 (dk_at dksX6_init_9 5 rfl rfl)
theorem dX6_init_216 : decode cX6_init 216 = .ok (.lastore, 1) := dk_80 (dk_at dksX6_init_9 8 rfl rfl)
theorem dX6_init_217 : decode cX6_init 217 = .ok (.aload_n 0, 1) := dk_42 (dk_at dksX6_init_9 9 rfl rfl)
theorem dX6_init_218 : decode cX6_init 218 = .ok (.getfield 16, 3) := dk_180 0 16 (dk_at dksX6_init_9 10 rfl rfl)
theorem dX6_init_221 : decode cX6_init 221 = .ok (.iconst 2, 1) := dk_5 (dk_at dksX6_init_9 13 rfl rfl)
theorem dX6_init_222 : decode cX6_init 222 = .ok (.iconst 2, 1) := dk_5 (dk_at dksX6_init_9 14 rfl rfl)
theorem dX6_init_223 : decode cX6_init 223 = .ok (.invokestatic 79, 3) := dk_184 0 79 (dk_at dksX6_init_9 15 rfl rfl)
theorem dX6_init_226 : decode cX6_init 226 = .ok (.ldc2_w 83, 3) := dk_20 0 83 (dk_at dksX6_init_9 18 rfl rfl)
theorem dX6_init_229 : decode cX6_init 229 = .ok (.lastore, 1) := dk_80 (dk_at dksX6_init_9 21 rfl rfl)
theorem dX6_init_230 : decode cX6_init 230 = .ok (.aload_n 0, 1) := dk_42 (dk_at dksX6_init_9 22 rfl rfl)
theorem dX6_init_231 : decode cX6_init 231 = .ok (.invokevirtual 85, 3) := dk_182 0 85 (dk_at dksX6_init_10 0 rfl rfl)
theorem dX6_init_234 : decode cX6_init 234 = .ok (.return_, 1) := dk_177 (dk_at dksX6_init_10 3 rfl rfl)
abbrev cX6_clears : ByteArray := prog_25_method_9_code
def yX6_clears : MethodName := ⟨RX6, "clears", "()V"⟩
def dkwX6_clears_2 : List UInt8 := [42, 180, 0, 31, 6, 20, 0, 93, 80, 42, 180, 0, 31, 7, 20, 0, 83, 80, 177]
abbrev dktX6_clears_2 : List UInt8 := dkwX6_clears_2 ++ []
def dkwX6_clears_1 : List UInt8 := [180, 0, 31, 3, 20, 0, 83, 80, 42, 180, 0, 31, 4, 20, 0, 91, 80, 42, 180, 0, 31, 5, 10, 80]
abbrev dktX6_clears_1 : List UInt8 := dkwX6_clears_1 ++ dktX6_clears_2
def dkwX6_clears_0 : List UInt8 := [3, 60, 27, 16, 111, 162, 0, 16, 42, 180, 0, 16, 27, 9, 80, 132, 1, 1, 167, 255, 240, 42]
abbrev dktX6_clears_0 : List UInt8 := dkwX6_clears_0 ++ dktX6_clears_1
theorem dksX6_clears_0 : cX6_clears.data.toList.drop 0 = dktX6_clears_0 := by decide +kernel
theorem dksX6_clears_1 : cX6_clears.data.toList.drop 22 = dktX6_clears_1 := dk_seg dksX6_clears_0 22 rfl rfl
theorem dksX6_clears_2 : cX6_clears.data.toList.drop 46 = dktX6_clears_2 := dk_seg dksX6_clears_1 24 rfl rfl
theorem dX6_clears_0 : decode cX6_clears 0 = .ok (.iconst 0, 1) := dk_3 (dk_at dksX6_clears_0 0 rfl rfl)
theorem dX6_clears_1 : decode cX6_clears 1 = .ok (.istore_n 1, 1) := dk_60 (dk_at dksX6_clears_0 1 rfl rfl)
theorem dX6_clears_2 : decode cX6_clears 2 = .ok (.iload_n 1, 1) := dk_27 (dk_at dksX6_clears_0 2 rfl rfl)
theorem dX6_clears_3 : decode cX6_clears 3 = .ok (.bipush 111, 2) := dk_16 111 (dk_at dksX6_clears_0 3 rfl rfl)
theorem dX6_clears_5 : decode cX6_clears 5 = .ok (.if_icmp .ge 16, 3) := dk_162 0 16 (dk_at dksX6_clears_0 5 rfl rfl)
theorem dX6_clears_8 : decode cX6_clears 8 = .ok (.aload_n 0, 1) := dk_42 (dk_at dksX6_clears_0 8 rfl rfl)
theorem dX6_clears_9 : decode cX6_clears 9 = .ok (.getfield 16, 3) := dk_180 0 16 (dk_at dksX6_clears_0 9 rfl rfl)
theorem dX6_clears_12 : decode cX6_clears 12 = .ok (.iload_n 1, 1) := dk_27 (dk_at dksX6_clears_0 12 rfl rfl)
theorem dX6_clears_13 : decode cX6_clears 13 = .ok (.lconst 0, 1) := dk_9 (dk_at dksX6_clears_0 13 rfl rfl)
theorem dX6_clears_14 : decode cX6_clears 14 = .ok (.lastore, 1) := dk_80 (dk_at dksX6_clears_0 14 rfl rfl)
theorem dX6_clears_15 : decode cX6_clears 15 = .ok (.iinc 1 1, 3) := dk_132 1 1 (dk_at dksX6_clears_0 15 rfl rfl)
theorem dX6_clears_18 : decode cX6_clears 18 = .ok (.goto (-16), 3) := dk_167 255 240 (dk_at dksX6_clears_0 18 rfl rfl)
theorem dX6_clears_21 : decode cX6_clears 21 = .ok (.aload_n 0, 1) := dk_42 (dk_at dksX6_clears_0 21 rfl rfl)
theorem dX6_clears_22 : decode cX6_clears 22 = .ok (.getfield 31, 3) := dk_180 0 31 (dk_at dksX6_clears_1 0 rfl rfl)
theorem dX6_clears_25 : decode cX6_clears 25 = .ok (.iconst 0, 1) := dk_3 (dk_at dksX6_clears_1 3 rfl rfl)
theorem dX6_clears_26 : decode cX6_clears 26 = .ok (.ldc2_w 83, 3) := dk_20 0 83 (dk_at dksX6_clears_1 4 rfl rfl)
theorem dX6_clears_29 : decode cX6_clears 29 = .ok (.lastore, 1) := dk_80 (dk_at dksX6_clears_1 7 rfl rfl)
theorem dX6_clears_30 : decode cX6_clears 30 = .ok (.aload_n 0, 1) := dk_42 (dk_at dksX6_clears_1 8 rfl rfl)
theorem dX6_clears_31 : decode cX6_clears 31 = .ok (.getfield 31, 3) := dk_180 0 31 (dk_at dksX6_clears_1 9 rfl rfl)
theorem dX6_clears_34 : decode cX6_clears 34 = .ok (.iconst 1, 1) := dk_4 (dk_at dksX6_clears_1 12 rfl rfl)
theorem dX6_clears_35 : decode cX6_clears 35 = .ok (.ldc2_w 91, 3) := dk_20 0 91 (dk_at dksX6_clears_1 13 rfl rfl)
theorem dX6_clears_38 : decode cX6_clears 38 = .ok (.lastore, 1) := dk_80 (dk_at dksX6_clears_1 16 rfl rfl)
theorem dX6_clears_39 : decode cX6_clears 39 = .ok (.aload_n 0, 1) := dk_42 (dk_at dksX6_clears_1 17 rfl rfl)
theorem dX6_clears_40 : decode cX6_clears 40 = .ok (.getfield 31, 3) := dk_180 0 31 (dk_at dksX6_clears_1 18 rfl rfl)
theorem dX6_clears_43 : decode cX6_clears 43 = .ok (.iconst 2, 1) := dk_5 (dk_at dksX6_clears_1 21 rfl rfl)
theorem dX6_clears_44 : decode cX6_clears 44 = .ok (.lconst 1, 1) := dk_10 (dk_at dksX6_clears_1 22 rfl rfl)
theorem dX6_clears_45 : decode cX6_clears 45 = .ok (.lastore, 1) := dk_80 (dk_at dksX6_clears_1 23 rfl rfl)
theorem dX6_clears_46 : decode cX6_clears 46 = .ok (.aload_n 0, 1) := dk_42 (dk_at dksX6_clears_2 0 rfl rfl)
theorem dX6_clears_47 : decode cX6_clears 47 = .ok (.getfield 31, 3) := dk_180 0 31 (dk_at dksX6_clears_2 1 rfl rfl)
theorem dX6_clears_50 : decode cX6_clears 50 = .ok (.iconst 3, 1) := dk_6 (dk_at dksX6_clears_2 4 rfl rfl)
theorem dX6_clears_51 : decode cX6_clears 51 = .ok (.ldc2_w 93, 3) := dk_20 0 93 (dk_at dksX6_clears_2 5 rfl rfl)
theorem dX6_clears_54 : decode cX6_clears 54 = .ok (.lastore, 1) := dk_80 (dk_at dksX6_clears_2 8 rfl rfl)
theorem dX6_clears_55 : decode cX6_clears 55 = .ok (.aload_n 0, 1) := dk_42 (dk_at dksX6_clears_2 9 rfl rfl)
theorem dX6_clears_56 : decode cX6_clears 56 = .ok (.getfield 31, 3) := dk_180 0 31 (dk_at dksX6_clears_2 10 rfl rfl)
theorem dX6_clears_59 : decode cX6_clears 59 = .ok (.iconst 4, 1) := dk_7 (dk_at dksX6_clears_2 13 rfl rfl)
theorem dX6_clears_60 : decode cX6_clears 60 = .ok (.ldc2_w 83, 3) := dk_20 0 83 (dk_at dksX6_clears_2 14 rfl rfl)
theorem dX6_clears_63 : decode cX6_clears 63 = .ok (.lastore, 1) := dk_80 (dk_at dksX6_clears_2 17 rfl rfl)
theorem dX6_clears_64 : decode cX6_clears 64 = .ok (.return_, 1) := dk_177 (dk_at dksX6_clears_2 18 rfl rfl)
abbrev cX6_at : ByteArray := prog_25_method_7_code
def yX6_at : MethodName := ⟨RX6, "at", "(II)I"⟩
def dkwX6_at_0 : List UInt8 := [16, 6, 8, 26, 104, 96, 27, 96, 172]
abbrev dktX6_at_0 : List UInt8 := dkwX6_at_0 ++ []
theorem dksX6_at_0 : cX6_at.data.toList.drop 0 = dktX6_at_0 := by decide +kernel
theorem dX6_at_0 : decode cX6_at 0 = .ok (.bipush 6, 2) := dk_16 6 (dk_at dksX6_at_0 0 rfl rfl)
theorem dX6_at_2 : decode cX6_at 2 = .ok (.iconst 5, 1) := dk_8 (dk_at dksX6_at_0 2 rfl rfl)
theorem dX6_at_3 : decode cX6_at 3 = .ok (.iload_n 0, 1) := dk_26 (dk_at dksX6_at_0 3 rfl rfl)
theorem dX6_at_4 : decode cX6_at 4 = .ok (.imul, 1) := dk_104 (dk_at dksX6_at_0 4 rfl rfl)
theorem dX6_at_5 : decode cX6_at 5 = .ok (.iadd, 1) := dk_96 (dk_at dksX6_at_0 5 rfl rfl)
theorem dX6_at_6 : decode cX6_at 6 = .ok (.iload_n 1, 1) := dk_27 (dk_at dksX6_at_0 6 rfl rfl)
theorem dX6_at_7 : decode cX6_at 7 = .ok (.iadd, 1) := dk_96 (dk_at dksX6_at_0 7 rfl rfl)
theorem dX6_at_8 : decode cX6_at 8 = .ok (.ireturn, 1) := dk_172 (dk_at dksX6_at_0 8 rfl rfl)
abbrev cX6_becomes : ByteArray := prog_25_method_10_code
def yX6_becomes : MethodName := ⟨RX6, "becomes", "()V"⟩
def dkwX6_becomes_3 : List UInt8 := [181, 0, 106, 42, 3, 181, 0, 110, 177]
abbrev dktX6_becomes_3 : List UInt8 := dkwX6_becomes_3 ++ []
def dkwX6_becomes_2 : List UInt8 := [182, 0, 99, 80, 42, 180, 0, 7, 7, 42, 180, 0, 7, 6, 47, 80, 42, 3, 181, 0, 103, 42, 3]
abbrev dktX6_becomes_2 : List UInt8 := dkwX6_becomes_2 ++ dktX6_becomes_3
def dkwX6_becomes_1 : List UInt8 := [167, 255, 236, 42, 180, 0, 16, 42, 180, 0, 7, 184, 0, 95, 42, 180, 0, 7, 6, 42, 42, 180, 0, 7]
abbrev dktX6_becomes_1 : List UInt8 := dkwX6_becomes_1 ++ dktX6_becomes_2
def dkwX6_becomes_0 : List UInt8 := [3, 60, 27, 8, 162, 0, 21, 42, 180, 0, 28, 27, 42, 180, 0, 31, 27, 47, 80, 132, 1, 1]
abbrev dktX6_becomes_0 : List UInt8 := dkwX6_becomes_0 ++ dktX6_becomes_1
theorem dksX6_becomes_0 : cX6_becomes.data.toList.drop 0 = dktX6_becomes_0 := by decide +kernel
theorem dksX6_becomes_1 : cX6_becomes.data.toList.drop 22 = dktX6_becomes_1 := dk_seg dksX6_becomes_0 22 rfl rfl
theorem dksX6_becomes_2 : cX6_becomes.data.toList.drop 46 = dktX6_becomes_2 := dk_seg dksX6_becomes_1 24 rfl rfl
theorem dksX6_becomes_3 : cX6_becomes.data.toList.drop 69 = dktX6_becomes_3 := dk_seg dksX6_becomes_2 23 rfl rfl
theorem dX6_becomes_0 : decode cX6_becomes 0 = .ok (.iconst 0, 1) := dk_3 (dk_at dksX6_becomes_0 0 rfl rfl)
theorem dX6_becomes_1 : decode cX6_becomes 1 = .ok (.istore_n 1, 1) := dk_60 (dk_at dksX6_becomes_0 1 rfl rfl)
theorem dX6_becomes_2 : decode cX6_becomes 2 = .ok (.iload_n 1, 1) := dk_27 (dk_at dksX6_becomes_0 2 rfl rfl)
theorem dX6_becomes_3 : decode cX6_becomes 3 = .ok (.iconst 5, 1) := dk_8 (dk_at dksX6_becomes_0 3 rfl rfl)
theorem dX6_becomes_4 : decode cX6_becomes 4 = .ok (.if_icmp .ge 21, 3) := dk_162 0 21 (dk_at dksX6_becomes_0 4 rfl rfl)
theorem dX6_becomes_7 : decode cX6_becomes 7 = .ok (.aload_n 0, 1) := dk_42 (dk_at dksX6_becomes_0 7 rfl rfl)
theorem dX6_becomes_8 : decode cX6_becomes 8 = .ok (.getfield 28, 3) := dk_180 0 28 (dk_at dksX6_becomes_0 8 rfl rfl)
theorem dX6_becomes_11 : decode cX6_becomes 11 = .ok (.iload_n 1, 1) := dk_27 (dk_at dksX6_becomes_0 11 rfl rfl)
theorem dX6_becomes_12 : decode cX6_becomes 12 = .ok (.aload_n 0, 1) := dk_42 (dk_at dksX6_becomes_0 12 rfl rfl)
theorem dX6_becomes_13 : decode cX6_becomes 13 = .ok (.getfield 31, 3) := dk_180 0 31 (dk_at dksX6_becomes_0 13 rfl rfl)
theorem dX6_becomes_16 : decode cX6_becomes 16 = .ok (.iload_n 1, 1) := dk_27 (dk_at dksX6_becomes_0 16 rfl rfl)
theorem dX6_becomes_17 : decode cX6_becomes 17 = .ok (.laload, 1) := dk_47 (dk_at dksX6_becomes_0 17 rfl rfl)
theorem dX6_becomes_18 : decode cX6_becomes 18 = .ok (.lastore, 1) := dk_80 (dk_at dksX6_becomes_0 18 rfl rfl)
theorem dX6_becomes_19 : decode cX6_becomes 19 = .ok (.iinc 1 1, 3) := dk_132 1 1 (dk_at dksX6_becomes_0 19 rfl rfl)
theorem dX6_becomes_22 : decode cX6_becomes 22 = .ok (.goto (-20), 3) := dk_167 255 236 (dk_at dksX6_becomes_1 0 rfl rfl)
theorem dX6_becomes_25 : decode cX6_becomes 25 = .ok (.aload_n 0, 1) := dk_42 (dk_at dksX6_becomes_1 3 rfl rfl)
theorem dX6_becomes_26 : decode cX6_becomes 26 = .ok (.getfield 16, 3) := dk_180 0 16 (dk_at dksX6_becomes_1 4 rfl rfl)
theorem dX6_becomes_29 : decode cX6_becomes 29 = .ok (.aload_n 0, 1) := dk_42 (dk_at dksX6_becomes_1 7 rfl rfl)
theorem dX6_becomes_30 : decode cX6_becomes 30 = .ok (.getfield 7, 3) := dk_180 0 7 (dk_at dksX6_becomes_1 8 rfl rfl)
theorem dX6_becomes_33 : decode cX6_becomes 33 = .ok (.invokestatic 95, 3) := dk_184 0 95 (dk_at dksX6_becomes_1 11 rfl rfl)
theorem dX6_becomes_36 : decode cX6_becomes 36 = .ok (.aload_n 0, 1) := dk_42 (dk_at dksX6_becomes_1 14 rfl rfl)
theorem dX6_becomes_37 : decode cX6_becomes 37 = .ok (.getfield 7, 3) := dk_180 0 7 (dk_at dksX6_becomes_1 15 rfl rfl)
theorem dX6_becomes_40 : decode cX6_becomes 40 = .ok (.iconst 3, 1) := dk_6 (dk_at dksX6_becomes_1 18 rfl rfl)
theorem dX6_becomes_41 : decode cX6_becomes 41 = .ok (.aload_n 0, 1) := dk_42 (dk_at dksX6_becomes_1 19 rfl rfl)
theorem dX6_becomes_42 : decode cX6_becomes 42 = .ok (.aload_n 0, 1) := dk_42 (dk_at dksX6_becomes_1 20 rfl rfl)
theorem dX6_becomes_43 : decode cX6_becomes 43 = .ok (.getfield 7, 3) := dk_180 0 7 (dk_at dksX6_becomes_1 21 rfl rfl)
theorem dX6_becomes_46 : decode cX6_becomes 46 = .ok (.invokevirtual 99, 3) := dk_182 0 99 (dk_at dksX6_becomes_2 0 rfl rfl)
theorem dX6_becomes_49 : decode cX6_becomes 49 = .ok (.lastore, 1) := dk_80 (dk_at dksX6_becomes_2 3 rfl rfl)
theorem dX6_becomes_50 : decode cX6_becomes 50 = .ok (.aload_n 0, 1) := dk_42 (dk_at dksX6_becomes_2 4 rfl rfl)
theorem dX6_becomes_51 : decode cX6_becomes 51 = .ok (.getfield 7, 3) := dk_180 0 7 (dk_at dksX6_becomes_2 5 rfl rfl)
theorem dX6_becomes_54 : decode cX6_becomes 54 = .ok (.iconst 4, 1) := dk_7 (dk_at dksX6_becomes_2 8 rfl rfl)
theorem dX6_becomes_55 : decode cX6_becomes 55 = .ok (.aload_n 0, 1) := dk_42 (dk_at dksX6_becomes_2 9 rfl rfl)
theorem dX6_becomes_56 : decode cX6_becomes 56 = .ok (.getfield 7, 3) := dk_180 0 7 (dk_at dksX6_becomes_2 10 rfl rfl)
theorem dX6_becomes_59 : decode cX6_becomes 59 = .ok (.iconst 3, 1) := dk_6 (dk_at dksX6_becomes_2 13 rfl rfl)
theorem dX6_becomes_60 : decode cX6_becomes 60 = .ok (.laload, 1) := dk_47 (dk_at dksX6_becomes_2 14 rfl rfl)
theorem dX6_becomes_61 : decode cX6_becomes 61 = .ok (.lastore, 1) := dk_80 (dk_at dksX6_becomes_2 15 rfl rfl)
theorem dX6_becomes_62 : decode cX6_becomes 62 = .ok (.aload_n 0, 1) := dk_42 (dk_at dksX6_becomes_2 16 rfl rfl)
theorem dX6_becomes_63 : decode cX6_becomes 63 = .ok (.iconst 0, 1) := dk_3 (dk_at dksX6_becomes_2 17 rfl rfl)
theorem dX6_becomes_64 : decode cX6_becomes 64 = .ok (.putfield 103, 3) := dk_181 0 103 (dk_at dksX6_becomes_2 18 rfl rfl)
theorem dX6_becomes_67 : decode cX6_becomes 67 = .ok (.aload_n 0, 1) := dk_42 (dk_at dksX6_becomes_2 21 rfl rfl)
theorem dX6_becomes_68 : decode cX6_becomes 68 = .ok (.iconst 0, 1) := dk_3 (dk_at dksX6_becomes_2 22 rfl rfl)
theorem dX6_becomes_69 : decode cX6_becomes 69 = .ok (.putfield 106, 3) := dk_181 0 106 (dk_at dksX6_becomes_3 0 rfl rfl)
theorem dX6_becomes_72 : decode cX6_becomes 72 = .ok (.aload_n 0, 1) := dk_42 (dk_at dksX6_becomes_3 3 rfl rfl)
theorem dX6_becomes_73 : decode cX6_becomes 73 = .ok (.iconst 0, 1) := dk_3 (dk_at dksX6_becomes_3 4 rfl rfl)
theorem dX6_becomes_74 : decode cX6_becomes 74 = .ok (.putfield 110, 3) := dk_181 0 110 (dk_at dksX6_becomes_3 5 rfl rfl)
theorem dX6_becomes_77 : decode cX6_becomes 77 = .ok (.return_, 1) := dk_177 (dk_at dksX6_becomes_3 8 rfl rfl)
abbrev cX6_copy : ByteArray := prog_25_method_8_code
def yX6_copy : MethodName := ⟨RX6, "copy", "([J[J)V"⟩
def dkwX6_copy_0 : List UInt8 := [3, 61, 28, 16, 111, 162, 0, 15, 43, 28, 42, 28, 47, 80, 132, 2, 1, 167, 255, 241, 177]
abbrev dktX6_copy_0 : List UInt8 := dkwX6_copy_0 ++ []
theorem dksX6_copy_0 : cX6_copy.data.toList.drop 0 = dktX6_copy_0 := by decide +kernel
theorem dX6_copy_0 : decode cX6_copy 0 = .ok (.iconst 0, 1) := dk_3 (dk_at dksX6_copy_0 0 rfl rfl)
theorem dX6_copy_1 : decode cX6_copy 1 = .ok (.istore_n 2, 1) := dk_61 (dk_at dksX6_copy_0 1 rfl rfl)
theorem dX6_copy_2 : decode cX6_copy 2 = .ok (.iload_n 2, 1) := dk_28 (dk_at dksX6_copy_0 2 rfl rfl)
theorem dX6_copy_3 : decode cX6_copy 3 = .ok (.bipush 111, 2) := dk_16 111 (dk_at dksX6_copy_0 3 rfl rfl)
theorem dX6_copy_5 : decode cX6_copy 5 = .ok (.if_icmp .ge 15, 3) := dk_162 0 15 (dk_at dksX6_copy_0 5 rfl rfl)
theorem dX6_copy_8 : decode cX6_copy 8 = .ok (.aload_n 1, 1) := dk_43 (dk_at dksX6_copy_0 8 rfl rfl)
theorem dX6_copy_9 : decode cX6_copy 9 = .ok (.iload_n 2, 1) := dk_28 (dk_at dksX6_copy_0 9 rfl rfl)
theorem dX6_copy_10 : decode cX6_copy 10 = .ok (.aload_n 0, 1) := dk_42 (dk_at dksX6_copy_0 10 rfl rfl)
theorem dX6_copy_11 : decode cX6_copy 11 = .ok (.iload_n 2, 1) := dk_28 (dk_at dksX6_copy_0 11 rfl rfl)
theorem dX6_copy_12 : decode cX6_copy 12 = .ok (.laload, 1) := dk_47 (dk_at dksX6_copy_0 12 rfl rfl)
theorem dX6_copy_13 : decode cX6_copy 13 = .ok (.lastore, 1) := dk_80 (dk_at dksX6_copy_0 13 rfl rfl)
theorem dX6_copy_14 : decode cX6_copy 14 = .ok (.iinc 2 1, 3) := dk_132 2 1 (dk_at dksX6_copy_0 14 rfl rfl)
theorem dX6_copy_17 : decode cX6_copy 17 = .ok (.goto (-15), 3) := dk_167 255 241 (dk_at dksX6_copy_0 17 rfl rfl)
theorem dX6_copy_20 : decode cX6_copy 20 = .ok (.return_, 1) := dk_177 (dk_at dksX6_copy_0 20 rfl rfl)
abbrev cX6_energy : ByteArray := prog_25_method_42_code
def yX6_energy : MethodName := ⟨RX6, "energy", "([J)J"⟩
def dkwX6_energy_0 : List UInt8 := [43, 184, 1, 12, 42, 43, 182, 1, 15, 97, 173]
abbrev dktX6_energy_0 : List UInt8 := dkwX6_energy_0 ++ []
theorem dksX6_energy_0 : cX6_energy.data.toList.drop 0 = dktX6_energy_0 := by decide +kernel
theorem dX6_energy_0 : decode cX6_energy 0 = .ok (.aload_n 1, 1) := dk_43 (dk_at dksX6_energy_0 0 rfl rfl)
theorem dX6_energy_1 : decode cX6_energy 1 = .ok (.invokestatic 268, 3) := dk_184 1 12 (dk_at dksX6_energy_0 1 rfl rfl)
theorem dX6_energy_4 : decode cX6_energy 4 = .ok (.aload_n 0, 1) := dk_42 (dk_at dksX6_energy_0 4 rfl rfl)
theorem dX6_energy_5 : decode cX6_energy 5 = .ok (.aload_n 1, 1) := dk_43 (dk_at dksX6_energy_0 5 rfl rfl)
theorem dX6_energy_6 : decode cX6_energy 6 = .ok (.invokevirtual 271, 3) := dk_182 1 15 (dk_at dksX6_energy_0 6 rfl rfl)
theorem dX6_energy_9 : decode cX6_energy 9 = .ok (.ladd, 1) := dk_97 (dk_at dksX6_energy_0 9 rfl rfl)
theorem dX6_energy_10 : decode cX6_energy 10 = .ok (.lreturn, 1) := dk_173 (dk_at dksX6_energy_0 10 rfl rfl)
abbrev cX6_kineticOf : ByteArray := prog_25_method_43_code
def yX6_kineticOf : MethodName := ⟨RX6, "kineticOf", "([J)J"⟩
def dkwX6_kineticOf_2 : List UInt8 := [184, 0, 79, 47, 105, 109, 97, 64, 132, 3, 1, 167, 255, 202, 31, 173]
abbrev dktX6_kineticOf_2 : List UInt8 := dkwX6_kineticOf_2 ++ []
def dkwX6_kineticOf_1 : List UInt8 := [105, 42, 29, 7, 184, 0, 79, 47, 42, 29, 7, 184, 0, 79, 47, 105, 97, 20, 0, 203, 42, 29, 3]
abbrev dktX6_kineticOf_1 : List UInt8 := dkwX6_kineticOf_1 ++ dktX6_kineticOf_2
def dkwX6_kineticOf_0 : List UInt8 := [9, 64, 3, 62, 29, 6, 162, 0, 55, 31, 42, 29, 6, 184, 0, 79, 47, 42, 29, 6, 184, 0, 79, 47]
abbrev dktX6_kineticOf_0 : List UInt8 := dkwX6_kineticOf_0 ++ dktX6_kineticOf_1
theorem dksX6_kineticOf_0 : cX6_kineticOf.data.toList.drop 0 = dktX6_kineticOf_0 := by decide +kernel
theorem dksX6_kineticOf_1 : cX6_kineticOf.data.toList.drop 24 = dktX6_kineticOf_1 := dk_seg dksX6_kineticOf_0 24 rfl rfl
theorem dksX6_kineticOf_2 : cX6_kineticOf.data.toList.drop 47 = dktX6_kineticOf_2 := dk_seg dksX6_kineticOf_1 23 rfl rfl
theorem dX6_kineticOf_0 : decode cX6_kineticOf 0 = .ok (.lconst 0, 1) := dk_9 (dk_at dksX6_kineticOf_0 0 rfl rfl)
theorem dX6_kineticOf_1 : decode cX6_kineticOf 1 = .ok (.lstore_n 1, 1) := dk_64 (dk_at dksX6_kineticOf_0 1 rfl rfl)
theorem dX6_kineticOf_2 : decode cX6_kineticOf 2 = .ok (.iconst 0, 1) := dk_3 (dk_at dksX6_kineticOf_0 2 rfl rfl)
theorem dX6_kineticOf_3 : decode cX6_kineticOf 3 = .ok (.istore_n 3, 1) := dk_62 (dk_at dksX6_kineticOf_0 3 rfl rfl)
theorem dX6_kineticOf_4 : decode cX6_kineticOf 4 = .ok (.iload_n 3, 1) := dk_29 (dk_at dksX6_kineticOf_0 4 rfl rfl)
theorem dX6_kineticOf_5 : decode cX6_kineticOf 5 = .ok (.iconst 3, 1) := dk_6 (dk_at dksX6_kineticOf_0 5 rfl rfl)
theorem dX6_kineticOf_6 : decode cX6_kineticOf 6 = .ok (.if_icmp .ge 55, 3) := dk_162 0 55 (dk_at dksX6_kineticOf_0 6 rfl rfl)
theorem dX6_kineticOf_9 : decode cX6_kineticOf 9 = .ok (.lload_n 1, 1) := dk_31 (dk_at dksX6_kineticOf_0 9 rfl rfl)
theorem dX6_kineticOf_10 : decode cX6_kineticOf 10 = .ok (.aload_n 0, 1) := dk_42 (dk_at dksX6_kineticOf_0 10 rfl rfl)
theorem dX6_kineticOf_11 : decode cX6_kineticOf 11 = .ok (.iload_n 3, 1) := dk_29 (dk_at dksX6_kineticOf_0 11 rfl rfl)
theorem dX6_kineticOf_12 : decode cX6_kineticOf 12 = .ok (.iconst 3, 1) := dk_6 (dk_at dksX6_kineticOf_0 12 rfl rfl)
theorem dX6_kineticOf_13 : decode cX6_kineticOf 13 = .ok (.invokestatic 79, 3) := dk_184 0 79 (dk_at dksX6_kineticOf_0 13 rfl rfl)
theorem dX6_kineticOf_16 : decode cX6_kineticOf 16 = .ok (.laload, 1) := dk_47 (dk_at dksX6_kineticOf_0 16 rfl rfl)
theorem dX6_kineticOf_17 : decode cX6_kineticOf 17 = .ok (.aload_n 0, 1) := dk_42 (dk_at dksX6_kineticOf_0 17 rfl rfl)
theorem dX6_kineticOf_18 : decode cX6_kineticOf 18 = .ok (.iload_n 3, 1) := dk_29 (dk_at dksX6_kineticOf_0 18 rfl rfl)
theorem dX6_kineticOf_19 : decode cX6_kineticOf 19 = .ok (.iconst 3, 1) := dk_6 (dk_at dksX6_kineticOf_0 19 rfl rfl)
theorem dX6_kineticOf_20 : decode cX6_kineticOf 20 = .ok (.invokestatic 79, 3) := dk_184 0 79 (dk_at dksX6_kineticOf_0 20 rfl rfl)
theorem dX6_kineticOf_23 : decode cX6_kineticOf 23 = .ok (.laload, 1) := dk_47 (dk_at dksX6_kineticOf_0 23 rfl rfl)
theorem dX6_kineticOf_24 : decode cX6_kineticOf 24 = .ok (.lmul, 1) := dk_105 (dk_at dksX6_kineticOf_1 0 rfl rfl)
theorem dX6_kineticOf_25 : decode cX6_kineticOf 25 = .ok (.aload_n 0, 1) := dk_42 (dk_at dksX6_kineticOf_1 1 rfl rfl)
theorem dX6_kineticOf_26 : decode cX6_kineticOf 26 = .ok (.iload_n 3, 1) := dk_29 (dk_at dksX6_kineticOf_1 2 rfl rfl)
theorem dX6_kineticOf_27 : decode cX6_kineticOf 27 = .ok (.iconst 4, 1) := dk_7 (dk_at dksX6_kineticOf_1 3 rfl rfl)
theorem dX6_kineticOf_28 : decode cX6_kineticOf 28 = .ok (.invokestatic 79, 3) := dk_184 0 79 (dk_at dksX6_kineticOf_1 4 rfl rfl)
theorem dX6_kineticOf_31 : decode cX6_kineticOf 31 = .ok (.laload, 1) := dk_47 (dk_at dksX6_kineticOf_1 7 rfl rfl)
theorem dX6_kineticOf_32 : decode cX6_kineticOf 32 = .ok (.aload_n 0, 1) := dk_42 (dk_at dksX6_kineticOf_1 8 rfl rfl)
theorem dX6_kineticOf_33 : decode cX6_kineticOf 33 = .ok (.iload_n 3, 1) := dk_29 (dk_at dksX6_kineticOf_1 9 rfl rfl)
theorem dX6_kineticOf_34 : decode cX6_kineticOf 34 = .ok (.iconst 4, 1) := dk_7 (dk_at dksX6_kineticOf_1 10 rfl rfl)
theorem dX6_kineticOf_35 : decode cX6_kineticOf 35 = .ok (.invokestatic 79, 3) := dk_184 0 79 (dk_at dksX6_kineticOf_1 11 rfl rfl)
theorem dX6_kineticOf_38 : decode cX6_kineticOf 38 = .ok (.laload, 1) := dk_47 (dk_at dksX6_kineticOf_1 14 rfl rfl)
theorem dX6_kineticOf_39 : decode cX6_kineticOf 39 = .ok (.lmul, 1) := dk_105 (dk_at dksX6_kineticOf_1 15 rfl rfl)
theorem dX6_kineticOf_40 : decode cX6_kineticOf 40 = .ok (.ladd, 1) := dk_97 (dk_at dksX6_kineticOf_1 16 rfl rfl)
theorem dX6_kineticOf_41 : decode cX6_kineticOf 41 = .ok (.ldc2_w 203, 3) := dk_20 0 203 (dk_at dksX6_kineticOf_1 17 rfl rfl)
theorem dX6_kineticOf_44 : decode cX6_kineticOf 44 = .ok (.aload_n 0, 1) := dk_42 (dk_at dksX6_kineticOf_1 20 rfl rfl)
theorem dX6_kineticOf_45 : decode cX6_kineticOf 45 = .ok (.iload_n 3, 1) := dk_29 (dk_at dksX6_kineticOf_1 21 rfl rfl)
theorem dX6_kineticOf_46 : decode cX6_kineticOf 46 = .ok (.iconst 0, 1) := dk_3 (dk_at dksX6_kineticOf_1 22 rfl rfl)
theorem dX6_kineticOf_47 : decode cX6_kineticOf 47 = .ok (.invokestatic 79, 3) := dk_184 0 79 (dk_at dksX6_kineticOf_2 0 rfl rfl)
theorem dX6_kineticOf_50 : decode cX6_kineticOf 50 = .ok (.laload, 1) := dk_47 (dk_at dksX6_kineticOf_2 3 rfl rfl)
theorem dX6_kineticOf_51 : decode cX6_kineticOf 51 = .ok (.lmul, 1) := dk_105 (dk_at dksX6_kineticOf_2 4 rfl rfl)
theorem dX6_kineticOf_52 : decode cX6_kineticOf 52 = .ok (.ldiv, 1) := dk_109 (dk_at dksX6_kineticOf_2 5 rfl rfl)
theorem dX6_kineticOf_53 : decode cX6_kineticOf 53 = .ok (.ladd, 1) := dk_97 (dk_at dksX6_kineticOf_2 6 rfl rfl)
theorem dX6_kineticOf_54 : decode cX6_kineticOf 54 = .ok (.lstore_n 1, 1) := dk_64 (dk_at dksX6_kineticOf_2 7 rfl rfl)
theorem dX6_kineticOf_55 : decode cX6_kineticOf 55 = .ok (.iinc 3 1, 3) := dk_132 3 1 (dk_at dksX6_kineticOf_2 8 rfl rfl)
theorem dX6_kineticOf_58 : decode cX6_kineticOf 58 = .ok (.goto (-54), 3) := dk_167 255 202 (dk_at dksX6_kineticOf_2 11 rfl rfl)
theorem dX6_kineticOf_61 : decode cX6_kineticOf 61 = .ok (.lload_n 1, 1) := dk_31 (dk_at dksX6_kineticOf_2 14 rfl rfl)
theorem dX6_kineticOf_62 : decode cX6_kineticOf 62 = .ok (.lreturn, 1) := dk_173 (dk_at dksX6_kineticOf_2 15 rfl rfl)
abbrev cX6_potentialOf : ByteArray := prog_25_method_44_code
def yX6_potentialOf : MethodName := ⟨RX6, "potentialOf", "([J)J"⟩
def dkwX6_potentialOf_2 : List UInt8 := [182, 1, 9, 109, 101, 65, 132, 4, 1, 167, 255, 206, 32, 173]
abbrev dktX6_potentialOf_2 : List UInt8 := dkwX6_potentialOf_2 ++ []
def dkwX6_potentialOf_1 : List UInt8 := [3, 184, 0, 79, 47, 105, 43, 21, 4, 184, 0, 255, 3, 184, 0, 79, 47, 105, 42, 43, 21, 4]
abbrev dktX6_potentialOf_1 : List UInt8 := dkwX6_potentialOf_1 ++ dktX6_potentialOf_2
def dkwX6_potentialOf_0 : List UInt8 := [9, 65, 3, 54, 4, 21, 4, 6, 162, 0, 50, 32, 42, 180, 0, 28, 3, 47, 43, 21, 4, 184, 0, 252]
abbrev dktX6_potentialOf_0 : List UInt8 := dkwX6_potentialOf_0 ++ dktX6_potentialOf_1
theorem dksX6_potentialOf_0 : cX6_potentialOf.data.toList.drop 0 = dktX6_potentialOf_0 := by decide +kernel
theorem dksX6_potentialOf_1 : cX6_potentialOf.data.toList.drop 24 = dktX6_potentialOf_1 := dk_seg dksX6_potentialOf_0 24 rfl rfl
theorem dksX6_potentialOf_2 : cX6_potentialOf.data.toList.drop 46 = dktX6_potentialOf_2 := dk_seg dksX6_potentialOf_1 22 rfl rfl
theorem dX6_potentialOf_0 : decode cX6_potentialOf 0 = .ok (.lconst 0, 1) := dk_9 (dk_at dksX6_potentialOf_0 0 rfl rfl)
theorem dX6_potentialOf_1 : decode cX6_potentialOf 1 = .ok (.lstore_n 2, 1) := dk_65 (dk_at dksX6_potentialOf_0 1 rfl rfl)
theorem dX6_potentialOf_2 : decode cX6_potentialOf 2 = .ok (.iconst 0, 1) := dk_3 (dk_at dksX6_potentialOf_0 2 rfl rfl)
theorem dX6_potentialOf_3 : decode cX6_potentialOf 3 = .ok (.istore 4, 2) := dk_54 4 (dk_at dksX6_potentialOf_0 3 rfl rfl)
theorem dX6_potentialOf_5 : decode cX6_potentialOf 5 = .ok (.iload 4, 2) := dk_21 4 (dk_at dksX6_potentialOf_0 5 rfl rfl)
theorem dX6_potentialOf_7 : decode cX6_potentialOf 7 = .ok (.iconst 3, 1) := dk_6 (dk_at dksX6_potentialOf_0 7 rfl rfl)
theorem dX6_potentialOf_8 : decode cX6_potentialOf 8 = .ok (.if_icmp .ge 50, 3) := dk_162 0 50 (dk_at dksX6_potentialOf_0 8 rfl rfl)
theorem dX6_potentialOf_11 : decode cX6_potentialOf 11 = .ok (.lload_n 2, 1) := dk_32 (dk_at dksX6_potentialOf_0 11 rfl rfl)
theorem dX6_potentialOf_12 : decode cX6_potentialOf 12 = .ok (.aload_n 0, 1) := dk_42 (dk_at dksX6_potentialOf_0 12 rfl rfl)
theorem dX6_potentialOf_13 : decode cX6_potentialOf 13 = .ok (.getfield 28, 3) := dk_180 0 28 (dk_at dksX6_potentialOf_0 13 rfl rfl)
theorem dX6_potentialOf_16 : decode cX6_potentialOf 16 = .ok (.iconst 0, 1) := dk_3 (dk_at dksX6_potentialOf_0 16 rfl rfl)
theorem dX6_potentialOf_17 : decode cX6_potentialOf 17 = .ok (.laload, 1) := dk_47 (dk_at dksX6_potentialOf_0 17 rfl rfl)
theorem dX6_potentialOf_18 : decode cX6_potentialOf 18 = .ok (.aload_n 1, 1) := dk_43 (dk_at dksX6_potentialOf_0 18 rfl rfl)
theorem dX6_potentialOf_19 : decode cX6_potentialOf 19 = .ok (.iload 4, 2) := dk_21 4 (dk_at dksX6_potentialOf_0 19 rfl rfl)
theorem dX6_potentialOf_21 : decode cX6_potentialOf 21 = .ok (.invokestatic 252, 3) := dk_184 0 252 (dk_at dksX6_potentialOf_0 21 rfl rfl)
theorem dX6_potentialOf_24 : decode cX6_potentialOf 24 = .ok (.iconst 0, 1) := dk_3 (dk_at dksX6_potentialOf_1 0 rfl rfl)
theorem dX6_potentialOf_25 : decode cX6_potentialOf 25 = .ok (.invokestatic 79, 3) := dk_184 0 79 (dk_at dksX6_potentialOf_1 1 rfl rfl)
theorem dX6_potentialOf_28 : decode cX6_potentialOf 28 = .ok (.laload, 1) := dk_47 (dk_at dksX6_potentialOf_1 4 rfl rfl)
theorem dX6_potentialOf_29 : decode cX6_potentialOf 29 = .ok (.lmul, 1) := dk_105 (dk_at dksX6_potentialOf_1 5 rfl rfl)
theorem dX6_potentialOf_30 : decode cX6_potentialOf 30 = .ok (.aload_n 1, 1) := dk_43 (dk_at dksX6_potentialOf_1 6 rfl rfl)
theorem dX6_potentialOf_31 : decode cX6_potentialOf 31 = .ok (.iload 4, 2) := dk_21 4 (dk_at dksX6_potentialOf_1 7 rfl rfl)
theorem dX6_potentialOf_33 : decode cX6_potentialOf 33 = .ok (.invokestatic 255, 3) := dk_184 0 255 (dk_at dksX6_potentialOf_1 9 rfl rfl)
theorem dX6_potentialOf_36 : decode cX6_potentialOf 36 = .ok (.iconst 0, 1) := dk_3 (dk_at dksX6_potentialOf_1 12 rfl rfl)
theorem dX6_potentialOf_37 : decode cX6_potentialOf 37 = .ok (.invokestatic 79, 3) := dk_184 0 79 (dk_at dksX6_potentialOf_1 13 rfl rfl)
theorem dX6_potentialOf_40 : decode cX6_potentialOf 40 = .ok (.laload, 1) := dk_47 (dk_at dksX6_potentialOf_1 16 rfl rfl)
theorem dX6_potentialOf_41 : decode cX6_potentialOf 41 = .ok (.lmul, 1) := dk_105 (dk_at dksX6_potentialOf_1 17 rfl rfl)
theorem dX6_potentialOf_42 : decode cX6_potentialOf 42 = .ok (.aload_n 0, 1) := dk_42 (dk_at dksX6_potentialOf_1 18 rfl rfl)
theorem dX6_potentialOf_43 : decode cX6_potentialOf 43 = .ok (.aload_n 1, 1) := dk_43 (dk_at dksX6_potentialOf_1 19 rfl rfl)
theorem dX6_potentialOf_44 : decode cX6_potentialOf 44 = .ok (.iload 4, 2) := dk_21 4 (dk_at dksX6_potentialOf_1 20 rfl rfl)
theorem dX6_potentialOf_46 : decode cX6_potentialOf 46 = .ok (.invokevirtual 265, 3) := dk_182 1 9 (dk_at dksX6_potentialOf_2 0 rfl rfl)
theorem dX6_potentialOf_49 : decode cX6_potentialOf 49 = .ok (.ldiv, 1) := dk_109 (dk_at dksX6_potentialOf_2 3 rfl rfl)
theorem dX6_potentialOf_50 : decode cX6_potentialOf 50 = .ok (.lsub, 1) := dk_101 (dk_at dksX6_potentialOf_2 4 rfl rfl)
theorem dX6_potentialOf_51 : decode cX6_potentialOf 51 = .ok (.lstore_n 2, 1) := dk_65 (dk_at dksX6_potentialOf_2 5 rfl rfl)
theorem dX6_potentialOf_52 : decode cX6_potentialOf 52 = .ok (.iinc 4 1, 3) := dk_132 4 1 (dk_at dksX6_potentialOf_2 6 rfl rfl)
theorem dX6_potentialOf_55 : decode cX6_potentialOf 55 = .ok (.goto (-50), 3) := dk_167 255 206 (dk_at dksX6_potentialOf_2 9 rfl rfl)
theorem dX6_potentialOf_58 : decode cX6_potentialOf 58 = .ok (.lload_n 2, 1) := dk_32 (dk_at dksX6_potentialOf_2 12 rfl rfl)
theorem dX6_potentialOf_59 : decode cX6_potentialOf 59 = .ok (.lreturn, 1) := dk_173 (dk_at dksX6_potentialOf_2 13 rfl rfl)
abbrev cX6_firstOf : ByteArray := prog_25_method_35_code
def yX6_firstOf : MethodName := ⟨RX6, "firstOf", "(I)I"⟩
def dkwX6_firstOf_0 : List UInt8 := [26, 5, 160, 0, 7, 4, 167, 0, 4, 3, 172]
abbrev dktX6_firstOf_0 : List UInt8 := dkwX6_firstOf_0 ++ []
theorem dksX6_firstOf_0 : cX6_firstOf.data.toList.drop 0 = dktX6_firstOf_0 := by decide +kernel
theorem dX6_firstOf_0 : decode cX6_firstOf 0 = .ok (.iload_n 0, 1) := dk_26 (dk_at dksX6_firstOf_0 0 rfl rfl)
theorem dX6_firstOf_1 : decode cX6_firstOf 1 = .ok (.iconst 2, 1) := dk_5 (dk_at dksX6_firstOf_0 1 rfl rfl)
theorem dX6_firstOf_2 : decode cX6_firstOf 2 = .ok (.if_icmp .ne 7, 3) := dk_160 0 7 (dk_at dksX6_firstOf_0 2 rfl rfl)
theorem dX6_firstOf_5 : decode cX6_firstOf 5 = .ok (.iconst 1, 1) := dk_4 (dk_at dksX6_firstOf_0 5 rfl rfl)
theorem dX6_firstOf_6 : decode cX6_firstOf 6 = .ok (.goto 4, 3) := dk_167 0 4 (dk_at dksX6_firstOf_0 6 rfl rfl)
theorem dX6_firstOf_9 : decode cX6_firstOf 9 = .ok (.iconst 0, 1) := dk_3 (dk_at dksX6_firstOf_0 9 rfl rfl)
theorem dX6_firstOf_10 : decode cX6_firstOf 10 = .ok (.ireturn, 1) := dk_172 (dk_at dksX6_firstOf_0 10 rfl rfl)
abbrev cX6_secondOf : ByteArray := prog_25_method_36_code
def yX6_secondOf : MethodName := ⟨RX6, "secondOf", "(I)I"⟩
def dkwX6_secondOf_0 : List UInt8 := [26, 154, 0, 7, 4, 167, 0, 4, 5, 172]
abbrev dktX6_secondOf_0 : List UInt8 := dkwX6_secondOf_0 ++ []
theorem dksX6_secondOf_0 : cX6_secondOf.data.toList.drop 0 = dktX6_secondOf_0 := by decide +kernel
theorem dX6_secondOf_0 : decode cX6_secondOf 0 = .ok (.iload_n 0, 1) := dk_26 (dk_at dksX6_secondOf_0 0 rfl rfl)
theorem dX6_secondOf_1 : decode cX6_secondOf 1 = .ok (.ifCond .ne 7, 3) := dk_154 0 7 (dk_at dksX6_secondOf_0 1 rfl rfl)
theorem dX6_secondOf_4 : decode cX6_secondOf 4 = .ok (.iconst 1, 1) := dk_4 (dk_at dksX6_secondOf_0 4 rfl rfl)
theorem dX6_secondOf_5 : decode cX6_secondOf 5 = .ok (.goto 4, 3) := dk_167 0 4 (dk_at dksX6_secondOf_0 5 rfl rfl)
theorem dX6_secondOf_8 : decode cX6_secondOf 8 = .ok (.iconst 2, 1) := dk_5 (dk_at dksX6_secondOf_0 8 rfl rfl)
theorem dX6_secondOf_9 : decode cX6_secondOf 9 = .ok (.ireturn, 1) := dk_172 (dk_at dksX6_secondOf_0 9 rfl rfl)
abbrev cX6_reachOf : ByteArray := prog_25_method_40_code
def yX6_reachOf : MethodName := ⟨RX6, "reachOf", "([JI)J"⟩
def dkwX6_reachOf_0 : List UInt8 := [43, 28, 184, 1, 5, 42, 180, 0, 28, 4, 47, 97, 173]
abbrev dktX6_reachOf_0 : List UInt8 := dkwX6_reachOf_0 ++ []
theorem dksX6_reachOf_0 : cX6_reachOf.data.toList.drop 0 = dktX6_reachOf_0 := by decide +kernel
theorem dX6_reachOf_0 : decode cX6_reachOf 0 = .ok (.aload_n 1, 1) := dk_43 (dk_at dksX6_reachOf_0 0 rfl rfl)
theorem dX6_reachOf_1 : decode cX6_reachOf 1 = .ok (.iload_n 2, 1) := dk_28 (dk_at dksX6_reachOf_0 1 rfl rfl)
theorem dX6_reachOf_2 : decode cX6_reachOf 2 = .ok (.invokestatic 261, 3) := dk_184 1 5 (dk_at dksX6_reachOf_0 2 rfl rfl)
theorem dX6_reachOf_5 : decode cX6_reachOf 5 = .ok (.aload_n 0, 1) := dk_42 (dk_at dksX6_reachOf_0 5 rfl rfl)
theorem dX6_reachOf_6 : decode cX6_reachOf 6 = .ok (.getfield 28, 3) := dk_180 0 28 (dk_at dksX6_reachOf_0 6 rfl rfl)
theorem dX6_reachOf_9 : decode cX6_reachOf 9 = .ok (.iconst 1, 1) := dk_4 (dk_at dksX6_reachOf_0 9 rfl rfl)
theorem dX6_reachOf_10 : decode cX6_reachOf 10 = .ok (.laload, 1) := dk_47 (dk_at dksX6_reachOf_0 10 rfl rfl)
theorem dX6_reachOf_11 : decode cX6_reachOf 11 = .ok (.ladd, 1) := dk_97 (dk_at dksX6_reachOf_0 11 rfl rfl)
theorem dX6_reachOf_12 : decode cX6_reachOf 12 = .ok (.lreturn, 1) := dk_173 (dk_at dksX6_reachOf_0 12 rfl rfl)
abbrev cX6_distanceOf : ByteArray := prog_25_method_39_code
def yX6_distanceOf : MethodName := ⟨RX6, "distanceOf", "([JI)J"⟩
def dkwX6_distanceOf_1 : List UInt8 := [101, 42, 29, 5, 184, 0, 79, 47, 42, 28, 5, 184, 0, 79, 47, 101, 184, 1, 2, 173]
abbrev dktX6_distanceOf_1 : List UInt8 := dkwX6_distanceOf_1 ++ []
def dkwX6_distanceOf_0 : List UInt8 := [27, 184, 0, 252, 61, 27, 184, 0, 255, 62, 42, 29, 4, 184, 0, 79, 47, 42, 28, 4, 184, 0, 79, 47]
abbrev dktX6_distanceOf_0 : List UInt8 := dkwX6_distanceOf_0 ++ dktX6_distanceOf_1
theorem dksX6_distanceOf_0 : cX6_distanceOf.data.toList.drop 0 = dktX6_distanceOf_0 := by decide +kernel
theorem dksX6_distanceOf_1 : cX6_distanceOf.data.toList.drop 24 = dktX6_distanceOf_1 := dk_seg dksX6_distanceOf_0 24 rfl rfl
theorem dX6_distanceOf_0 : decode cX6_distanceOf 0 = .ok (.iload_n 1, 1) := dk_27 (dk_at dksX6_distanceOf_0 0 rfl rfl)
theorem dX6_distanceOf_1 : decode cX6_distanceOf 1 = .ok (.invokestatic 252, 3) := dk_184 0 252 (dk_at dksX6_distanceOf_0 1 rfl rfl)
theorem dX6_distanceOf_4 : decode cX6_distanceOf 4 = .ok (.istore_n 2, 1) := dk_61 (dk_at dksX6_distanceOf_0 4 rfl rfl)
theorem dX6_distanceOf_5 : decode cX6_distanceOf 5 = .ok (.iload_n 1, 1) := dk_27 (dk_at dksX6_distanceOf_0 5 rfl rfl)
theorem dX6_distanceOf_6 : decode cX6_distanceOf 6 = .ok (.invokestatic 255, 3) := dk_184 0 255 (dk_at dksX6_distanceOf_0 6 rfl rfl)
theorem dX6_distanceOf_9 : decode cX6_distanceOf 9 = .ok (.istore_n 3, 1) := dk_62 (dk_at dksX6_distanceOf_0 9 rfl rfl)
theorem dX6_distanceOf_10 : decode cX6_distanceOf 10 = .ok (.aload_n 0, 1) := dk_42 (dk_at dksX6_distanceOf_0 10 rfl rfl)
theorem dX6_distanceOf_11 : decode cX6_distanceOf 11 = .ok (.iload_n 3, 1) := dk_29 (dk_at dksX6_distanceOf_0 11 rfl rfl)
theorem dX6_distanceOf_12 : decode cX6_distanceOf 12 = .ok (.iconst 1, 1) := dk_4 (dk_at dksX6_distanceOf_0 12 rfl rfl)
theorem dX6_distanceOf_13 : decode cX6_distanceOf 13 = .ok (.invokestatic 79, 3) := dk_184 0 79 (dk_at dksX6_distanceOf_0 13 rfl rfl)
theorem dX6_distanceOf_16 : decode cX6_distanceOf 16 = .ok (.laload, 1) := dk_47 (dk_at dksX6_distanceOf_0 16 rfl rfl)
theorem dX6_distanceOf_17 : decode cX6_distanceOf 17 = .ok (.aload_n 0, 1) := dk_42 (dk_at dksX6_distanceOf_0 17 rfl rfl)
theorem dX6_distanceOf_18 : decode cX6_distanceOf 18 = .ok (.iload_n 2, 1) := dk_28 (dk_at dksX6_distanceOf_0 18 rfl rfl)
theorem dX6_distanceOf_19 : decode cX6_distanceOf 19 = .ok (.iconst 1, 1) := dk_4 (dk_at dksX6_distanceOf_0 19 rfl rfl)
theorem dX6_distanceOf_20 : decode cX6_distanceOf 20 = .ok (.invokestatic 79, 3) := dk_184 0 79 (dk_at dksX6_distanceOf_0 20 rfl rfl)
theorem dX6_distanceOf_23 : decode cX6_distanceOf 23 = .ok (.laload, 1) := dk_47 (dk_at dksX6_distanceOf_0 23 rfl rfl)
theorem dX6_distanceOf_24 : decode cX6_distanceOf 24 = .ok (.lsub, 1) := dk_101 (dk_at dksX6_distanceOf_1 0 rfl rfl)
theorem dX6_distanceOf_25 : decode cX6_distanceOf 25 = .ok (.aload_n 0, 1) := dk_42 (dk_at dksX6_distanceOf_1 1 rfl rfl)
theorem dX6_distanceOf_26 : decode cX6_distanceOf 26 = .ok (.iload_n 3, 1) := dk_29 (dk_at dksX6_distanceOf_1 2 rfl rfl)
theorem dX6_distanceOf_27 : decode cX6_distanceOf 27 = .ok (.iconst 2, 1) := dk_5 (dk_at dksX6_distanceOf_1 3 rfl rfl)
theorem dX6_distanceOf_28 : decode cX6_distanceOf 28 = .ok (.invokestatic 79, 3) := dk_184 0 79 (dk_at dksX6_distanceOf_1 4 rfl rfl)
theorem dX6_distanceOf_31 : decode cX6_distanceOf 31 = .ok (.laload, 1) := dk_47 (dk_at dksX6_distanceOf_1 7 rfl rfl)
theorem dX6_distanceOf_32 : decode cX6_distanceOf 32 = .ok (.aload_n 0, 1) := dk_42 (dk_at dksX6_distanceOf_1 8 rfl rfl)
theorem dX6_distanceOf_33 : decode cX6_distanceOf 33 = .ok (.iload_n 2, 1) := dk_28 (dk_at dksX6_distanceOf_1 9 rfl rfl)
theorem dX6_distanceOf_34 : decode cX6_distanceOf 34 = .ok (.iconst 2, 1) := dk_5 (dk_at dksX6_distanceOf_1 10 rfl rfl)
theorem dX6_distanceOf_35 : decode cX6_distanceOf 35 = .ok (.invokestatic 79, 3) := dk_184 0 79 (dk_at dksX6_distanceOf_1 11 rfl rfl)
theorem dX6_distanceOf_38 : decode cX6_distanceOf 38 = .ok (.laload, 1) := dk_47 (dk_at dksX6_distanceOf_1 14 rfl rfl)
theorem dX6_distanceOf_39 : decode cX6_distanceOf 39 = .ok (.lsub, 1) := dk_101 (dk_at dksX6_distanceOf_1 15 rfl rfl)
theorem dX6_distanceOf_40 : decode cX6_distanceOf 40 = .ok (.invokestatic 258, 3) := dk_184 1 2 (dk_at dksX6_distanceOf_1 16 rfl rfl)
theorem dX6_distanceOf_43 : decode cX6_distanceOf 43 = .ok (.lreturn, 1) := dk_173 (dk_at dksX6_distanceOf_1 19 rfl rfl)
abbrev cX6_away : ByteArray := prog_25_method_38_code
def yX6_away : MethodName := ⟨RX6, "away", "(JJ)J"⟩
def dkwX6_away_0 : List UInt8 := [30, 30, 105, 32, 32, 105, 97, 184, 0, 249, 173]
abbrev dktX6_away_0 : List UInt8 := dkwX6_away_0 ++ []
theorem dksX6_away_0 : cX6_away.data.toList.drop 0 = dktX6_away_0 := by decide +kernel
theorem dX6_away_0 : decode cX6_away 0 = .ok (.lload_n 0, 1) := dk_30 (dk_at dksX6_away_0 0 rfl rfl)
theorem dX6_away_1 : decode cX6_away 1 = .ok (.lload_n 0, 1) := dk_30 (dk_at dksX6_away_0 1 rfl rfl)
theorem dX6_away_2 : decode cX6_away 2 = .ok (.lmul, 1) := dk_105 (dk_at dksX6_away_0 2 rfl rfl)
theorem dX6_away_3 : decode cX6_away 3 = .ok (.lload_n 2, 1) := dk_32 (dk_at dksX6_away_0 3 rfl rfl)
theorem dX6_away_4 : decode cX6_away 4 = .ok (.lload_n 2, 1) := dk_32 (dk_at dksX6_away_0 4 rfl rfl)
theorem dX6_away_5 : decode cX6_away 5 = .ok (.lmul, 1) := dk_105 (dk_at dksX6_away_0 5 rfl rfl)
theorem dX6_away_6 : decode cX6_away 6 = .ok (.ladd, 1) := dk_97 (dk_at dksX6_away_0 6 rfl rfl)
theorem dX6_away_7 : decode cX6_away 7 = .ok (.invokestatic 249, 3) := dk_184 0 249 (dk_at dksX6_away_0 7 rfl rfl)
theorem dX6_away_10 : decode cX6_away 10 = .ok (.lreturn, 1) := dk_173 (dk_at dksX6_away_0 10 rfl rfl)
abbrev cX6_root : ByteArray := prog_25_method_37_code
def yX6_root : MethodName := ⟨RX6, "root", "(J)J"⟩
def dkwX6_root_2 : List UInt8 := [167, 255, 215, 32, 173]
abbrev dktX6_root_2 : List UInt8 := dkwX6_root_2 ++ []
def dkwX6_root_1 : List UInt8 := [55, 6, 22, 6, 22, 6, 105, 30, 148, 157, 0, 9, 22, 6, 65, 167, 0, 9, 22, 6, 10, 101, 55, 4]
abbrev dktX6_root_1 : List UInt8 := dkwX6_root_1 ++ dktX6_root_2
def dkwX6_root_0 : List UInt8 := [9, 65, 20, 0, 219, 55, 4, 32, 22, 4, 148, 156, 0, 40, 32, 22, 4, 97, 10, 97, 20, 0, 203, 109]
abbrev dktX6_root_0 : List UInt8 := dkwX6_root_0 ++ dktX6_root_1
theorem dksX6_root_0 : cX6_root.data.toList.drop 0 = dktX6_root_0 := by decide +kernel
theorem dksX6_root_1 : cX6_root.data.toList.drop 24 = dktX6_root_1 := dk_seg dksX6_root_0 24 rfl rfl
theorem dksX6_root_2 : cX6_root.data.toList.drop 48 = dktX6_root_2 := dk_seg dksX6_root_1 24 rfl rfl
theorem dX6_root_0 : decode cX6_root 0 = .ok (.lconst 0, 1) := dk_9 (dk_at dksX6_root_0 0 rfl rfl)
theorem dX6_root_1 : decode cX6_root 1 = .ok (.lstore_n 2, 1) := dk_65 (dk_at dksX6_root_0 1 rfl rfl)
theorem dX6_root_2 : decode cX6_root 2 = .ok (.ldc2_w 219, 3) := dk_20 0 219 (dk_at dksX6_root_0 2 rfl rfl)
theorem dX6_root_5 : decode cX6_root 5 = .ok (.lstore 4, 2) := dk_55 4 (dk_at dksX6_root_0 5 rfl rfl)
theorem dX6_root_7 : decode cX6_root 7 = .ok (.lload_n 2, 1) := dk_32 (dk_at dksX6_root_0 7 rfl rfl)
theorem dX6_root_8 : decode cX6_root 8 = .ok (.lload 4, 2) := dk_22 4 (dk_at dksX6_root_0 8 rfl rfl)
theorem dX6_root_10 : decode cX6_root 10 = .ok (.lcmp, 1) := dk_148 (dk_at dksX6_root_0 10 rfl rfl)
theorem dX6_root_11 : decode cX6_root 11 = .ok (.ifCond .ge 40, 3) := dk_156 0 40 (dk_at dksX6_root_0 11 rfl rfl)
theorem dX6_root_14 : decode cX6_root 14 = .ok (.lload_n 2, 1) := dk_32 (dk_at dksX6_root_0 14 rfl rfl)
theorem dX6_root_15 : decode cX6_root 15 = .ok (.lload 4, 2) := dk_22 4 (dk_at dksX6_root_0 15 rfl rfl)
theorem dX6_root_17 : decode cX6_root 17 = .ok (.ladd, 1) := dk_97 (dk_at dksX6_root_0 17 rfl rfl)
theorem dX6_root_18 : decode cX6_root 18 = .ok (.lconst 1, 1) := dk_10 (dk_at dksX6_root_0 18 rfl rfl)
theorem dX6_root_19 : decode cX6_root 19 = .ok (.ladd, 1) := dk_97 (dk_at dksX6_root_0 19 rfl rfl)
theorem dX6_root_20 : decode cX6_root 20 = .ok (.ldc2_w 203, 3) := dk_20 0 203 (dk_at dksX6_root_0 20 rfl rfl)
theorem dX6_root_23 : decode cX6_root 23 = .ok (.ldiv, 1) := dk_109 (dk_at dksX6_root_0 23 rfl rfl)
theorem dX6_root_24 : decode cX6_root 24 = .ok (.lstore 6, 2) := dk_55 6 (dk_at dksX6_root_1 0 rfl rfl)
theorem dX6_root_26 : decode cX6_root 26 = .ok (.lload 6, 2) := dk_22 6 (dk_at dksX6_root_1 2 rfl rfl)
theorem dX6_root_28 : decode cX6_root 28 = .ok (.lload 6, 2) := dk_22 6 (dk_at dksX6_root_1 4 rfl rfl)
theorem dX6_root_30 : decode cX6_root 30 = .ok (.lmul, 1) := dk_105 (dk_at dksX6_root_1 6 rfl rfl)
theorem dX6_root_31 : decode cX6_root 31 = .ok (.lload_n 0, 1) := dk_30 (dk_at dksX6_root_1 7 rfl rfl)
theorem dX6_root_32 : decode cX6_root 32 = .ok (.lcmp, 1) := dk_148 (dk_at dksX6_root_1 8 rfl rfl)
theorem dX6_root_33 : decode cX6_root 33 = .ok (.ifCond .gt 9, 3) := dk_157 0 9 (dk_at dksX6_root_1 9 rfl rfl)
theorem dX6_root_36 : decode cX6_root 36 = .ok (.lload 6, 2) := dk_22 6 (dk_at dksX6_root_1 12 rfl rfl)
theorem dX6_root_38 : decode cX6_root 38 = .ok (.lstore_n 2, 1) := dk_65 (dk_at dksX6_root_1 14 rfl rfl)
theorem dX6_root_39 : decode cX6_root 39 = .ok (.goto 9, 3) := dk_167 0 9 (dk_at dksX6_root_1 15 rfl rfl)
theorem dX6_root_42 : decode cX6_root 42 = .ok (.lload 6, 2) := dk_22 6 (dk_at dksX6_root_1 18 rfl rfl)
theorem dX6_root_44 : decode cX6_root 44 = .ok (.lconst 1, 1) := dk_10 (dk_at dksX6_root_1 20 rfl rfl)
theorem dX6_root_45 : decode cX6_root 45 = .ok (.lsub, 1) := dk_101 (dk_at dksX6_root_1 21 rfl rfl)
theorem dX6_root_46 : decode cX6_root 46 = .ok (.lstore 4, 2) := dk_55 4 (dk_at dksX6_root_1 22 rfl rfl)
theorem dX6_root_48 : decode cX6_root 48 = .ok (.goto (-41), 3) := dk_167 255 215 (dk_at dksX6_root_2 0 rfl rfl)
theorem dX6_root_51 : decode cX6_root 51 = .ok (.lload_n 2, 1) := dk_32 (dk_at dksX6_root_2 3 rfl rfl)
theorem dX6_root_52 : decode cX6_root 52 = .ok (.lreturn, 1) := dk_173 (dk_at dksX6_root_2 4 rfl rfl)
abbrev cX6_thrown : ByteArray := prog_25_method_2_code
def yX6_thrown : MethodName := ⟨RX6, "thrown", "()I"⟩
theorem dX6_thrown_0 : decode cX6_thrown 0 = .ok (.aload_n 0, 1) := by decide +kernel
theorem dX6_thrown_1 : decode cX6_thrown 1 = .ok (.getfield 88, 3) := by decide +kernel
theorem dX6_thrown_4 : decode cX6_thrown 4 = .ok (.ireturn, 1) := by decide +kernel
abbrev cX6_feed : ByteArray := prog_25_method_12_code
def yX6_feed : MethodName := ⟨RX6, "feed", "(IIIII)I"⟩
def dkwX6_feed_2 : List UInt8 := [182, 0, 116, 42, 180, 0, 113, 172]
abbrev dktX6_feed_2 : List UInt8 := dkwX6_feed_2 ++ []
def dkwX6_feed_1 : List UInt8 := [182, 0, 116, 42, 28, 182, 0, 116, 42, 29, 182, 0, 116, 42, 21, 4, 182, 0, 116, 42, 21, 5]
abbrev dktX6_feed_1 : List UInt8 := dkwX6_feed_1 ++ dktX6_feed_2
def dkwX6_feed_0 : List UInt8 := [42, 3, 181, 0, 88, 42, 180, 0, 113, 16, 20, 96, 17, 2, 88, 164, 0, 5, 2, 172, 42, 27]
abbrev dktX6_feed_0 : List UInt8 := dkwX6_feed_0 ++ dktX6_feed_1
theorem dksX6_feed_0 : cX6_feed.data.toList.drop 0 = dktX6_feed_0 := by decide +kernel
theorem dksX6_feed_1 : cX6_feed.data.toList.drop 22 = dktX6_feed_1 := dk_seg dksX6_feed_0 22 rfl rfl
theorem dksX6_feed_2 : cX6_feed.data.toList.drop 44 = dktX6_feed_2 := dk_seg dksX6_feed_1 22 rfl rfl
theorem dX6_feed_0 : decode cX6_feed 0 = .ok (.aload_n 0, 1) := dk_42 (dk_at dksX6_feed_0 0 rfl rfl)
theorem dX6_feed_1 : decode cX6_feed 1 = .ok (.iconst 0, 1) := dk_3 (dk_at dksX6_feed_0 1 rfl rfl)
theorem dX6_feed_2 : decode cX6_feed 2 = .ok (.putfield 88, 3) := dk_181 0 88 (dk_at dksX6_feed_0 2 rfl rfl)
theorem dX6_feed_5 : decode cX6_feed 5 = .ok (.aload_n 0, 1) := dk_42 (dk_at dksX6_feed_0 5 rfl rfl)
theorem dX6_feed_6 : decode cX6_feed 6 = .ok (.getfield 113, 3) := dk_180 0 113 (dk_at dksX6_feed_0 6 rfl rfl)
theorem dX6_feed_9 : decode cX6_feed 9 = .ok (.bipush 20, 2) := dk_16 20 (dk_at dksX6_feed_0 9 rfl rfl)
theorem dX6_feed_11 : decode cX6_feed 11 = .ok (.iadd, 1) := dk_96 (dk_at dksX6_feed_0 11 rfl rfl)
theorem dX6_feed_12 : decode cX6_feed 12 = .ok (.sipush 600, 3) := dk_17 2 88 (dk_at dksX6_feed_0 12 rfl rfl)
theorem dX6_feed_15 : decode cX6_feed 15 = .ok (.if_icmp .le 5, 3) := dk_164 0 5 (dk_at dksX6_feed_0 15 rfl rfl)
theorem dX6_feed_18 : decode cX6_feed 18 = .ok (.iconst (-1), 1) := dk_2 (dk_at dksX6_feed_0 18 rfl rfl)
theorem dX6_feed_19 : decode cX6_feed 19 = .ok (.ireturn, 1) := dk_172 (dk_at dksX6_feed_0 19 rfl rfl)
theorem dX6_feed_20 : decode cX6_feed 20 = .ok (.aload_n 0, 1) := dk_42 (dk_at dksX6_feed_0 20 rfl rfl)
theorem dX6_feed_21 : decode cX6_feed 21 = .ok (.iload_n 1, 1) := dk_27 (dk_at dksX6_feed_0 21 rfl rfl)
theorem dX6_feed_22 : decode cX6_feed 22 = .ok (.invokevirtual 116, 3) := dk_182 0 116 (dk_at dksX6_feed_1 0 rfl rfl)
theorem dX6_feed_25 : decode cX6_feed 25 = .ok (.aload_n 0, 1) := dk_42 (dk_at dksX6_feed_1 3 rfl rfl)
theorem dX6_feed_26 : decode cX6_feed 26 = .ok (.iload_n 2, 1) := dk_28 (dk_at dksX6_feed_1 4 rfl rfl)
theorem dX6_feed_27 : decode cX6_feed 27 = .ok (.invokevirtual 116, 3) := dk_182 0 116 (dk_at dksX6_feed_1 5 rfl rfl)
theorem dX6_feed_30 : decode cX6_feed 30 = .ok (.aload_n 0, 1) := dk_42 (dk_at dksX6_feed_1 8 rfl rfl)
theorem dX6_feed_31 : decode cX6_feed 31 = .ok (.iload_n 3, 1) := dk_29 (dk_at dksX6_feed_1 9 rfl rfl)
theorem dX6_feed_32 : decode cX6_feed 32 = .ok (.invokevirtual 116, 3) := dk_182 0 116 (dk_at dksX6_feed_1 10 rfl rfl)
theorem dX6_feed_35 : decode cX6_feed 35 = .ok (.aload_n 0, 1) := dk_42 (dk_at dksX6_feed_1 13 rfl rfl)
theorem dX6_feed_36 : decode cX6_feed 36 = .ok (.iload 4, 2) := dk_21 4 (dk_at dksX6_feed_1 14 rfl rfl)
theorem dX6_feed_38 : decode cX6_feed 38 = .ok (.invokevirtual 116, 3) := dk_182 0 116 (dk_at dksX6_feed_1 16 rfl rfl)
theorem dX6_feed_41 : decode cX6_feed 41 = .ok (.aload_n 0, 1) := dk_42 (dk_at dksX6_feed_1 19 rfl rfl)
theorem dX6_feed_42 : decode cX6_feed 42 = .ok (.iload 5, 2) := dk_21 5 (dk_at dksX6_feed_1 20 rfl rfl)
theorem dX6_feed_44 : decode cX6_feed 44 = .ok (.invokevirtual 116, 3) := dk_182 0 116 (dk_at dksX6_feed_2 0 rfl rfl)
theorem dX6_feed_47 : decode cX6_feed 47 = .ok (.aload_n 0, 1) := dk_42 (dk_at dksX6_feed_2 3 rfl rfl)
theorem dX6_feed_48 : decode cX6_feed 48 = .ok (.getfield 113, 3) := dk_180 0 113 (dk_at dksX6_feed_2 4 rfl rfl)
theorem dX6_feed_51 : decode cX6_feed 51 = .ok (.ireturn, 1) := dk_172 (dk_at dksX6_feed_2 7 rfl rfl)
abbrev cX6_lays : ByteArray := prog_25_method_11_code
def yX6_lays : MethodName := ⟨RX6, "lays", "(I)V"⟩
def dkwX6_lays_1 : List UInt8 := [89, 180, 0, 113, 4, 96, 181, 0, 113, 132, 2, 248, 167, 255, 223, 177]
abbrev dktX6_lays_1 : List UInt8 := dkwX6_lays_1 ++ []
def dkwX6_lays_0 : List UInt8 := [16, 24, 61, 28, 155, 0, 35, 42, 180, 0, 37, 42, 180, 0, 113, 27, 28, 122, 17, 0, 255, 126, 79, 42]
abbrev dktX6_lays_0 : List UInt8 := dkwX6_lays_0 ++ dktX6_lays_1
theorem dksX6_lays_0 : cX6_lays.data.toList.drop 0 = dktX6_lays_0 := by decide +kernel
theorem dksX6_lays_1 : cX6_lays.data.toList.drop 24 = dktX6_lays_1 := dk_seg dksX6_lays_0 24 rfl rfl
theorem dX6_lays_0 : decode cX6_lays 0 = .ok (.bipush 24, 2) := dk_16 24 (dk_at dksX6_lays_0 0 rfl rfl)
theorem dX6_lays_2 : decode cX6_lays 2 = .ok (.istore_n 2, 1) := dk_61 (dk_at dksX6_lays_0 2 rfl rfl)
theorem dX6_lays_3 : decode cX6_lays 3 = .ok (.iload_n 2, 1) := dk_28 (dk_at dksX6_lays_0 3 rfl rfl)
theorem dX6_lays_4 : decode cX6_lays 4 = .ok (.ifCond .lt 35, 3) := dk_155 0 35 (dk_at dksX6_lays_0 4 rfl rfl)
theorem dX6_lays_7 : decode cX6_lays 7 = .ok (.aload_n 0, 1) := dk_42 (dk_at dksX6_lays_0 7 rfl rfl)
theorem dX6_lays_8 : decode cX6_lays 8 = .ok (.getfield 37, 3) := dk_180 0 37 (dk_at dksX6_lays_0 8 rfl rfl)
theorem dX6_lays_11 : decode cX6_lays 11 = .ok (.aload_n 0, 1) := dk_42 (dk_at dksX6_lays_0 11 rfl rfl)
theorem dX6_lays_12 : decode cX6_lays 12 = .ok (.getfield 113, 3) := dk_180 0 113 (dk_at dksX6_lays_0 12 rfl rfl)
theorem dX6_lays_15 : decode cX6_lays 15 = .ok (.iload_n 1, 1) := dk_27 (dk_at dksX6_lays_0 15 rfl rfl)
theorem dX6_lays_16 : decode cX6_lays 16 = .ok (.iload_n 2, 1) := dk_28 (dk_at dksX6_lays_0 16 rfl rfl)
theorem dX6_lays_17 : decode cX6_lays 17 = .ok (.ishr, 1) := dk_122 (dk_at dksX6_lays_0 17 rfl rfl)
theorem dX6_lays_18 : decode cX6_lays 18 = .ok (.sipush 255, 3) := dk_17 0 255 (dk_at dksX6_lays_0 18 rfl rfl)
theorem dX6_lays_21 : decode cX6_lays 21 = .ok (.iand, 1) := dk_126 (dk_at dksX6_lays_0 21 rfl rfl)
theorem dX6_lays_22 : decode cX6_lays 22 = .ok (.iastore, 1) := dk_79 (dk_at dksX6_lays_0 22 rfl rfl)
theorem dX6_lays_23 : decode cX6_lays 23 = .ok (.aload_n 0, 1) := dk_42 (dk_at dksX6_lays_0 23 rfl rfl)
theorem dX6_lays_24 : decode cX6_lays 24 = .ok (.dup, 1) := dk_89 (dk_at dksX6_lays_1 0 rfl rfl)
theorem dX6_lays_25 : decode cX6_lays 25 = .ok (.getfield 113, 3) := dk_180 0 113 (dk_at dksX6_lays_1 1 rfl rfl)
theorem dX6_lays_28 : decode cX6_lays 28 = .ok (.iconst 1, 1) := dk_4 (dk_at dksX6_lays_1 4 rfl rfl)
theorem dX6_lays_29 : decode cX6_lays 29 = .ok (.iadd, 1) := dk_96 (dk_at dksX6_lays_1 5 rfl rfl)
theorem dX6_lays_30 : decode cX6_lays 30 = .ok (.putfield 113, 3) := dk_181 0 113 (dk_at dksX6_lays_1 6 rfl rfl)
theorem dX6_lays_33 : decode cX6_lays 33 = .ok (.iinc 2 (-8), 3) := dk_132 2 248 (dk_at dksX6_lays_1 9 rfl rfl)
theorem dX6_lays_36 : decode cX6_lays 36 = .ok (.goto (-33), 3) := dk_167 255 223 (dk_at dksX6_lays_1 12 rfl rfl)
theorem dX6_lays_39 : decode cX6_lays 39 = .ok (.return_, 1) := dk_177 (dk_at dksX6_lays_1 15 rfl rfl)
abbrev cX6_errorPosition : ByteArray := prog_25_method_13_code
def yX6_errorPosition : MethodName := ⟨RX6, "errorPosition", "()I"⟩
def dkwX6_errorPosition_0 : List UInt8 := [42, 3, 181, 0, 88, 42, 180, 0, 41, 172]
abbrev dktX6_errorPosition_0 : List UInt8 := dkwX6_errorPosition_0 ++ []
theorem dksX6_errorPosition_0 : cX6_errorPosition.data.toList.drop 0 = dktX6_errorPosition_0 := by decide +kernel
theorem dX6_errorPosition_0 : decode cX6_errorPosition 0 = .ok (.aload_n 0, 1) := dk_42 (dk_at dksX6_errorPosition_0 0 rfl rfl)
theorem dX6_errorPosition_1 : decode cX6_errorPosition 1 = .ok (.iconst 0, 1) := dk_3 (dk_at dksX6_errorPosition_0 1 rfl rfl)
theorem dX6_errorPosition_2 : decode cX6_errorPosition 2 = .ok (.putfield 88, 3) := dk_181 0 88 (dk_at dksX6_errorPosition_0 2 rfl rfl)
theorem dX6_errorPosition_5 : decode cX6_errorPosition 5 = .ok (.aload_n 0, 1) := dk_42 (dk_at dksX6_errorPosition_0 5 rfl rfl)
theorem dX6_errorPosition_6 : decode cX6_errorPosition 6 = .ok (.getfield 41, 3) := dk_180 0 41 (dk_at dksX6_errorPosition_0 6 rfl rfl)
theorem dX6_errorPosition_9 : decode cX6_errorPosition 9 = .ok (.ireturn, 1) := dk_172 (dk_at dksX6_errorPosition_0 9 rfl rfl)
abbrev cX6_load : ByteArray := prog_25_method_34_code
def yX6_load : MethodName := ⟨RX6, "load", "(I)I"⟩
def dkwX6_load_4 : List UInt8 := [6, 172]
abbrev dktX6_load_4 : List UInt8 := dkwX6_load_4 ++ []
def dkwX6_load_3 : List UInt8 := [4, 182, 0, 180, 87, 42, 182, 0, 169, 154, 0, 11, 16, 246, 42, 180, 0, 163, 100, 172, 42, 182, 0, 85]
abbrev dktX6_load_3 : List UInt8 := dkwX6_load_3 ++ dktX6_load_4
def dkwX6_load_2 : List UInt8 := [182, 0, 246, 132, 2, 1, 167, 255, 243, 42, 182, 0, 169, 153, 0, 16, 42, 180, 0, 144, 153, 0, 9, 42]
abbrev dktX6_load_2 : List UInt8 := dkwX6_load_2 ++ dktX6_load_3
def dkwX6_load_1 : List UInt8 := [3, 172, 42, 27, 182, 0, 240, 42, 182, 0, 76, 42, 182, 0, 243, 3, 61, 28, 6, 162, 0, 14, 42, 28]
abbrev dktX6_load_1 : List UInt8 := dkwX6_load_1 ++ dktX6_load_2
def dkwX6_load_0 : List UInt8 := [42, 3, 181, 0, 88, 42, 27, 133, 9, 42, 180, 0, 113, 133, 184, 0, 183, 4, 182, 0, 236, 153, 0, 5]
abbrev dktX6_load_0 : List UInt8 := dkwX6_load_0 ++ dktX6_load_1
theorem dksX6_load_0 : cX6_load.data.toList.drop 0 = dktX6_load_0 := by decide +kernel
theorem dksX6_load_1 : cX6_load.data.toList.drop 24 = dktX6_load_1 := dk_seg dksX6_load_0 24 rfl rfl
theorem dksX6_load_2 : cX6_load.data.toList.drop 48 = dktX6_load_2 := dk_seg dksX6_load_1 24 rfl rfl
theorem dksX6_load_3 : cX6_load.data.toList.drop 72 = dktX6_load_3 := dk_seg dksX6_load_2 24 rfl rfl
theorem dksX6_load_4 : cX6_load.data.toList.drop 96 = dktX6_load_4 := dk_seg dksX6_load_3 24 rfl rfl
theorem dX6_load_0 : decode cX6_load 0 = .ok (.aload_n 0, 1) := dk_42 (dk_at dksX6_load_0 0 rfl rfl)
theorem dX6_load_1 : decode cX6_load 1 = .ok (.iconst 0, 1) := dk_3 (dk_at dksX6_load_0 1 rfl rfl)
theorem dX6_load_2 : decode cX6_load 2 = .ok (.putfield 88, 3) := dk_181 0 88 (dk_at dksX6_load_0 2 rfl rfl)
theorem dX6_load_5 : decode cX6_load 5 = .ok (.aload_n 0, 1) := dk_42 (dk_at dksX6_load_0 5 rfl rfl)
theorem dX6_load_6 : decode cX6_load 6 = .ok (.iload_n 1, 1) := dk_27 (dk_at dksX6_load_0 6 rfl rfl)
theorem dX6_load_7 : decode cX6_load 7 = .ok (.i2l, 1) := dk_133 (dk_at dksX6_load_0 7 rfl rfl)
theorem dX6_load_8 : decode cX6_load 8 = .ok (.lconst 0, 1) := dk_9 (dk_at dksX6_load_0 8 rfl rfl)
theorem dX6_load_9 : decode cX6_load 9 = .ok (.aload_n 0, 1) := dk_42 (dk_at dksX6_load_0 9 rfl rfl)
theorem dX6_load_10 : decode cX6_load 10 = .ok (.getfield 113, 3) := dk_180 0 113 (dk_at dksX6_load_0 10 rfl rfl)
theorem dX6_load_13 : decode cX6_load 13 = .ok (.i2l, 1) := dk_133 (dk_at dksX6_load_0 13 rfl rfl)
theorem dX6_load_14 : decode cX6_load 14 = .ok (.invokestatic 183, 3) := dk_184 0 183 (dk_at dksX6_load_0 14 rfl rfl)
theorem dX6_load_17 : decode cX6_load 17 = .ok (.iconst 1, 1) := dk_4 (dk_at dksX6_load_0 17 rfl rfl)
theorem dX6_load_18 : decode cX6_load 18 = .ok (.invokevirtual 236, 3) := dk_182 0 236 (dk_at dksX6_load_0 18 rfl rfl)
theorem dX6_load_21 : decode cX6_load 21 = .ok (.ifCond .eq 5, 3) := dk_153 0 5 (dk_at dksX6_load_0 21 rfl rfl)
theorem dX6_load_24 : decode cX6_load 24 = .ok (.iconst 0, 1) := dk_3 (dk_at dksX6_load_1 0 rfl rfl)
theorem dX6_load_25 : decode cX6_load 25 = .ok (.ireturn, 1) := dk_172 (dk_at dksX6_load_1 1 rfl rfl)
theorem dX6_load_26 : decode cX6_load 26 = .ok (.aload_n 0, 1) := dk_42 (dk_at dksX6_load_1 2 rfl rfl)
theorem dX6_load_27 : decode cX6_load 27 = .ok (.iload_n 1, 1) := dk_27 (dk_at dksX6_load_1 3 rfl rfl)
theorem dX6_load_28 : decode cX6_load 28 = .ok (.invokevirtual 240, 3) := dk_182 0 240 (dk_at dksX6_load_1 4 rfl rfl)
theorem dX6_load_31 : decode cX6_load 31 = .ok (.aload_n 0, 1) := dk_42 (dk_at dksX6_load_1 7 rfl rfl)
theorem dX6_load_32 : decode cX6_load 32 = .ok (.invokevirtual 76, 3) := dk_182 0 76 (dk_at dksX6_load_1 8 rfl rfl)
theorem dX6_load_35 : decode cX6_load 35 = .ok (.aload_n 0, 1) := dk_42 (dk_at dksX6_load_1 11 rfl rfl)
theorem dX6_load_36 : decode cX6_load 36 = .ok (.invokevirtual 243, 3) := dk_182 0 243 (dk_at dksX6_load_1 12 rfl rfl)
theorem dX6_load_39 : decode cX6_load 39 = .ok (.iconst 0, 1) := dk_3 (dk_at dksX6_load_1 15 rfl rfl)
theorem dX6_load_40 : decode cX6_load 40 = .ok (.istore_n 2, 1) := dk_61 (dk_at dksX6_load_1 16 rfl rfl)
theorem dX6_load_41 : decode cX6_load 41 = .ok (.iload_n 2, 1) := dk_28 (dk_at dksX6_load_1 17 rfl rfl)
theorem dX6_load_42 : decode cX6_load 42 = .ok (.iconst 3, 1) := dk_6 (dk_at dksX6_load_1 18 rfl rfl)
theorem dX6_load_43 : decode cX6_load 43 = .ok (.if_icmp .ge 14, 3) := dk_162 0 14 (dk_at dksX6_load_1 19 rfl rfl)
theorem dX6_load_46 : decode cX6_load 46 = .ok (.aload_n 0, 1) := dk_42 (dk_at dksX6_load_1 22 rfl rfl)
theorem dX6_load_47 : decode cX6_load 47 = .ok (.iload_n 2, 1) := dk_28 (dk_at dksX6_load_1 23 rfl rfl)
theorem dX6_load_48 : decode cX6_load 48 = .ok (.invokevirtual 246, 3) := dk_182 0 246 (dk_at dksX6_load_2 0 rfl rfl)
theorem dX6_load_51 : decode cX6_load 51 = .ok (.iinc 2 1, 3) := dk_132 2 1 (dk_at dksX6_load_2 3 rfl rfl)
theorem dX6_load_54 : decode cX6_load 54 = .ok (.goto (-13), 3) := dk_167 255 243 (dk_at dksX6_load_2 6 rfl rfl)
theorem dX6_load_57 : decode cX6_load 57 = .ok (.aload_n 0, 1) := dk_42 (dk_at dksX6_load_2 9 rfl rfl)
theorem dX6_load_58 : decode cX6_load 58 = .ok (.invokevirtual 169, 3) := dk_182 0 169 (dk_at dksX6_load_2 10 rfl rfl)
theorem dX6_load_61 : decode cX6_load 61 = .ok (.ifCond .eq 16, 3) := dk_153 0 16 (dk_at dksX6_load_2 13 rfl rfl)
theorem dX6_load_64 : decode cX6_load 64 = .ok (.aload_n 0, 1) := dk_42 (dk_at dksX6_load_2 16 rfl rfl)
theorem dX6_load_65 : decode cX6_load 65 = .ok (.getfield 144, 3) := dk_180 0 144 (dk_at dksX6_load_2 17 rfl rfl)
theorem dX6_load_68 : decode cX6_load 68 = .ok (.ifCond .eq 9, 3) := dk_153 0 9 (dk_at dksX6_load_2 20 rfl rfl)
theorem dX6_load_71 : decode cX6_load 71 = .ok (.aload_n 0, 1) := dk_42 (dk_at dksX6_load_2 23 rfl rfl)
theorem dX6_load_72 : decode cX6_load 72 = .ok (.iconst 1, 1) := dk_4 (dk_at dksX6_load_3 0 rfl rfl)
theorem dX6_load_73 : decode cX6_load 73 = .ok (.invokevirtual 180, 3) := dk_182 0 180 (dk_at dksX6_load_3 1 rfl rfl)
theorem dX6_load_76 : decode cX6_load 76 = .ok (.pop, 1) := dk_87 (dk_at dksX6_load_3 4 rfl rfl)
theorem dX6_load_77 : decode cX6_load 77 = .ok (.aload_n 0, 1) := dk_42 (dk_at dksX6_load_3 5 rfl rfl)
theorem dX6_load_78 : decode cX6_load 78 = .ok (.invokevirtual 169, 3) := dk_182 0 169 (dk_at dksX6_load_3 6 rfl rfl)
theorem dX6_load_81 : decode cX6_load 81 = .ok (.ifCond .ne 11, 3) := dk_154 0 11 (dk_at dksX6_load_3 9 rfl rfl)
theorem dX6_load_84 : decode cX6_load 84 = .ok (.bipush (-10), 2) := dk_16 246 (dk_at dksX6_load_3 12 rfl rfl)
theorem dX6_load_86 : decode cX6_load 86 = .ok (.aload_n 0, 1) := dk_42 (dk_at dksX6_load_3 14 rfl rfl)
theorem dX6_load_87 : decode cX6_load 87 = .ok (.getfield 163, 3) := dk_180 0 163 (dk_at dksX6_load_3 15 rfl rfl)
theorem dX6_load_90 : decode cX6_load 90 = .ok (.isub, 1) := dk_100 (dk_at dksX6_load_3 18 rfl rfl)
theorem dX6_load_91 : decode cX6_load 91 = .ok (.ireturn, 1) := dk_172 (dk_at dksX6_load_3 19 rfl rfl)
theorem dX6_load_92 : decode cX6_load 92 = .ok (.aload_n 0, 1) := dk_42 (dk_at dksX6_load_3 20 rfl rfl)
theorem dX6_load_93 : decode cX6_load 93 = .ok (.invokevirtual 85, 3) := dk_182 0 85 (dk_at dksX6_load_3 21 rfl rfl)
theorem dX6_load_96 : decode cX6_load 96 = .ok (.iconst 3, 1) := dk_6 (dk_at dksX6_load_4 0 rfl rfl)
theorem dX6_load_97 : decode cX6_load 97 = .ok (.ireturn, 1) := dk_172 (dk_at dksX6_load_4 1 rfl rfl)
abbrev cX6_in : ByteArray := prog_25_method_3_code
def yX6_in : MethodName := ⟨RX6, "in", "(JJJ)Z"⟩
def dkwX6_in_0 : List UInt8 := [30, 32, 148, 155, 0, 14, 30, 22, 4, 148, 157, 0, 7, 4, 167, 0, 4, 3, 172]
abbrev dktX6_in_0 : List UInt8 := dkwX6_in_0 ++ []
theorem dksX6_in_0 : cX6_in.data.toList.drop 0 = dktX6_in_0 := by decide +kernel
theorem dX6_in_0 : decode cX6_in 0 = .ok (.lload_n 0, 1) := dk_30 (dk_at dksX6_in_0 0 rfl rfl)
theorem dX6_in_1 : decode cX6_in 1 = .ok (.lload_n 2, 1) := dk_32 (dk_at dksX6_in_0 1 rfl rfl)
theorem dX6_in_2 : decode cX6_in 2 = .ok (.lcmp, 1) := dk_148 (dk_at dksX6_in_0 2 rfl rfl)
theorem dX6_in_3 : decode cX6_in 3 = .ok (.ifCond .lt 14, 3) := dk_155 0 14 (dk_at dksX6_in_0 3 rfl rfl)
theorem dX6_in_6 : decode cX6_in 6 = .ok (.lload_n 0, 1) := dk_30 (dk_at dksX6_in_0 6 rfl rfl)
theorem dX6_in_7 : decode cX6_in 7 = .ok (.lload 4, 2) := dk_22 4 (dk_at dksX6_in_0 7 rfl rfl)
theorem dX6_in_9 : decode cX6_in 9 = .ok (.lcmp, 1) := dk_148 (dk_at dksX6_in_0 9 rfl rfl)
theorem dX6_in_10 : decode cX6_in 10 = .ok (.ifCond .gt 7, 3) := dk_157 0 7 (dk_at dksX6_in_0 10 rfl rfl)
theorem dX6_in_13 : decode cX6_in 13 = .ok (.iconst 1, 1) := dk_4 (dk_at dksX6_in_0 13 rfl rfl)
theorem dX6_in_14 : decode cX6_in 14 = .ok (.goto 4, 3) := dk_167 0 4 (dk_at dksX6_in_0 14 rfl rfl)
theorem dX6_in_17 : decode cX6_in 17 = .ok (.iconst 0, 1) := dk_3 (dk_at dksX6_in_0 17 rfl rfl)
theorem dX6_in_18 : decode cX6_in 18 = .ok (.ireturn, 1) := dk_172 (dk_at dksX6_in_0 18 rfl rfl)
abbrev cX6_fails : ByteArray := prog_25_method_4_code
def yX6_fails : MethodName := ⟨RX6, "fails", "(ZI)Z"⟩
def dkwX6_fails_0 : List UInt8 := [27, 153, 0, 5, 3, 172, 42, 28, 181, 0, 88, 4, 172]
abbrev dktX6_fails_0 : List UInt8 := dkwX6_fails_0 ++ []
theorem dksX6_fails_0 : cX6_fails.data.toList.drop 0 = dktX6_fails_0 := by decide +kernel
theorem dX6_fails_0 : decode cX6_fails 0 = .ok (.iload_n 1, 1) := dk_27 (dk_at dksX6_fails_0 0 rfl rfl)
theorem dX6_fails_1 : decode cX6_fails 1 = .ok (.ifCond .eq 5, 3) := dk_153 0 5 (dk_at dksX6_fails_0 1 rfl rfl)
theorem dX6_fails_4 : decode cX6_fails 4 = .ok (.iconst 0, 1) := dk_3 (dk_at dksX6_fails_0 4 rfl rfl)
theorem dX6_fails_5 : decode cX6_fails 5 = .ok (.ireturn, 1) := dk_172 (dk_at dksX6_fails_0 5 rfl rfl)
theorem dX6_fails_6 : decode cX6_fails 6 = .ok (.aload_n 0, 1) := dk_42 (dk_at dksX6_fails_0 6 rfl rfl)
theorem dX6_fails_7 : decode cX6_fails 7 = .ok (.iload_n 2, 1) := dk_28 (dk_at dksX6_fails_0 7 rfl rfl)
theorem dX6_fails_8 : decode cX6_fails 8 = .ok (.putfield 88, 3) := dk_181 0 88 (dk_at dksX6_fails_0 8 rfl rfl)
theorem dX6_fails_11 : decode cX6_fails 11 = .ok (.iconst 1, 1) := dk_4 (dk_at dksX6_fails_0 11 rfl rfl)
theorem dX6_fails_12 : decode cX6_fails 12 = .ok (.ireturn, 1) := dk_172 (dk_at dksX6_fails_0 12 rfl rfl)
abbrev cX6_starts : ByteArray := prog_25_method_20_code
def yX6_starts : MethodName := ⟨RX6, "starts", "(I)V"⟩
def dkwX6_starts_1 : List UInt8 := [181, 0, 41, 42, 182, 0, 166, 177]
abbrev dktX6_starts_1 : List UInt8 := dkwX6_starts_1 ++ []
def dkwX6_starts_0 : List UInt8 := [42, 27, 181, 0, 120, 42, 3, 181, 0, 113, 42, 3, 181, 0, 127, 42, 3, 181, 0, 163, 42, 2]
abbrev dktX6_starts_0 : List UInt8 := dkwX6_starts_0 ++ dktX6_starts_1
theorem dksX6_starts_0 : cX6_starts.data.toList.drop 0 = dktX6_starts_0 := by decide +kernel
theorem dksX6_starts_1 : cX6_starts.data.toList.drop 22 = dktX6_starts_1 := dk_seg dksX6_starts_0 22 rfl rfl
theorem dX6_starts_0 : decode cX6_starts 0 = .ok (.aload_n 0, 1) := dk_42 (dk_at dksX6_starts_0 0 rfl rfl)
theorem dX6_starts_1 : decode cX6_starts 1 = .ok (.iload_n 1, 1) := dk_27 (dk_at dksX6_starts_0 1 rfl rfl)
theorem dX6_starts_2 : decode cX6_starts 2 = .ok (.putfield 120, 3) := dk_181 0 120 (dk_at dksX6_starts_0 2 rfl rfl)
theorem dX6_starts_5 : decode cX6_starts 5 = .ok (.aload_n 0, 1) := dk_42 (dk_at dksX6_starts_0 5 rfl rfl)
theorem dX6_starts_6 : decode cX6_starts 6 = .ok (.iconst 0, 1) := dk_3 (dk_at dksX6_starts_0 6 rfl rfl)
theorem dX6_starts_7 : decode cX6_starts 7 = .ok (.putfield 113, 3) := dk_181 0 113 (dk_at dksX6_starts_0 7 rfl rfl)
theorem dX6_starts_10 : decode cX6_starts 10 = .ok (.aload_n 0, 1) := dk_42 (dk_at dksX6_starts_0 10 rfl rfl)
theorem dX6_starts_11 : decode cX6_starts 11 = .ok (.iconst 0, 1) := dk_3 (dk_at dksX6_starts_0 11 rfl rfl)
theorem dX6_starts_12 : decode cX6_starts 12 = .ok (.putfield 127, 3) := dk_181 0 127 (dk_at dksX6_starts_0 12 rfl rfl)
theorem dX6_starts_15 : decode cX6_starts 15 = .ok (.aload_n 0, 1) := dk_42 (dk_at dksX6_starts_0 15 rfl rfl)
theorem dX6_starts_16 : decode cX6_starts 16 = .ok (.iconst 0, 1) := dk_3 (dk_at dksX6_starts_0 16 rfl rfl)
theorem dX6_starts_17 : decode cX6_starts 17 = .ok (.putfield 163, 3) := dk_181 0 163 (dk_at dksX6_starts_0 17 rfl rfl)
theorem dX6_starts_20 : decode cX6_starts 20 = .ok (.aload_n 0, 1) := dk_42 (dk_at dksX6_starts_0 20 rfl rfl)
theorem dX6_starts_21 : decode cX6_starts 21 = .ok (.iconst (-1), 1) := dk_2 (dk_at dksX6_starts_0 21 rfl rfl)
theorem dX6_starts_22 : decode cX6_starts 22 = .ok (.putfield 41, 3) := dk_181 0 41 (dk_at dksX6_starts_1 0 rfl rfl)
theorem dX6_starts_25 : decode cX6_starts 25 = .ok (.aload_n 0, 1) := dk_42 (dk_at dksX6_starts_1 3 rfl rfl)
theorem dX6_starts_26 : decode cX6_starts 26 = .ok (.invokevirtual 166, 3) := dk_182 0 166 (dk_at dksX6_starts_1 4 rfl rfl)
theorem dX6_starts_29 : decode cX6_starts 29 = .ok (.return_, 1) := dk_177 (dk_at dksX6_starts_1 7 rfl rfl)
abbrev cX6_next : ByteArray := prog_25_method_19_code
def yX6_next : MethodName := ⟨RX6, "next", "()V"⟩
def dkwX6_next_5 : List UInt8 := [180, 0, 127, 4, 96, 181, 0, 127, 177]
abbrev dktX6_next_5 : List UInt8 := dkwX6_next_5 ++ []
def dkwX6_next_4 : List UInt8 := [180, 0, 127, 46, 184, 0, 150, 153, 0, 10, 42, 182, 0, 160, 167, 0, 18, 42, 6, 181, 0, 144, 42, 89]
abbrev dktX6_next_4 : List UInt8 := dkwX6_next_4 ++ dktX6_next_5
def dkwX6_next_3 : List UInt8 := [180, 0, 127, 46, 184, 0, 133, 153, 0, 10, 42, 182, 0, 157, 167, 0, 40, 42, 180, 0, 37, 42]
abbrev dktX6_next_3 : List UInt8 := dkwX6_next_3 ++ dktX6_next_4
def dkwX6_next_2 : List UInt8 := [42, 180, 0, 127, 42, 180, 0, 120, 161, 0, 11, 42, 3, 181, 0, 144, 167, 0, 62, 42, 180, 0, 37, 42]
abbrev dktX6_next_2 : List UInt8 := dkwX6_next_2 ++ dktX6_next_3
def dkwX6_next_1 : List UInt8 := [160, 0, 16, 42, 89, 180, 0, 127, 4, 96, 181, 0, 127, 167, 255, 220, 42, 42, 180, 0, 127, 181, 0, 137]
abbrev dktX6_next_1 : List UInt8 := dkwX6_next_1 ++ dktX6_next_2
def dkwX6_next_0 : List UInt8 := [42, 42, 180, 0, 127, 182, 0, 129, 16, 32, 159, 0, 16, 42, 42, 180, 0, 127, 182, 0, 129, 16, 10]
abbrev dktX6_next_0 : List UInt8 := dkwX6_next_0 ++ dktX6_next_1
theorem dksX6_next_0 : cX6_next.data.toList.drop 0 = dktX6_next_0 := by decide +kernel
theorem dksX6_next_1 : cX6_next.data.toList.drop 23 = dktX6_next_1 := dk_seg dksX6_next_0 23 rfl rfl
theorem dksX6_next_2 : cX6_next.data.toList.drop 47 = dktX6_next_2 := dk_seg dksX6_next_1 24 rfl rfl
theorem dksX6_next_3 : cX6_next.data.toList.drop 71 = dktX6_next_3 := dk_seg dksX6_next_2 24 rfl rfl
theorem dksX6_next_4 : cX6_next.data.toList.drop 93 = dktX6_next_4 := dk_seg dksX6_next_3 22 rfl rfl
theorem dksX6_next_5 : cX6_next.data.toList.drop 117 = dktX6_next_5 := dk_seg dksX6_next_4 24 rfl rfl
theorem dX6_next_0 : decode cX6_next 0 = .ok (.aload_n 0, 1) := dk_42 (dk_at dksX6_next_0 0 rfl rfl)
theorem dX6_next_1 : decode cX6_next 1 = .ok (.aload_n 0, 1) := dk_42 (dk_at dksX6_next_0 1 rfl rfl)
theorem dX6_next_2 : decode cX6_next 2 = .ok (.getfield 127, 3) := dk_180 0 127 (dk_at dksX6_next_0 2 rfl rfl)
theorem dX6_next_5 : decode cX6_next 5 = .ok (.invokevirtual 129, 3) := dk_182 0 129 (dk_at dksX6_next_0 5 rfl rfl)
theorem dX6_next_8 : decode cX6_next 8 = .ok (.bipush 32, 2) := dk_16 32 (dk_at dksX6_next_0 8 rfl rfl)
theorem dX6_next_10 : decode cX6_next 10 = .ok (.if_icmp .eq 16, 3) := dk_159 0 16 (dk_at dksX6_next_0 10 rfl rfl)
theorem dX6_next_13 : decode cX6_next 13 = .ok (.aload_n 0, 1) := dk_42 (dk_at dksX6_next_0 13 rfl rfl)
theorem dX6_next_14 : decode cX6_next 14 = .ok (.aload_n 0, 1) := dk_42 (dk_at dksX6_next_0 14 rfl rfl)
theorem dX6_next_15 : decode cX6_next 15 = .ok (.getfield 127, 3) := dk_180 0 127 (dk_at dksX6_next_0 15 rfl rfl)
theorem dX6_next_18 : decode cX6_next 18 = .ok (.invokevirtual 129, 3) := dk_182 0 129 (dk_at dksX6_next_0 18 rfl rfl)
theorem dX6_next_21 : decode cX6_next 21 = .ok (.bipush 10, 2) := dk_16 10 (dk_at dksX6_next_0 21 rfl rfl)
theorem dX6_next_23 : decode cX6_next 23 = .ok (.if_icmp .ne 16, 3) := dk_160 0 16 (dk_at dksX6_next_1 0 rfl rfl)
theorem dX6_next_26 : decode cX6_next 26 = .ok (.aload_n 0, 1) := dk_42 (dk_at dksX6_next_1 3 rfl rfl)
theorem dX6_next_27 : decode cX6_next 27 = .ok (.dup, 1) := dk_89 (dk_at dksX6_next_1 4 rfl rfl)
theorem dX6_next_28 : decode cX6_next 28 = .ok (.getfield 127, 3) := dk_180 0 127 (dk_at dksX6_next_1 5 rfl rfl)
theorem dX6_next_31 : decode cX6_next 31 = .ok (.iconst 1, 1) := dk_4 (dk_at dksX6_next_1 8 rfl rfl)
theorem dX6_next_32 : decode cX6_next 32 = .ok (.iadd, 1) := dk_96 (dk_at dksX6_next_1 9 rfl rfl)
theorem dX6_next_33 : decode cX6_next 33 = .ok (.putfield 127, 3) := dk_181 0 127 (dk_at dksX6_next_1 10 rfl rfl)
theorem dX6_next_36 : decode cX6_next 36 = .ok (.goto (-36), 3) := dk_167 255 220 (dk_at dksX6_next_1 13 rfl rfl)
theorem dX6_next_39 : decode cX6_next 39 = .ok (.aload_n 0, 1) := dk_42 (dk_at dksX6_next_1 16 rfl rfl)
theorem dX6_next_40 : decode cX6_next 40 = .ok (.aload_n 0, 1) := dk_42 (dk_at dksX6_next_1 17 rfl rfl)
theorem dX6_next_41 : decode cX6_next 41 = .ok (.getfield 127, 3) := dk_180 0 127 (dk_at dksX6_next_1 18 rfl rfl)
theorem dX6_next_44 : decode cX6_next 44 = .ok (.putfield 137, 3) := dk_181 0 137 (dk_at dksX6_next_1 21 rfl rfl)
theorem dX6_next_47 : decode cX6_next 47 = .ok (.aload_n 0, 1) := dk_42 (dk_at dksX6_next_2 0 rfl rfl)
theorem dX6_next_48 : decode cX6_next 48 = .ok (.getfield 127, 3) := dk_180 0 127 (dk_at dksX6_next_2 1 rfl rfl)
theorem dX6_next_51 : decode cX6_next 51 = .ok (.aload_n 0, 1) := dk_42 (dk_at dksX6_next_2 4 rfl rfl)
theorem dX6_next_52 : decode cX6_next 52 = .ok (.getfield 120, 3) := dk_180 0 120 (dk_at dksX6_next_2 5 rfl rfl)
theorem dX6_next_55 : decode cX6_next 55 = .ok (.if_icmp .lt 11, 3) := dk_161 0 11 (dk_at dksX6_next_2 8 rfl rfl)
theorem dX6_next_58 : decode cX6_next 58 = .ok (.aload_n 0, 1) := dk_42 (dk_at dksX6_next_2 11 rfl rfl)
theorem dX6_next_59 : decode cX6_next 59 = .ok (.iconst 0, 1) := dk_3 (dk_at dksX6_next_2 12 rfl rfl)
theorem dX6_next_60 : decode cX6_next 60 = .ok (.putfield 144, 3) := dk_181 0 144 (dk_at dksX6_next_2 13 rfl rfl)
theorem dX6_next_63 : decode cX6_next 63 = .ok (.goto 62, 3) := dk_167 0 62 (dk_at dksX6_next_2 16 rfl rfl)
theorem dX6_next_66 : decode cX6_next 66 = .ok (.aload_n 0, 1) := dk_42 (dk_at dksX6_next_2 19 rfl rfl)
theorem dX6_next_67 : decode cX6_next 67 = .ok (.getfield 37, 3) := dk_180 0 37 (dk_at dksX6_next_2 20 rfl rfl)
theorem dX6_next_70 : decode cX6_next 70 = .ok (.aload_n 0, 1) := dk_42 (dk_at dksX6_next_2 23 rfl rfl)
theorem dX6_next_71 : decode cX6_next 71 = .ok (.getfield 127, 3) := dk_180 0 127 (dk_at dksX6_next_3 0 rfl rfl)
theorem dX6_next_74 : decode cX6_next 74 = .ok (.iaload, 1) := dk_46 (dk_at dksX6_next_3 3 rfl rfl)
theorem dX6_next_75 : decode cX6_next 75 = .ok (.invokestatic 133, 3) := dk_184 0 133 (dk_at dksX6_next_3 4 rfl rfl)
theorem dX6_next_78 : decode cX6_next 78 = .ok (.ifCond .eq 10, 3) := dk_153 0 10 (dk_at dksX6_next_3 7 rfl rfl)
theorem dX6_next_81 : decode cX6_next 81 = .ok (.aload_n 0, 1) := dk_42 (dk_at dksX6_next_3 10 rfl rfl)
theorem dX6_next_82 : decode cX6_next 82 = .ok (.invokevirtual 157, 3) := dk_182 0 157 (dk_at dksX6_next_3 11 rfl rfl)
theorem dX6_next_85 : decode cX6_next 85 = .ok (.goto 40, 3) := dk_167 0 40 (dk_at dksX6_next_3 14 rfl rfl)
theorem dX6_next_88 : decode cX6_next 88 = .ok (.aload_n 0, 1) := dk_42 (dk_at dksX6_next_3 17 rfl rfl)
theorem dX6_next_89 : decode cX6_next 89 = .ok (.getfield 37, 3) := dk_180 0 37 (dk_at dksX6_next_3 18 rfl rfl)
theorem dX6_next_92 : decode cX6_next 92 = .ok (.aload_n 0, 1) := dk_42 (dk_at dksX6_next_3 21 rfl rfl)
theorem dX6_next_93 : decode cX6_next 93 = .ok (.getfield 127, 3) := dk_180 0 127 (dk_at dksX6_next_4 0 rfl rfl)
theorem dX6_next_96 : decode cX6_next 96 = .ok (.iaload, 1) := dk_46 (dk_at dksX6_next_4 3 rfl rfl)
theorem dX6_next_97 : decode cX6_next 97 = .ok (.invokestatic 150, 3) := dk_184 0 150 (dk_at dksX6_next_4 4 rfl rfl)
theorem dX6_next_100 : decode cX6_next 100 = .ok (.ifCond .eq 10, 3) := dk_153 0 10 (dk_at dksX6_next_4 7 rfl rfl)
theorem dX6_next_103 : decode cX6_next 103 = .ok (.aload_n 0, 1) := dk_42 (dk_at dksX6_next_4 10 rfl rfl)
theorem dX6_next_104 : decode cX6_next 104 = .ok (.invokevirtual 160, 3) := dk_182 0 160 (dk_at dksX6_next_4 11 rfl rfl)
theorem dX6_next_107 : decode cX6_next 107 = .ok (.goto 18, 3) := dk_167 0 18 (dk_at dksX6_next_4 14 rfl rfl)
theorem dX6_next_110 : decode cX6_next 110 = .ok (.aload_n 0, 1) := dk_42 (dk_at dksX6_next_4 17 rfl rfl)
theorem dX6_next_111 : decode cX6_next 111 = .ok (.iconst 3, 1) := dk_6 (dk_at dksX6_next_4 18 rfl rfl)
theorem dX6_next_112 : decode cX6_next 112 = .ok (.putfield 144, 3) := dk_181 0 144 (dk_at dksX6_next_4 19 rfl rfl)
theorem dX6_next_115 : decode cX6_next 115 = .ok (.aload_n 0, 1) := dk_42 (dk_at dksX6_next_4 22 rfl rfl)
theorem dX6_next_116 : decode cX6_next 116 = .ok (.dup, 1) := dk_89 (dk_at dksX6_next_4 23 rfl rfl)
theorem dX6_next_117 : decode cX6_next 117 = .ok (.getfield 127, 3) := dk_180 0 127 (dk_at dksX6_next_5 0 rfl rfl)
theorem dX6_next_120 : decode cX6_next 120 = .ok (.iconst 1, 1) := dk_4 (dk_at dksX6_next_5 3 rfl rfl)
theorem dX6_next_121 : decode cX6_next 121 = .ok (.iadd, 1) := dk_96 (dk_at dksX6_next_5 4 rfl rfl)
theorem dX6_next_122 : decode cX6_next 122 = .ok (.putfield 127, 3) := dk_181 0 127 (dk_at dksX6_next_5 5 rfl rfl)
theorem dX6_next_125 : decode cX6_next 125 = .ok (.return_, 1) := dk_177 (dk_at dksX6_next_5 8 rfl rfl)
abbrev cX6_byteAt : ByteArray := prog_25_method_14_code
def yX6_byteAt : MethodName := ⟨RX6, "byteAt", "(I)I"⟩
def dkwX6_byteAt_0 : List UInt8 := [27, 42, 180, 0, 120, 162, 0, 12, 42, 180, 0, 37, 27, 46, 167, 0, 4, 2, 172]
abbrev dktX6_byteAt_0 : List UInt8 := dkwX6_byteAt_0 ++ []
theorem dksX6_byteAt_0 : cX6_byteAt.data.toList.drop 0 = dktX6_byteAt_0 := by decide +kernel
theorem dX6_byteAt_0 : decode cX6_byteAt 0 = .ok (.iload_n 1, 1) := dk_27 (dk_at dksX6_byteAt_0 0 rfl rfl)
theorem dX6_byteAt_1 : decode cX6_byteAt 1 = .ok (.aload_n 0, 1) := dk_42 (dk_at dksX6_byteAt_0 1 rfl rfl)
theorem dX6_byteAt_2 : decode cX6_byteAt 2 = .ok (.getfield 120, 3) := dk_180 0 120 (dk_at dksX6_byteAt_0 2 rfl rfl)
theorem dX6_byteAt_5 : decode cX6_byteAt 5 = .ok (.if_icmp .ge 12, 3) := dk_162 0 12 (dk_at dksX6_byteAt_0 5 rfl rfl)
theorem dX6_byteAt_8 : decode cX6_byteAt 8 = .ok (.aload_n 0, 1) := dk_42 (dk_at dksX6_byteAt_0 8 rfl rfl)
theorem dX6_byteAt_9 : decode cX6_byteAt 9 = .ok (.getfield 37, 3) := dk_180 0 37 (dk_at dksX6_byteAt_0 9 rfl rfl)
theorem dX6_byteAt_12 : decode cX6_byteAt 12 = .ok (.iload_n 1, 1) := dk_27 (dk_at dksX6_byteAt_0 12 rfl rfl)
theorem dX6_byteAt_13 : decode cX6_byteAt 13 = .ok (.iaload, 1) := dk_46 (dk_at dksX6_byteAt_0 13 rfl rfl)
theorem dX6_byteAt_14 : decode cX6_byteAt 14 = .ok (.goto 4, 3) := dk_167 0 4 (dk_at dksX6_byteAt_0 14 rfl rfl)
theorem dX6_byteAt_17 : decode cX6_byteAt 17 = .ok (.iconst (-1), 1) := dk_2 (dk_at dksX6_byteAt_0 17 rfl rfl)
theorem dX6_byteAt_18 : decode cX6_byteAt 18 = .ok (.ireturn, 1) := dk_172 (dk_at dksX6_byteAt_0 18 rfl rfl)
abbrev cX6_isLetter : ByteArray := prog_25_method_15_code
def yX6_isLetter : MethodName := ⟨RX6, "isLetter", "(I)Z"⟩
def dkwX6_isLetter_0 : List UInt8 := [26, 16, 97, 161, 0, 13, 26, 16, 122, 163, 0, 7, 4, 167, 0, 4, 3, 172]
abbrev dktX6_isLetter_0 : List UInt8 := dkwX6_isLetter_0 ++ []
theorem dksX6_isLetter_0 : cX6_isLetter.data.toList.drop 0 = dktX6_isLetter_0 := by decide +kernel
theorem dX6_isLetter_0 : decode cX6_isLetter 0 = .ok (.iload_n 0, 1) := dk_26 (dk_at dksX6_isLetter_0 0 rfl rfl)
theorem dX6_isLetter_1 : decode cX6_isLetter 1 = .ok (.bipush 97, 2) := dk_16 97 (dk_at dksX6_isLetter_0 1 rfl rfl)
theorem dX6_isLetter_3 : decode cX6_isLetter 3 = .ok (.if_icmp .lt 13, 3) := dk_161 0 13 (dk_at dksX6_isLetter_0 3 rfl rfl)
theorem dX6_isLetter_6 : decode cX6_isLetter 6 = .ok (.iload_n 0, 1) := dk_26 (dk_at dksX6_isLetter_0 6 rfl rfl)
theorem dX6_isLetter_7 : decode cX6_isLetter 7 = .ok (.bipush 122, 2) := dk_16 122 (dk_at dksX6_isLetter_0 7 rfl rfl)
theorem dX6_isLetter_9 : decode cX6_isLetter 9 = .ok (.if_icmp .gt 7, 3) := dk_163 0 7 (dk_at dksX6_isLetter_0 9 rfl rfl)
theorem dX6_isLetter_12 : decode cX6_isLetter 12 = .ok (.iconst 1, 1) := dk_4 (dk_at dksX6_isLetter_0 12 rfl rfl)
theorem dX6_isLetter_13 : decode cX6_isLetter 13 = .ok (.goto 4, 3) := dk_167 0 4 (dk_at dksX6_isLetter_0 13 rfl rfl)
theorem dX6_isLetter_16 : decode cX6_isLetter 16 = .ok (.iconst 0, 1) := dk_3 (dk_at dksX6_isLetter_0 16 rfl rfl)
theorem dX6_isLetter_17 : decode cX6_isLetter 17 = .ok (.ireturn, 1) := dk_172 (dk_at dksX6_isLetter_0 17 rfl rfl)
abbrev cX6_readsWord : ByteArray := prog_25_method_17_code
def yX6_readsWord : MethodName := ⟨RX6, "readsWord", "()V"⟩
def dkwX6_readsWord_3 : List UInt8 := [167, 255, 191, 42, 4, 181, 0, 144, 177]
abbrev dktX6_readsWord_3 : List UInt8 := dkwX6_readsWord_3 ++ []
def dkwX6_readsWord_2 : List UInt8 := [180, 0, 127, 46, 133, 97, 20, 0, 142, 101, 181, 0, 123, 42, 89, 180, 0, 127, 4, 96, 181, 0, 127]
abbrev dktX6_readsWord_2 : List UInt8 := dkwX6_readsWord_2 ++ dktX6_readsWord_3
def dkwX6_readsWord_1 : List UInt8 := [180, 0, 137, 100, 16, 8, 162, 0, 30, 42, 20, 0, 140, 42, 180, 0, 123, 105, 42, 180, 0, 37, 42]
abbrev dktX6_readsWord_1 : List UInt8 := dkwX6_readsWord_1 ++ dktX6_readsWord_2
def dkwX6_readsWord_0 : List UInt8 := [42, 9, 181, 0, 123, 42, 42, 180, 0, 127, 182, 0, 129, 184, 0, 133, 153, 0, 57, 42, 180, 0, 127, 42]
abbrev dktX6_readsWord_0 : List UInt8 := dkwX6_readsWord_0 ++ dktX6_readsWord_1
theorem dksX6_readsWord_0 : cX6_readsWord.data.toList.drop 0 = dktX6_readsWord_0 := by decide +kernel
theorem dksX6_readsWord_1 : cX6_readsWord.data.toList.drop 24 = dktX6_readsWord_1 := dk_seg dksX6_readsWord_0 24 rfl rfl
theorem dksX6_readsWord_2 : cX6_readsWord.data.toList.drop 47 = dktX6_readsWord_2 := dk_seg dksX6_readsWord_1 23 rfl rfl
theorem dksX6_readsWord_3 : cX6_readsWord.data.toList.drop 70 = dktX6_readsWord_3 := dk_seg dksX6_readsWord_2 23 rfl rfl
theorem dX6_readsWord_0 : decode cX6_readsWord 0 = .ok (.aload_n 0, 1) := dk_42 (dk_at dksX6_readsWord_0 0 rfl rfl)
theorem dX6_readsWord_1 : decode cX6_readsWord 1 = .ok (.lconst 0, 1) := dk_9 (dk_at dksX6_readsWord_0 1 rfl rfl)
theorem dX6_readsWord_2 : decode cX6_readsWord 2 = .ok (.putfield 123, 3) := dk_181 0 123 (dk_at dksX6_readsWord_0 2 rfl rfl)
theorem dX6_readsWord_5 : decode cX6_readsWord 5 = .ok (.aload_n 0, 1) := dk_42 (dk_at dksX6_readsWord_0 5 rfl rfl)
theorem dX6_readsWord_6 : decode cX6_readsWord 6 = .ok (.aload_n 0, 1) := dk_42 (dk_at dksX6_readsWord_0 6 rfl rfl)
theorem dX6_readsWord_7 : decode cX6_readsWord 7 = .ok (.getfield 127, 3) := dk_180 0 127 (dk_at dksX6_readsWord_0 7 rfl rfl)
theorem dX6_readsWord_10 : decode cX6_readsWord 10 = .ok (.invokevirtual 129, 3) := dk_182 0 129 (dk_at dksX6_readsWord_0 10 rfl rfl)
theorem dX6_readsWord_13 : decode cX6_readsWord 13 = .ok (.invokestatic 133, 3) := dk_184 0 133 (dk_at dksX6_readsWord_0 13 rfl rfl)
theorem dX6_readsWord_16 : decode cX6_readsWord 16 = .ok (.ifCond .eq 57, 3) := dk_153 0 57 (dk_at dksX6_readsWord_0 16 rfl rfl)
theorem dX6_readsWord_19 : decode cX6_readsWord 19 = .ok (.aload_n 0, 1) := dk_42 (dk_at dksX6_readsWord_0 19 rfl rfl)
theorem dX6_readsWord_20 : decode cX6_readsWord 20 = .ok (.getfield 127, 3) := dk_180 0 127 (dk_at dksX6_readsWord_0 20 rfl rfl)
theorem dX6_readsWord_23 : decode cX6_readsWord 23 = .ok (.aload_n 0, 1) := dk_42 (dk_at dksX6_readsWord_0 23 rfl rfl)
theorem dX6_readsWord_24 : decode cX6_readsWord 24 = .ok (.getfield 137, 3) := dk_180 0 137 (dk_at dksX6_readsWord_1 0 rfl rfl)
theorem dX6_readsWord_27 : decode cX6_readsWord 27 = .ok (.isub, 1) := dk_100 (dk_at dksX6_readsWord_1 3 rfl rfl)
theorem dX6_readsWord_28 : decode cX6_readsWord 28 = .ok (.bipush 8, 2) := dk_16 8 (dk_at dksX6_readsWord_1 4 rfl rfl)
theorem dX6_readsWord_30 : decode cX6_readsWord 30 = .ok (.if_icmp .ge 30, 3) := dk_162 0 30 (dk_at dksX6_readsWord_1 6 rfl rfl)
theorem dX6_readsWord_33 : decode cX6_readsWord 33 = .ok (.aload_n 0, 1) := dk_42 (dk_at dksX6_readsWord_1 9 rfl rfl)
theorem dX6_readsWord_34 : decode cX6_readsWord 34 = .ok (.ldc2_w 140, 3) := dk_20 0 140 (dk_at dksX6_readsWord_1 10 rfl rfl)
theorem dX6_readsWord_37 : decode cX6_readsWord 37 = .ok (.aload_n 0, 1) := dk_42 (dk_at dksX6_readsWord_1 13 rfl rfl)
theorem dX6_readsWord_38 : decode cX6_readsWord 38 = .ok (.getfield 123, 3) := dk_180 0 123 (dk_at dksX6_readsWord_1 14 rfl rfl)
theorem dX6_readsWord_41 : decode cX6_readsWord 41 = .ok (.lmul, 1) := dk_105 (dk_at dksX6_readsWord_1 17 rfl rfl)
theorem dX6_readsWord_42 : decode cX6_readsWord 42 = .ok (.aload_n 0, 1) := dk_42 (dk_at dksX6_readsWord_1 18 rfl rfl)
theorem dX6_readsWord_43 : decode cX6_readsWord 43 = .ok (.getfield 37, 3) := dk_180 0 37 (dk_at dksX6_readsWord_1 19 rfl rfl)
theorem dX6_readsWord_46 : decode cX6_readsWord 46 = .ok (.aload_n 0, 1) := dk_42 (dk_at dksX6_readsWord_1 22 rfl rfl)
theorem dX6_readsWord_47 : decode cX6_readsWord 47 = .ok (.getfield 127, 3) := dk_180 0 127 (dk_at dksX6_readsWord_2 0 rfl rfl)
theorem dX6_readsWord_50 : decode cX6_readsWord 50 = .ok (.iaload, 1) := dk_46 (dk_at dksX6_readsWord_2 3 rfl rfl)
theorem dX6_readsWord_51 : decode cX6_readsWord 51 = .ok (.i2l, 1) := dk_133 (dk_at dksX6_readsWord_2 4 rfl rfl)
theorem dX6_readsWord_52 : decode cX6_readsWord 52 = .ok (.ladd, 1) := dk_97 (dk_at dksX6_readsWord_2 5 rfl rfl)
theorem dX6_readsWord_53 : decode cX6_readsWord 53 = .ok (.ldc2_w 142, 3) := dk_20 0 142 (dk_at dksX6_readsWord_2 6 rfl rfl)
theorem dX6_readsWord_56 : decode cX6_readsWord 56 = .ok (.lsub, 1) := dk_101 (dk_at dksX6_readsWord_2 9 rfl rfl)
theorem dX6_readsWord_57 : decode cX6_readsWord 57 = .ok (.putfield 123, 3) := dk_181 0 123 (dk_at dksX6_readsWord_2 10 rfl rfl)
theorem dX6_readsWord_60 : decode cX6_readsWord 60 = .ok (.aload_n 0, 1) := dk_42 (dk_at dksX6_readsWord_2 13 rfl rfl)
theorem dX6_readsWord_61 : decode cX6_readsWord 61 = .ok (.dup, 1) := dk_89 (dk_at dksX6_readsWord_2 14 rfl rfl)
theorem dX6_readsWord_62 : decode cX6_readsWord 62 = .ok (.getfield 127, 3) := dk_180 0 127 (dk_at dksX6_readsWord_2 15 rfl rfl)
theorem dX6_readsWord_65 : decode cX6_readsWord 65 = .ok (.iconst 1, 1) := dk_4 (dk_at dksX6_readsWord_2 18 rfl rfl)
theorem dX6_readsWord_66 : decode cX6_readsWord 66 = .ok (.iadd, 1) := dk_96 (dk_at dksX6_readsWord_2 19 rfl rfl)
theorem dX6_readsWord_67 : decode cX6_readsWord 67 = .ok (.putfield 127, 3) := dk_181 0 127 (dk_at dksX6_readsWord_2 20 rfl rfl)
theorem dX6_readsWord_70 : decode cX6_readsWord 70 = .ok (.goto (-65), 3) := dk_167 255 191 (dk_at dksX6_readsWord_3 0 rfl rfl)
theorem dX6_readsWord_73 : decode cX6_readsWord 73 = .ok (.aload_n 0, 1) := dk_42 (dk_at dksX6_readsWord_3 3 rfl rfl)
theorem dX6_readsWord_74 : decode cX6_readsWord 74 = .ok (.iconst 1, 1) := dk_4 (dk_at dksX6_readsWord_3 4 rfl rfl)
theorem dX6_readsWord_75 : decode cX6_readsWord 75 = .ok (.putfield 144, 3) := dk_181 0 144 (dk_at dksX6_readsWord_3 5 rfl rfl)
theorem dX6_readsWord_78 : decode cX6_readsWord 78 = .ok (.return_, 1) := dk_177 (dk_at dksX6_readsWord_3 8 rfl rfl)
abbrev cX6_isFigure : ByteArray := prog_25_method_16_code
def yX6_isFigure : MethodName := ⟨RX6, "isFigure", "(I)Z"⟩
def dkwX6_isFigure_0 : List UInt8 := [26, 16, 48, 161, 0, 13, 26, 16, 57, 163, 0, 7, 4, 167, 0, 4, 3, 172]
abbrev dktX6_isFigure_0 : List UInt8 := dkwX6_isFigure_0 ++ []
theorem dksX6_isFigure_0 : cX6_isFigure.data.toList.drop 0 = dktX6_isFigure_0 := by decide +kernel
theorem dX6_isFigure_0 : decode cX6_isFigure 0 = .ok (.iload_n 0, 1) := dk_26 (dk_at dksX6_isFigure_0 0 rfl rfl)
theorem dX6_isFigure_1 : decode cX6_isFigure 1 = .ok (.bipush 48, 2) := dk_16 48 (dk_at dksX6_isFigure_0 1 rfl rfl)
theorem dX6_isFigure_3 : decode cX6_isFigure 3 = .ok (.if_icmp .lt 13, 3) := dk_161 0 13 (dk_at dksX6_isFigure_0 3 rfl rfl)
theorem dX6_isFigure_6 : decode cX6_isFigure 6 = .ok (.iload_n 0, 1) := dk_26 (dk_at dksX6_isFigure_0 6 rfl rfl)
theorem dX6_isFigure_7 : decode cX6_isFigure 7 = .ok (.bipush 57, 2) := dk_16 57 (dk_at dksX6_isFigure_0 7 rfl rfl)
theorem dX6_isFigure_9 : decode cX6_isFigure 9 = .ok (.if_icmp .gt 7, 3) := dk_163 0 7 (dk_at dksX6_isFigure_0 9 rfl rfl)
theorem dX6_isFigure_12 : decode cX6_isFigure 12 = .ok (.iconst 1, 1) := dk_4 (dk_at dksX6_isFigure_0 12 rfl rfl)
theorem dX6_isFigure_13 : decode cX6_isFigure 13 = .ok (.goto 4, 3) := dk_167 0 4 (dk_at dksX6_isFigure_0 13 rfl rfl)
theorem dX6_isFigure_16 : decode cX6_isFigure 16 = .ok (.iconst 0, 1) := dk_3 (dk_at dksX6_isFigure_0 16 rfl rfl)
theorem dX6_isFigure_17 : decode cX6_isFigure 17 = .ok (.ireturn, 1) := dk_172 (dk_at dksX6_isFigure_0 17 rfl rfl)
abbrev cX6_readsNumber : ByteArray := prog_25_method_18_code
def yX6_readsNumber : MethodName := ⟨RX6, "readsNumber", "()V"⟩
def dkwX6_readsNumber_3 : List UInt8 := [181, 0, 127, 167, 255, 187, 42, 5, 181, 0, 144, 177]
abbrev dktX6_readsNumber_3 : List UInt8 := dkwX6_readsNumber_3 ++ []
def dkwX6_readsNumber_2 : List UInt8 := [180, 0, 37, 42, 180, 0, 127, 46, 133, 97, 20, 0, 155, 101, 181, 0, 147, 42, 89, 180, 0, 127, 4, 96]
abbrev dktX6_readsNumber_2 : List UInt8 := dkwX6_readsNumber_2 ++ dktX6_readsNumber_3
def dkwX6_readsNumber_1 : List UInt8 := [20, 0, 153, 148, 158, 0, 10, 42, 180, 0, 147, 167, 0, 26, 20, 0, 91, 42, 180, 0, 147, 105, 42]
abbrev dktX6_readsNumber_1 : List UInt8 := dkwX6_readsNumber_1 ++ dktX6_readsNumber_2
def dkwX6_readsNumber_0 : List UInt8 := [42, 9, 181, 0, 147, 42, 42, 180, 0, 127, 182, 0, 129, 184, 0, 150, 153, 0, 61, 42, 42, 180, 0, 147]
abbrev dktX6_readsNumber_0 : List UInt8 := dkwX6_readsNumber_0 ++ dktX6_readsNumber_1
theorem dksX6_readsNumber_0 : cX6_readsNumber.data.toList.drop 0 = dktX6_readsNumber_0 := by decide +kernel
theorem dksX6_readsNumber_1 : cX6_readsNumber.data.toList.drop 24 = dktX6_readsNumber_1 := dk_seg dksX6_readsNumber_0 24 rfl rfl
theorem dksX6_readsNumber_2 : cX6_readsNumber.data.toList.drop 47 = dktX6_readsNumber_2 := dk_seg dksX6_readsNumber_1 23 rfl rfl
theorem dksX6_readsNumber_3 : cX6_readsNumber.data.toList.drop 71 = dktX6_readsNumber_3 := dk_seg dksX6_readsNumber_2 24 rfl rfl
theorem dX6_readsNumber_0 : decode cX6_readsNumber 0 = .ok (.aload_n 0, 1) := dk_42 (dk_at dksX6_readsNumber_0 0 rfl rfl)
theorem dX6_readsNumber_1 : decode cX6_readsNumber 1 = .ok (.lconst 0, 1) := dk_9 (dk_at dksX6_readsNumber_0 1 rfl rfl)
theorem dX6_readsNumber_2 : decode cX6_readsNumber 2 = .ok (.putfield 147, 3) := dk_181 0 147 (dk_at dksX6_readsNumber_0 2 rfl rfl)
theorem dX6_readsNumber_5 : decode cX6_readsNumber 5 = .ok (.aload_n 0, 1) := dk_42 (dk_at dksX6_readsNumber_0 5 rfl rfl)
theorem dX6_readsNumber_6 : decode cX6_readsNumber 6 = .ok (.aload_n 0, 1) := dk_42 (dk_at dksX6_readsNumber_0 6 rfl rfl)
theorem dX6_readsNumber_7 : decode cX6_readsNumber 7 = .ok (.getfield 127, 3) := dk_180 0 127 (dk_at dksX6_readsNumber_0 7 rfl rfl)
theorem dX6_readsNumber_10 : decode cX6_readsNumber 10 = .ok (.invokevirtual 129, 3) := dk_182 0 129 (dk_at dksX6_readsNumber_0 10 rfl rfl)
theorem dX6_readsNumber_13 : decode cX6_readsNumber 13 = .ok (.invokestatic 150, 3) := dk_184 0 150 (dk_at dksX6_readsNumber_0 13 rfl rfl)
theorem dX6_readsNumber_16 : decode cX6_readsNumber 16 = .ok (.ifCond .eq 61, 3) := dk_153 0 61 (dk_at dksX6_readsNumber_0 16 rfl rfl)
theorem dX6_readsNumber_19 : decode cX6_readsNumber 19 = .ok (.aload_n 0, 1) := dk_42 (dk_at dksX6_readsNumber_0 19 rfl rfl)
theorem dX6_readsNumber_20 : decode cX6_readsNumber 20 = .ok (.aload_n 0, 1) := dk_42 (dk_at dksX6_readsNumber_0 20 rfl rfl)
theorem dX6_readsNumber_21 : decode cX6_readsNumber 21 = .ok (.getfield 147, 3) := dk_180 0 147 (dk_at dksX6_readsNumber_0 21 rfl rfl)
theorem dX6_readsNumber_24 : decode cX6_readsNumber 24 = .ok (.ldc2_w 153, 3) := dk_20 0 153 (dk_at dksX6_readsNumber_1 0 rfl rfl)
theorem dX6_readsNumber_27 : decode cX6_readsNumber 27 = .ok (.lcmp, 1) := dk_148 (dk_at dksX6_readsNumber_1 3 rfl rfl)
theorem dX6_readsNumber_28 : decode cX6_readsNumber 28 = .ok (.ifCond .le 10, 3) := dk_158 0 10 (dk_at dksX6_readsNumber_1 4 rfl rfl)
theorem dX6_readsNumber_31 : decode cX6_readsNumber 31 = .ok (.aload_n 0, 1) := dk_42 (dk_at dksX6_readsNumber_1 7 rfl rfl)
theorem dX6_readsNumber_32 : decode cX6_readsNumber 32 = .ok (.getfield 147, 3) := dk_180 0 147 (dk_at dksX6_readsNumber_1 8 rfl rfl)
theorem dX6_readsNumber_35 : decode cX6_readsNumber 35 = .ok (.goto 26, 3) := dk_167 0 26 (dk_at dksX6_readsNumber_1 11 rfl rfl)
theorem dX6_readsNumber_38 : decode cX6_readsNumber 38 = .ok (.ldc2_w 91, 3) := dk_20 0 91 (dk_at dksX6_readsNumber_1 14 rfl rfl)
theorem dX6_readsNumber_41 : decode cX6_readsNumber 41 = .ok (.aload_n 0, 1) := dk_42 (dk_at dksX6_readsNumber_1 17 rfl rfl)
theorem dX6_readsNumber_42 : decode cX6_readsNumber 42 = .ok (.getfield 147, 3) := dk_180 0 147 (dk_at dksX6_readsNumber_1 18 rfl rfl)
theorem dX6_readsNumber_45 : decode cX6_readsNumber 45 = .ok (.lmul, 1) := dk_105 (dk_at dksX6_readsNumber_1 21 rfl rfl)
theorem dX6_readsNumber_46 : decode cX6_readsNumber 46 = .ok (.aload_n 0, 1) := dk_42 (dk_at dksX6_readsNumber_1 22 rfl rfl)
theorem dX6_readsNumber_47 : decode cX6_readsNumber 47 = .ok (.getfield 37, 3) := dk_180 0 37 (dk_at dksX6_readsNumber_2 0 rfl rfl)
theorem dX6_readsNumber_50 : decode cX6_readsNumber 50 = .ok (.aload_n 0, 1) := dk_42 (dk_at dksX6_readsNumber_2 3 rfl rfl)
theorem dX6_readsNumber_51 : decode cX6_readsNumber 51 = .ok (.getfield 127, 3) := dk_180 0 127 (dk_at dksX6_readsNumber_2 4 rfl rfl)
theorem dX6_readsNumber_54 : decode cX6_readsNumber 54 = .ok (.iaload, 1) := dk_46 (dk_at dksX6_readsNumber_2 7 rfl rfl)
theorem dX6_readsNumber_55 : decode cX6_readsNumber 55 = .ok (.i2l, 1) := dk_133 (dk_at dksX6_readsNumber_2 8 rfl rfl)
theorem dX6_readsNumber_56 : decode cX6_readsNumber 56 = .ok (.ladd, 1) := dk_97 (dk_at dksX6_readsNumber_2 9 rfl rfl)
theorem dX6_readsNumber_57 : decode cX6_readsNumber 57 = .ok (.ldc2_w 155, 3) := dk_20 0 155 (dk_at dksX6_readsNumber_2 10 rfl rfl)
theorem dX6_readsNumber_60 : decode cX6_readsNumber 60 = .ok (.lsub, 1) := dk_101 (dk_at dksX6_readsNumber_2 13 rfl rfl)
theorem dX6_readsNumber_61 : decode cX6_readsNumber 61 = .ok (.putfield 147, 3) := dk_181 0 147 (dk_at dksX6_readsNumber_2 14 rfl rfl)
theorem dX6_readsNumber_64 : decode cX6_readsNumber 64 = .ok (.aload_n 0, 1) := dk_42 (dk_at dksX6_readsNumber_2 17 rfl rfl)
theorem dX6_readsNumber_65 : decode cX6_readsNumber 65 = .ok (.dup, 1) := dk_89 (dk_at dksX6_readsNumber_2 18 rfl rfl)
theorem dX6_readsNumber_66 : decode cX6_readsNumber 66 = .ok (.getfield 127, 3) := dk_180 0 127 (dk_at dksX6_readsNumber_2 19 rfl rfl)
theorem dX6_readsNumber_69 : decode cX6_readsNumber 69 = .ok (.iconst 1, 1) := dk_4 (dk_at dksX6_readsNumber_2 22 rfl rfl)
theorem dX6_readsNumber_70 : decode cX6_readsNumber 70 = .ok (.iadd, 1) := dk_96 (dk_at dksX6_readsNumber_2 23 rfl rfl)
theorem dX6_readsNumber_71 : decode cX6_readsNumber 71 = .ok (.putfield 127, 3) := dk_181 0 127 (dk_at dksX6_readsNumber_3 0 rfl rfl)
theorem dX6_readsNumber_74 : decode cX6_readsNumber 74 = .ok (.goto (-69), 3) := dk_167 255 187 (dk_at dksX6_readsNumber_3 3 rfl rfl)
theorem dX6_readsNumber_77 : decode cX6_readsNumber 77 = .ok (.aload_n 0, 1) := dk_42 (dk_at dksX6_readsNumber_3 6 rfl rfl)
theorem dX6_readsNumber_78 : decode cX6_readsNumber 78 = .ok (.iconst 2, 1) := dk_5 (dk_at dksX6_readsNumber_3 7 rfl rfl)
theorem dX6_readsNumber_79 : decode cX6_readsNumber 79 = .ok (.putfield 144, 3) := dk_181 0 144 (dk_at dksX6_readsNumber_3 8 rfl rfl)
theorem dX6_readsNumber_82 : decode cX6_readsNumber 82 = .ok (.return_, 1) := dk_177 (dk_at dksX6_readsNumber_3 11 rfl rfl)
abbrev cX6_settingsRead : ByteArray := prog_25_method_31_code
def yX6_settingsRead : MethodName := ⟨RX6, "settingsRead", "()V"⟩
def dkwX6_settingsRead_4 : List UInt8 := [42, 182, 0, 223, 153, 0, 7, 4, 167, 0, 4, 3, 60, 167, 255, 154, 177]
abbrev dktX6_settingsRead_4 : List UInt8 := dkwX6_settingsRead_4 ++ []
def dkwX6_settingsRead_3 : List UInt8 := [20, 0, 219, 182, 0, 209, 154, 0, 25, 42, 20, 0, 221, 7, 10, 20, 0, 153, 182, 0, 209, 154, 0, 10]
abbrev dktX6_settingsRead_3 : List UInt8 := dkwX6_settingsRead_3 ++ dktX6_settingsRead_4
def dkwX6_settingsRead_2 : List UInt8 := [182, 0, 209, 153, 0, 7, 4, 167, 0, 4, 3, 60, 27, 154, 0, 40, 42, 20, 0, 217, 6, 9]
abbrev dktX6_settingsRead_2 : List UInt8 := dkwX6_settingsRead_2 ++ dktX6_settingsRead_3
def dkwX6_settingsRead_1 : List UInt8 := [20, 0, 213, 4, 10, 20, 0, 83, 182, 0, 209, 154, 0, 18, 42, 20, 0, 215, 5, 10, 20, 0, 93]
abbrev dktX6_settingsRead_1 : List UInt8 := dkwX6_settingsRead_1 ++ dktX6_settingsRead_2
def dkwX6_settingsRead_0 : List UInt8 := [4, 60, 27, 153, 0, 104, 42, 20, 0, 207, 3, 9, 20, 0, 153, 182, 0, 209, 154, 0, 33, 42]
abbrev dktX6_settingsRead_0 : List UInt8 := dkwX6_settingsRead_0 ++ dktX6_settingsRead_1
theorem dksX6_settingsRead_0 : cX6_settingsRead.data.toList.drop 0 = dktX6_settingsRead_0 := by decide +kernel
theorem dksX6_settingsRead_1 : cX6_settingsRead.data.toList.drop 22 = dktX6_settingsRead_1 := dk_seg dksX6_settingsRead_0 22 rfl rfl
theorem dksX6_settingsRead_2 : cX6_settingsRead.data.toList.drop 45 = dktX6_settingsRead_2 := dk_seg dksX6_settingsRead_1 23 rfl rfl
theorem dksX6_settingsRead_3 : cX6_settingsRead.data.toList.drop 67 = dktX6_settingsRead_3 := dk_seg dksX6_settingsRead_2 22 rfl rfl
theorem dksX6_settingsRead_4 : cX6_settingsRead.data.toList.drop 91 = dktX6_settingsRead_4 := dk_seg dksX6_settingsRead_3 24 rfl rfl
theorem dX6_settingsRead_0 : decode cX6_settingsRead 0 = .ok (.iconst 1, 1) := dk_4 (dk_at dksX6_settingsRead_0 0 rfl rfl)
theorem dX6_settingsRead_1 : decode cX6_settingsRead 1 = .ok (.istore_n 1, 1) := dk_60 (dk_at dksX6_settingsRead_0 1 rfl rfl)
theorem dX6_settingsRead_2 : decode cX6_settingsRead 2 = .ok (.iload_n 1, 1) := dk_27 (dk_at dksX6_settingsRead_0 2 rfl rfl)
theorem dX6_settingsRead_3 : decode cX6_settingsRead 3 = .ok (.ifCond .eq 104, 3) := dk_153 0 104 (dk_at dksX6_settingsRead_0 3 rfl rfl)
theorem dX6_settingsRead_6 : decode cX6_settingsRead 6 = .ok (.aload_n 0, 1) := dk_42 (dk_at dksX6_settingsRead_0 6 rfl rfl)
theorem dX6_settingsRead_7 : decode cX6_settingsRead 7 = .ok (.ldc2_w 207, 3) := dk_20 0 207 (dk_at dksX6_settingsRead_0 7 rfl rfl)
theorem dX6_settingsRead_10 : decode cX6_settingsRead 10 = .ok (.iconst 0, 1) := dk_3 (dk_at dksX6_settingsRead_0 10 rfl rfl)
theorem dX6_settingsRead_11 : decode cX6_settingsRead 11 = .ok (.lconst 0, 1) := dk_9 (dk_at dksX6_settingsRead_0 11 rfl rfl)
theorem dX6_settingsRead_12 : decode cX6_settingsRead 12 = .ok (.ldc2_w 153, 3) := dk_20 0 153 (dk_at dksX6_settingsRead_0 12 rfl rfl)
theorem dX6_settingsRead_15 : decode cX6_settingsRead 15 = .ok (.invokevirtual 209, 3) := dk_182 0 209 (dk_at dksX6_settingsRead_0 15 rfl rfl)
theorem dX6_settingsRead_18 : decode cX6_settingsRead 18 = .ok (.ifCond .ne 33, 3) := dk_154 0 33 (dk_at dksX6_settingsRead_0 18 rfl rfl)
theorem dX6_settingsRead_21 : decode cX6_settingsRead 21 = .ok (.aload_n 0, 1) := dk_42 (dk_at dksX6_settingsRead_0 21 rfl rfl)
theorem dX6_settingsRead_22 : decode cX6_settingsRead 22 = .ok (.ldc2_w 213, 3) := dk_20 0 213 (dk_at dksX6_settingsRead_1 0 rfl rfl)
theorem dX6_settingsRead_25 : decode cX6_settingsRead 25 = .ok (.iconst 1, 1) := dk_4 (dk_at dksX6_settingsRead_1 3 rfl rfl)
theorem dX6_settingsRead_26 : decode cX6_settingsRead 26 = .ok (.lconst 1, 1) := dk_10 (dk_at dksX6_settingsRead_1 4 rfl rfl)
theorem dX6_settingsRead_27 : decode cX6_settingsRead 27 = .ok (.ldc2_w 83, 3) := dk_20 0 83 (dk_at dksX6_settingsRead_1 5 rfl rfl)
theorem dX6_settingsRead_30 : decode cX6_settingsRead 30 = .ok (.invokevirtual 209, 3) := dk_182 0 209 (dk_at dksX6_settingsRead_1 8 rfl rfl)
theorem dX6_settingsRead_33 : decode cX6_settingsRead 33 = .ok (.ifCond .ne 18, 3) := dk_154 0 18 (dk_at dksX6_settingsRead_1 11 rfl rfl)
theorem dX6_settingsRead_36 : decode cX6_settingsRead 36 = .ok (.aload_n 0, 1) := dk_42 (dk_at dksX6_settingsRead_1 14 rfl rfl)
theorem dX6_settingsRead_37 : decode cX6_settingsRead 37 = .ok (.ldc2_w 215, 3) := dk_20 0 215 (dk_at dksX6_settingsRead_1 15 rfl rfl)
theorem dX6_settingsRead_40 : decode cX6_settingsRead 40 = .ok (.iconst 2, 1) := dk_5 (dk_at dksX6_settingsRead_1 18 rfl rfl)
theorem dX6_settingsRead_41 : decode cX6_settingsRead 41 = .ok (.lconst 1, 1) := dk_10 (dk_at dksX6_settingsRead_1 19 rfl rfl)
theorem dX6_settingsRead_42 : decode cX6_settingsRead 42 = .ok (.ldc2_w 93, 3) := dk_20 0 93 (dk_at dksX6_settingsRead_1 20 rfl rfl)
theorem dX6_settingsRead_45 : decode cX6_settingsRead 45 = .ok (.invokevirtual 209, 3) := dk_182 0 209 (dk_at dksX6_settingsRead_2 0 rfl rfl)
theorem dX6_settingsRead_48 : decode cX6_settingsRead 48 = .ok (.ifCond .eq 7, 3) := dk_153 0 7 (dk_at dksX6_settingsRead_2 3 rfl rfl)
theorem dX6_settingsRead_51 : decode cX6_settingsRead 51 = .ok (.iconst 1, 1) := dk_4 (dk_at dksX6_settingsRead_2 6 rfl rfl)
theorem dX6_settingsRead_52 : decode cX6_settingsRead 52 = .ok (.goto 4, 3) := dk_167 0 4 (dk_at dksX6_settingsRead_2 7 rfl rfl)
theorem dX6_settingsRead_55 : decode cX6_settingsRead 55 = .ok (.iconst 0, 1) := dk_3 (dk_at dksX6_settingsRead_2 10 rfl rfl)
theorem dX6_settingsRead_56 : decode cX6_settingsRead 56 = .ok (.istore_n 1, 1) := dk_60 (dk_at dksX6_settingsRead_2 11 rfl rfl)
theorem dX6_settingsRead_57 : decode cX6_settingsRead 57 = .ok (.iload_n 1, 1) := dk_27 (dk_at dksX6_settingsRead_2 12 rfl rfl)
theorem dX6_settingsRead_58 : decode cX6_settingsRead 58 = .ok (.ifCond .ne 40, 3) := dk_154 0 40 (dk_at dksX6_settingsRead_2 13 rfl rfl)
theorem dX6_settingsRead_61 : decode cX6_settingsRead 61 = .ok (.aload_n 0, 1) := dk_42 (dk_at dksX6_settingsRead_2 16 rfl rfl)
theorem dX6_settingsRead_62 : decode cX6_settingsRead 62 = .ok (.ldc2_w 217, 3) := dk_20 0 217 (dk_at dksX6_settingsRead_2 17 rfl rfl)
theorem dX6_settingsRead_65 : decode cX6_settingsRead 65 = .ok (.iconst 3, 1) := dk_6 (dk_at dksX6_settingsRead_2 20 rfl rfl)
theorem dX6_settingsRead_66 : decode cX6_settingsRead 66 = .ok (.lconst 0, 1) := dk_9 (dk_at dksX6_settingsRead_2 21 rfl rfl)
theorem dX6_settingsRead_67 : decode cX6_settingsRead 67 = .ok (.ldc2_w 219, 3) := dk_20 0 219 (dk_at dksX6_settingsRead_3 0 rfl rfl)
theorem dX6_settingsRead_70 : decode cX6_settingsRead 70 = .ok (.invokevirtual 209, 3) := dk_182 0 209 (dk_at dksX6_settingsRead_3 3 rfl rfl)
theorem dX6_settingsRead_73 : decode cX6_settingsRead 73 = .ok (.ifCond .ne 25, 3) := dk_154 0 25 (dk_at dksX6_settingsRead_3 6 rfl rfl)
theorem dX6_settingsRead_76 : decode cX6_settingsRead 76 = .ok (.aload_n 0, 1) := dk_42 (dk_at dksX6_settingsRead_3 9 rfl rfl)
theorem dX6_settingsRead_77 : decode cX6_settingsRead 77 = .ok (.ldc2_w 221, 3) := dk_20 0 221 (dk_at dksX6_settingsRead_3 10 rfl rfl)
theorem dX6_settingsRead_80 : decode cX6_settingsRead 80 = .ok (.iconst 4, 1) := dk_7 (dk_at dksX6_settingsRead_3 13 rfl rfl)
theorem dX6_settingsRead_81 : decode cX6_settingsRead 81 = .ok (.lconst 1, 1) := dk_10 (dk_at dksX6_settingsRead_3 14 rfl rfl)
theorem dX6_settingsRead_82 : decode cX6_settingsRead 82 = .ok (.ldc2_w 153, 3) := dk_20 0 153 (dk_at dksX6_settingsRead_3 15 rfl rfl)
theorem dX6_settingsRead_85 : decode cX6_settingsRead 85 = .ok (.invokevirtual 209, 3) := dk_182 0 209 (dk_at dksX6_settingsRead_3 18 rfl rfl)
theorem dX6_settingsRead_88 : decode cX6_settingsRead 88 = .ok (.ifCond .ne 10, 3) := dk_154 0 10 (dk_at dksX6_settingsRead_3 21 rfl rfl)
theorem dX6_settingsRead_91 : decode cX6_settingsRead 91 = .ok (.aload_n 0, 1) := dk_42 (dk_at dksX6_settingsRead_4 0 rfl rfl)
theorem dX6_settingsRead_92 : decode cX6_settingsRead 92 = .ok (.invokevirtual 223, 3) := dk_182 0 223 (dk_at dksX6_settingsRead_4 1 rfl rfl)
theorem dX6_settingsRead_95 : decode cX6_settingsRead 95 = .ok (.ifCond .eq 7, 3) := dk_153 0 7 (dk_at dksX6_settingsRead_4 4 rfl rfl)
theorem dX6_settingsRead_98 : decode cX6_settingsRead 98 = .ok (.iconst 1, 1) := dk_4 (dk_at dksX6_settingsRead_4 7 rfl rfl)
theorem dX6_settingsRead_99 : decode cX6_settingsRead 99 = .ok (.goto 4, 3) := dk_167 0 4 (dk_at dksX6_settingsRead_4 8 rfl rfl)
theorem dX6_settingsRead_102 : decode cX6_settingsRead 102 = .ok (.iconst 0, 1) := dk_3 (dk_at dksX6_settingsRead_4 11 rfl rfl)
theorem dX6_settingsRead_103 : decode cX6_settingsRead 103 = .ok (.istore_n 1, 1) := dk_60 (dk_at dksX6_settingsRead_4 12 rfl rfl)
theorem dX6_settingsRead_104 : decode cX6_settingsRead 104 = .ok (.goto (-102), 3) := dk_167 255 154 (dk_at dksX6_settingsRead_4 13 rfl rfl)
theorem dX6_settingsRead_107 : decode cX6_settingsRead 107 = .ok (.return_, 1) := dk_177 (dk_at dksX6_settingsRead_4 16 rfl rfl)
abbrev cX6_settingRead : ByteArray := prog_25_method_29_code
def yX6_settingRead : MethodName := ⟨RX6, "settingRead", "(JIJJ)Z"⟩
def dkwX6_settingRead_1 : List UInt8 := [42, 16, 59, 182, 0, 194, 4, 172]
abbrev dktX6_settingRead_1 : List UInt8 := dkwX6_settingRead_1 ++ []
def dkwX6_settingRead_0 : List UInt8 := [42, 31, 182, 0, 191, 154, 0, 5, 3, 172, 42, 180, 0, 31, 29, 42, 22, 4, 22, 6, 182, 0, 187, 80]
abbrev dktX6_settingRead_0 : List UInt8 := dkwX6_settingRead_0 ++ dktX6_settingRead_1
theorem dksX6_settingRead_0 : cX6_settingRead.data.toList.drop 0 = dktX6_settingRead_0 := by decide +kernel
theorem dksX6_settingRead_1 : cX6_settingRead.data.toList.drop 24 = dktX6_settingRead_1 := dk_seg dksX6_settingRead_0 24 rfl rfl
theorem dX6_settingRead_0 : decode cX6_settingRead 0 = .ok (.aload_n 0, 1) := dk_42 (dk_at dksX6_settingRead_0 0 rfl rfl)
theorem dX6_settingRead_1 : decode cX6_settingRead 1 = .ok (.lload_n 1, 1) := dk_31 (dk_at dksX6_settingRead_0 1 rfl rfl)
theorem dX6_settingRead_2 : decode cX6_settingRead 2 = .ok (.invokevirtual 191, 3) := dk_182 0 191 (dk_at dksX6_settingRead_0 2 rfl rfl)
theorem dX6_settingRead_5 : decode cX6_settingRead 5 = .ok (.ifCond .ne 5, 3) := dk_154 0 5 (dk_at dksX6_settingRead_0 5 rfl rfl)
theorem dX6_settingRead_8 : decode cX6_settingRead 8 = .ok (.iconst 0, 1) := dk_3 (dk_at dksX6_settingRead_0 8 rfl rfl)
theorem dX6_settingRead_9 : decode cX6_settingRead 9 = .ok (.ireturn, 1) := dk_172 (dk_at dksX6_settingRead_0 9 rfl rfl)
theorem dX6_settingRead_10 : decode cX6_settingRead 10 = .ok (.aload_n 0, 1) := dk_42 (dk_at dksX6_settingRead_0 10 rfl rfl)
theorem dX6_settingRead_11 : decode cX6_settingRead 11 = .ok (.getfield 31, 3) := dk_180 0 31 (dk_at dksX6_settingRead_0 11 rfl rfl)
theorem dX6_settingRead_14 : decode cX6_settingRead 14 = .ok (.iload_n 3, 1) := dk_29 (dk_at dksX6_settingRead_0 14 rfl rfl)
theorem dX6_settingRead_15 : decode cX6_settingRead 15 = .ok (.aload_n 0, 1) := dk_42 (dk_at dksX6_settingRead_0 15 rfl rfl)
theorem dX6_settingRead_16 : decode cX6_settingRead 16 = .ok (.lload 4, 2) := dk_22 4 (dk_at dksX6_settingRead_0 16 rfl rfl)
theorem dX6_settingRead_18 : decode cX6_settingRead 18 = .ok (.lload 6, 2) := dk_22 6 (dk_at dksX6_settingRead_0 18 rfl rfl)
theorem dX6_settingRead_20 : decode cX6_settingRead 20 = .ok (.invokevirtual 187, 3) := dk_182 0 187 (dk_at dksX6_settingRead_0 20 rfl rfl)
theorem dX6_settingRead_23 : decode cX6_settingRead 23 = .ok (.lastore, 1) := dk_80 (dk_at dksX6_settingRead_0 23 rfl rfl)
theorem dX6_settingRead_24 : decode cX6_settingRead 24 = .ok (.aload_n 0, 1) := dk_42 (dk_at dksX6_settingRead_1 0 rfl rfl)
theorem dX6_settingRead_25 : decode cX6_settingRead 25 = .ok (.bipush 59, 2) := dk_16 59 (dk_at dksX6_settingRead_1 1 rfl rfl)
theorem dX6_settingRead_27 : decode cX6_settingRead 27 = .ok (.invokevirtual 194, 3) := dk_182 0 194 (dk_at dksX6_settingRead_1 3 rfl rfl)
theorem dX6_settingRead_30 : decode cX6_settingRead 30 = .ok (.iconst 1, 1) := dk_4 (dk_at dksX6_settingRead_1 6 rfl rfl)
theorem dX6_settingRead_31 : decode cX6_settingRead 31 = .ok (.ireturn, 1) := dk_172 (dk_at dksX6_settingRead_1 7 rfl rfl)
abbrev cX6_passes : ByteArray := prog_25_method_24_code
def yX6_passes : MethodName := ⟨RX6, "passes", "(J)Z"⟩
def dkwX6_passes_0 : List UInt8 := [42, 31, 182, 0, 173, 154, 0, 5, 3, 172, 42, 182, 0, 166, 4, 172]
abbrev dktX6_passes_0 : List UInt8 := dkwX6_passes_0 ++ []
theorem dksX6_passes_0 : cX6_passes.data.toList.drop 0 = dktX6_passes_0 := by decide +kernel
theorem dX6_passes_0 : decode cX6_passes 0 = .ok (.aload_n 0, 1) := dk_42 (dk_at dksX6_passes_0 0 rfl rfl)
theorem dX6_passes_1 : decode cX6_passes 1 = .ok (.lload_n 1, 1) := dk_31 (dk_at dksX6_passes_0 1 rfl rfl)
theorem dX6_passes_2 : decode cX6_passes 2 = .ok (.invokevirtual 173, 3) := dk_182 0 173 (dk_at dksX6_passes_0 2 rfl rfl)
theorem dX6_passes_5 : decode cX6_passes 5 = .ok (.ifCond .ne 5, 3) := dk_154 0 5 (dk_at dksX6_passes_0 5 rfl rfl)
theorem dX6_passes_8 : decode cX6_passes 8 = .ok (.iconst 0, 1) := dk_3 (dk_at dksX6_passes_0 8 rfl rfl)
theorem dX6_passes_9 : decode cX6_passes 9 = .ok (.ireturn, 1) := dk_172 (dk_at dksX6_passes_0 9 rfl rfl)
theorem dX6_passes_10 : decode cX6_passes 10 = .ok (.aload_n 0, 1) := dk_42 (dk_at dksX6_passes_0 10 rfl rfl)
theorem dX6_passes_11 : decode cX6_passes 11 = .ok (.invokevirtual 166, 3) := dk_182 0 166 (dk_at dksX6_passes_0 11 rfl rfl)
theorem dX6_passes_14 : decode cX6_passes 14 = .ok (.iconst 1, 1) := dk_4 (dk_at dksX6_passes_0 14 rfl rfl)
theorem dX6_passes_15 : decode cX6_passes 15 = .ok (.ireturn, 1) := dk_172 (dk_at dksX6_passes_0 15 rfl rfl)
abbrev cX6_isWord : ByteArray := prog_25_method_23_code
def yX6_isWord : MethodName := ⟨RX6, "isWord", "(J)Z"⟩
def dkwX6_isWord_1 : List UInt8 := [16, 8, 163, 0, 16, 42, 180, 0, 123, 31, 148, 154, 0, 7, 4, 167, 0, 4, 3, 172]
abbrev dktX6_isWord_1 : List UInt8 := dkwX6_isWord_1 ++ []
def dkwX6_isWord_0 : List UInt8 := [42, 182, 0, 169, 153, 0, 38, 42, 180, 0, 144, 4, 160, 0, 30, 42, 180, 0, 127, 42, 180, 0, 137, 100]
abbrev dktX6_isWord_0 : List UInt8 := dkwX6_isWord_0 ++ dktX6_isWord_1
theorem dksX6_isWord_0 : cX6_isWord.data.toList.drop 0 = dktX6_isWord_0 := by decide +kernel
theorem dksX6_isWord_1 : cX6_isWord.data.toList.drop 24 = dktX6_isWord_1 := dk_seg dksX6_isWord_0 24 rfl rfl
theorem dX6_isWord_0 : decode cX6_isWord 0 = .ok (.aload_n 0, 1) := dk_42 (dk_at dksX6_isWord_0 0 rfl rfl)
theorem dX6_isWord_1 : decode cX6_isWord 1 = .ok (.invokevirtual 169, 3) := dk_182 0 169 (dk_at dksX6_isWord_0 1 rfl rfl)
theorem dX6_isWord_4 : decode cX6_isWord 4 = .ok (.ifCond .eq 38, 3) := dk_153 0 38 (dk_at dksX6_isWord_0 4 rfl rfl)
theorem dX6_isWord_7 : decode cX6_isWord 7 = .ok (.aload_n 0, 1) := dk_42 (dk_at dksX6_isWord_0 7 rfl rfl)
theorem dX6_isWord_8 : decode cX6_isWord 8 = .ok (.getfield 144, 3) := dk_180 0 144 (dk_at dksX6_isWord_0 8 rfl rfl)
theorem dX6_isWord_11 : decode cX6_isWord 11 = .ok (.iconst 1, 1) := dk_4 (dk_at dksX6_isWord_0 11 rfl rfl)
theorem dX6_isWord_12 : decode cX6_isWord 12 = .ok (.if_icmp .ne 30, 3) := dk_160 0 30 (dk_at dksX6_isWord_0 12 rfl rfl)
theorem dX6_isWord_15 : decode cX6_isWord 15 = .ok (.aload_n 0, 1) := dk_42 (dk_at dksX6_isWord_0 15 rfl rfl)
theorem dX6_isWord_16 : decode cX6_isWord 16 = .ok (.getfield 127, 3) := dk_180 0 127 (dk_at dksX6_isWord_0 16 rfl rfl)
theorem dX6_isWord_19 : decode cX6_isWord 19 = .ok (.aload_n 0, 1) := dk_42 (dk_at dksX6_isWord_0 19 rfl rfl)
theorem dX6_isWord_20 : decode cX6_isWord 20 = .ok (.getfield 137, 3) := dk_180 0 137 (dk_at dksX6_isWord_0 20 rfl rfl)
theorem dX6_isWord_23 : decode cX6_isWord 23 = .ok (.isub, 1) := dk_100 (dk_at dksX6_isWord_0 23 rfl rfl)
theorem dX6_isWord_24 : decode cX6_isWord 24 = .ok (.bipush 8, 2) := dk_16 8 (dk_at dksX6_isWord_1 0 rfl rfl)
theorem dX6_isWord_26 : decode cX6_isWord 26 = .ok (.if_icmp .gt 16, 3) := dk_163 0 16 (dk_at dksX6_isWord_1 2 rfl rfl)
theorem dX6_isWord_29 : decode cX6_isWord 29 = .ok (.aload_n 0, 1) := dk_42 (dk_at dksX6_isWord_1 5 rfl rfl)
theorem dX6_isWord_30 : decode cX6_isWord 30 = .ok (.getfield 123, 3) := dk_180 0 123 (dk_at dksX6_isWord_1 6 rfl rfl)
theorem dX6_isWord_33 : decode cX6_isWord 33 = .ok (.lload_n 1, 1) := dk_31 (dk_at dksX6_isWord_1 9 rfl rfl)
theorem dX6_isWord_34 : decode cX6_isWord 34 = .ok (.lcmp, 1) := dk_148 (dk_at dksX6_isWord_1 10 rfl rfl)
theorem dX6_isWord_35 : decode cX6_isWord 35 = .ok (.ifCond .ne 7, 3) := dk_154 0 7 (dk_at dksX6_isWord_1 11 rfl rfl)
theorem dX6_isWord_38 : decode cX6_isWord 38 = .ok (.iconst 1, 1) := dk_4 (dk_at dksX6_isWord_1 14 rfl rfl)
theorem dX6_isWord_39 : decode cX6_isWord 39 = .ok (.goto 4, 3) := dk_167 0 4 (dk_at dksX6_isWord_1 15 rfl rfl)
theorem dX6_isWord_42 : decode cX6_isWord 42 = .ok (.iconst 0, 1) := dk_3 (dk_at dksX6_isWord_1 18 rfl rfl)
theorem dX6_isWord_43 : decode cX6_isWord 43 = .ok (.ireturn, 1) := dk_172 (dk_at dksX6_isWord_1 19 rfl rfl)
abbrev cX6_isGood : ByteArray := prog_25_method_22_code
def yX6_isGood : MethodName := ⟨RX6, "isGood", "()Z"⟩
def dkwX6_isGood_0 : List UInt8 := [42, 180, 0, 163, 154, 0, 7, 4, 167, 0, 4, 3, 172]
abbrev dktX6_isGood_0 : List UInt8 := dkwX6_isGood_0 ++ []
theorem dksX6_isGood_0 : cX6_isGood.data.toList.drop 0 = dktX6_isGood_0 := by decide +kernel
theorem dX6_isGood_0 : decode cX6_isGood 0 = .ok (.aload_n 0, 1) := dk_42 (dk_at dksX6_isGood_0 0 rfl rfl)
theorem dX6_isGood_1 : decode cX6_isGood 1 = .ok (.getfield 163, 3) := dk_180 0 163 (dk_at dksX6_isGood_0 1 rfl rfl)
theorem dX6_isGood_4 : decode cX6_isGood 4 = .ok (.ifCond .ne 7, 3) := dk_154 0 7 (dk_at dksX6_isGood_0 4 rfl rfl)
theorem dX6_isGood_7 : decode cX6_isGood 7 = .ok (.iconst 1, 1) := dk_4 (dk_at dksX6_isGood_0 7 rfl rfl)
theorem dX6_isGood_8 : decode cX6_isGood 8 = .ok (.goto 4, 3) := dk_167 0 4 (dk_at dksX6_isGood_0 8 rfl rfl)
theorem dX6_isGood_11 : decode cX6_isGood 11 = .ok (.iconst 0, 1) := dk_3 (dk_at dksX6_isGood_0 11 rfl rfl)
theorem dX6_isGood_12 : decode cX6_isGood 12 = .ok (.ireturn, 1) := dk_172 (dk_at dksX6_isGood_0 12 rfl rfl)
abbrev cX6_number : ByteArray := prog_25_method_27_code
def yX6_number : MethodName := ⟨RX6, "number", "(JJ)J"⟩
def dkwX6_number_2 : List UInt8 := [182, 0, 169, 154, 0, 5, 31, 173, 42, 180, 0, 147, 55, 5, 42, 182, 0, 166, 22, 5, 173]
abbrev dktX6_number_2 : List UInt8 := dkwX6_number_2 ++ []
def dkwX6_number_1 : List UInt8 := [167, 0, 21, 42, 180, 0, 147, 31, 33, 184, 0, 183, 154, 0, 9, 42, 5, 182, 0, 180, 87, 42]
abbrev dktX6_number_1 : List UInt8 := dkwX6_number_1 ++ dktX6_number_2
def dkwX6_number_0 : List UInt8 := [42, 182, 0, 169, 154, 0, 5, 31, 173, 42, 180, 0, 144, 5, 159, 0, 12, 42, 4, 182, 0, 180, 87]
abbrev dktX6_number_0 : List UInt8 := dkwX6_number_0 ++ dktX6_number_1
theorem dksX6_number_0 : cX6_number.data.toList.drop 0 = dktX6_number_0 := by decide +kernel
theorem dksX6_number_1 : cX6_number.data.toList.drop 23 = dktX6_number_1 := dk_seg dksX6_number_0 23 rfl rfl
theorem dksX6_number_2 : cX6_number.data.toList.drop 45 = dktX6_number_2 := dk_seg dksX6_number_1 22 rfl rfl
theorem dX6_number_0 : decode cX6_number 0 = .ok (.aload_n 0, 1) := dk_42 (dk_at dksX6_number_0 0 rfl rfl)
theorem dX6_number_1 : decode cX6_number 1 = .ok (.invokevirtual 169, 3) := dk_182 0 169 (dk_at dksX6_number_0 1 rfl rfl)
theorem dX6_number_4 : decode cX6_number 4 = .ok (.ifCond .ne 5, 3) := dk_154 0 5 (dk_at dksX6_number_0 4 rfl rfl)
theorem dX6_number_7 : decode cX6_number 7 = .ok (.lload_n 1, 1) := dk_31 (dk_at dksX6_number_0 7 rfl rfl)
theorem dX6_number_8 : decode cX6_number 8 = .ok (.lreturn, 1) := dk_173 (dk_at dksX6_number_0 8 rfl rfl)
theorem dX6_number_9 : decode cX6_number 9 = .ok (.aload_n 0, 1) := dk_42 (dk_at dksX6_number_0 9 rfl rfl)
theorem dX6_number_10 : decode cX6_number 10 = .ok (.getfield 144, 3) := dk_180 0 144 (dk_at dksX6_number_0 10 rfl rfl)
theorem dX6_number_13 : decode cX6_number 13 = .ok (.iconst 2, 1) := dk_5 (dk_at dksX6_number_0 13 rfl rfl)
theorem dX6_number_14 : decode cX6_number 14 = .ok (.if_icmp .eq 12, 3) := dk_159 0 12 (dk_at dksX6_number_0 14 rfl rfl)
theorem dX6_number_17 : decode cX6_number 17 = .ok (.aload_n 0, 1) := dk_42 (dk_at dksX6_number_0 17 rfl rfl)
theorem dX6_number_18 : decode cX6_number 18 = .ok (.iconst 1, 1) := dk_4 (dk_at dksX6_number_0 18 rfl rfl)
theorem dX6_number_19 : decode cX6_number 19 = .ok (.invokevirtual 180, 3) := dk_182 0 180 (dk_at dksX6_number_0 19 rfl rfl)
theorem dX6_number_22 : decode cX6_number 22 = .ok (.pop, 1) := dk_87 (dk_at dksX6_number_0 22 rfl rfl)
theorem dX6_number_23 : decode cX6_number 23 = .ok (.goto 21, 3) := dk_167 0 21 (dk_at dksX6_number_1 0 rfl rfl)
theorem dX6_number_26 : decode cX6_number 26 = .ok (.aload_n 0, 1) := dk_42 (dk_at dksX6_number_1 3 rfl rfl)
theorem dX6_number_27 : decode cX6_number 27 = .ok (.getfield 147, 3) := dk_180 0 147 (dk_at dksX6_number_1 4 rfl rfl)
theorem dX6_number_30 : decode cX6_number 30 = .ok (.lload_n 1, 1) := dk_31 (dk_at dksX6_number_1 7 rfl rfl)
theorem dX6_number_31 : decode cX6_number 31 = .ok (.lload_n 3, 1) := dk_33 (dk_at dksX6_number_1 8 rfl rfl)
theorem dX6_number_32 : decode cX6_number 32 = .ok (.invokestatic 183, 3) := dk_184 0 183 (dk_at dksX6_number_1 9 rfl rfl)
theorem dX6_number_35 : decode cX6_number 35 = .ok (.ifCond .ne 9, 3) := dk_154 0 9 (dk_at dksX6_number_1 12 rfl rfl)
theorem dX6_number_38 : decode cX6_number 38 = .ok (.aload_n 0, 1) := dk_42 (dk_at dksX6_number_1 15 rfl rfl)
theorem dX6_number_39 : decode cX6_number 39 = .ok (.iconst 2, 1) := dk_5 (dk_at dksX6_number_1 16 rfl rfl)
theorem dX6_number_40 : decode cX6_number 40 = .ok (.invokevirtual 180, 3) := dk_182 0 180 (dk_at dksX6_number_1 17 rfl rfl)
theorem dX6_number_43 : decode cX6_number 43 = .ok (.pop, 1) := dk_87 (dk_at dksX6_number_1 20 rfl rfl)
theorem dX6_number_44 : decode cX6_number 44 = .ok (.aload_n 0, 1) := dk_42 (dk_at dksX6_number_1 21 rfl rfl)
theorem dX6_number_45 : decode cX6_number 45 = .ok (.invokevirtual 169, 3) := dk_182 0 169 (dk_at dksX6_number_2 0 rfl rfl)
theorem dX6_number_48 : decode cX6_number 48 = .ok (.ifCond .ne 5, 3) := dk_154 0 5 (dk_at dksX6_number_2 3 rfl rfl)
theorem dX6_number_51 : decode cX6_number 51 = .ok (.lload_n 1, 1) := dk_31 (dk_at dksX6_number_2 6 rfl rfl)
theorem dX6_number_52 : decode cX6_number 52 = .ok (.lreturn, 1) := dk_173 (dk_at dksX6_number_2 7 rfl rfl)
theorem dX6_number_53 : decode cX6_number 53 = .ok (.aload_n 0, 1) := dk_42 (dk_at dksX6_number_2 8 rfl rfl)
theorem dX6_number_54 : decode cX6_number 54 = .ok (.getfield 147, 3) := dk_180 0 147 (dk_at dksX6_number_2 9 rfl rfl)
theorem dX6_number_57 : decode cX6_number 57 = .ok (.lstore 5, 2) := dk_55 5 (dk_at dksX6_number_2 12 rfl rfl)
theorem dX6_number_59 : decode cX6_number 59 = .ok (.aload_n 0, 1) := dk_42 (dk_at dksX6_number_2 14 rfl rfl)
theorem dX6_number_60 : decode cX6_number 60 = .ok (.invokevirtual 166, 3) := dk_182 0 166 (dk_at dksX6_number_2 15 rfl rfl)
theorem dX6_number_63 : decode cX6_number 63 = .ok (.lload 5, 2) := dk_22 5 (dk_at dksX6_number_2 18 rfl rfl)
theorem dX6_number_65 : decode cX6_number 65 = .ok (.lreturn, 1) := dk_173 (dk_at dksX6_number_2 20 rfl rfl)
abbrev cX6_wrongs : ByteArray := prog_25_method_21_code
def yX6_wrongs : MethodName := ⟨RX6, "wrongs", "(I)Z"⟩
def dkwX6_wrongs_0 : List UInt8 := [42, 180, 0, 163, 154, 0, 16, 42, 27, 181, 0, 163, 42, 42, 180, 0, 137, 181, 0, 41, 3, 172]
abbrev dktX6_wrongs_0 : List UInt8 := dkwX6_wrongs_0 ++ []
theorem dksX6_wrongs_0 : cX6_wrongs.data.toList.drop 0 = dktX6_wrongs_0 := by decide +kernel
theorem dX6_wrongs_0 : decode cX6_wrongs 0 = .ok (.aload_n 0, 1) := dk_42 (dk_at dksX6_wrongs_0 0 rfl rfl)
theorem dX6_wrongs_1 : decode cX6_wrongs 1 = .ok (.getfield 163, 3) := dk_180 0 163 (dk_at dksX6_wrongs_0 1 rfl rfl)
theorem dX6_wrongs_4 : decode cX6_wrongs 4 = .ok (.ifCond .ne 16, 3) := dk_154 0 16 (dk_at dksX6_wrongs_0 4 rfl rfl)
theorem dX6_wrongs_7 : decode cX6_wrongs 7 = .ok (.aload_n 0, 1) := dk_42 (dk_at dksX6_wrongs_0 7 rfl rfl)
theorem dX6_wrongs_8 : decode cX6_wrongs 8 = .ok (.iload_n 1, 1) := dk_27 (dk_at dksX6_wrongs_0 8 rfl rfl)
theorem dX6_wrongs_9 : decode cX6_wrongs 9 = .ok (.putfield 163, 3) := dk_181 0 163 (dk_at dksX6_wrongs_0 9 rfl rfl)
theorem dX6_wrongs_12 : decode cX6_wrongs 12 = .ok (.aload_n 0, 1) := dk_42 (dk_at dksX6_wrongs_0 12 rfl rfl)
theorem dX6_wrongs_13 : decode cX6_wrongs 13 = .ok (.aload_n 0, 1) := dk_42 (dk_at dksX6_wrongs_0 13 rfl rfl)
theorem dX6_wrongs_14 : decode cX6_wrongs 14 = .ok (.getfield 137, 3) := dk_180 0 137 (dk_at dksX6_wrongs_0 14 rfl rfl)
theorem dX6_wrongs_17 : decode cX6_wrongs 17 = .ok (.putfield 41, 3) := dk_181 0 41 (dk_at dksX6_wrongs_0 17 rfl rfl)
theorem dX6_wrongs_20 : decode cX6_wrongs 20 = .ok (.iconst 0, 1) := dk_3 (dk_at dksX6_wrongs_0 20 rfl rfl)
theorem dX6_wrongs_21 : decode cX6_wrongs 21 = .ok (.ireturn, 1) := dk_172 (dk_at dksX6_wrongs_0 21 rfl rfl)
abbrev cX6_must : ByteArray := prog_25_method_26_code
def yX6_must : MethodName := ⟨RX6, "must", "(I)V"⟩
def dkwX6_must_1 : List UInt8 := [4, 182, 0, 180, 87, 177]
abbrev dktX6_must_1 : List UInt8 := dkwX6_must_1 ++ []
def dkwX6_must_0 : List UInt8 := [42, 182, 0, 169, 154, 0, 4, 177, 42, 27, 182, 0, 177, 153, 0, 10, 42, 182, 0, 166, 167, 0, 9, 42]
abbrev dktX6_must_0 : List UInt8 := dkwX6_must_0 ++ dktX6_must_1
theorem dksX6_must_0 : cX6_must.data.toList.drop 0 = dktX6_must_0 := by decide +kernel
theorem dksX6_must_1 : cX6_must.data.toList.drop 24 = dktX6_must_1 := dk_seg dksX6_must_0 24 rfl rfl
theorem dX6_must_0 : decode cX6_must 0 = .ok (.aload_n 0, 1) := dk_42 (dk_at dksX6_must_0 0 rfl rfl)
theorem dX6_must_1 : decode cX6_must 1 = .ok (.invokevirtual 169, 3) := dk_182 0 169 (dk_at dksX6_must_0 1 rfl rfl)
theorem dX6_must_4 : decode cX6_must 4 = .ok (.ifCond .ne 4, 3) := dk_154 0 4 (dk_at dksX6_must_0 4 rfl rfl)
theorem dX6_must_7 : decode cX6_must 7 = .ok (.return_, 1) := dk_177 (dk_at dksX6_must_0 7 rfl rfl)
theorem dX6_must_8 : decode cX6_must 8 = .ok (.aload_n 0, 1) := dk_42 (dk_at dksX6_must_0 8 rfl rfl)
theorem dX6_must_9 : decode cX6_must 9 = .ok (.iload_n 1, 1) := dk_27 (dk_at dksX6_must_0 9 rfl rfl)
theorem dX6_must_10 : decode cX6_must 10 = .ok (.invokevirtual 177, 3) := dk_182 0 177 (dk_at dksX6_must_0 10 rfl rfl)
theorem dX6_must_13 : decode cX6_must 13 = .ok (.ifCond .eq 10, 3) := dk_153 0 10 (dk_at dksX6_must_0 13 rfl rfl)
theorem dX6_must_16 : decode cX6_must 16 = .ok (.aload_n 0, 1) := dk_42 (dk_at dksX6_must_0 16 rfl rfl)
theorem dX6_must_17 : decode cX6_must 17 = .ok (.invokevirtual 166, 3) := dk_182 0 166 (dk_at dksX6_must_0 17 rfl rfl)
theorem dX6_must_20 : decode cX6_must 20 = .ok (.goto 9, 3) := dk_167 0 9 (dk_at dksX6_must_0 20 rfl rfl)
theorem dX6_must_23 : decode cX6_must 23 = .ok (.aload_n 0, 1) := dk_42 (dk_at dksX6_must_0 23 rfl rfl)
theorem dX6_must_24 : decode cX6_must 24 = .ok (.iconst 1, 1) := dk_4 (dk_at dksX6_must_1 0 rfl rfl)
theorem dX6_must_25 : decode cX6_must 25 = .ok (.invokevirtual 180, 3) := dk_182 0 180 (dk_at dksX6_must_1 1 rfl rfl)
theorem dX6_must_28 : decode cX6_must 28 = .ok (.pop, 1) := dk_87 (dk_at dksX6_must_1 4 rfl rfl)
theorem dX6_must_29 : decode cX6_must 29 = .ok (.return_, 1) := dk_177 (dk_at dksX6_must_1 5 rfl rfl)
abbrev cX6_isByte : ByteArray := prog_25_method_25_code
def yX6_isByte : MethodName := ⟨RX6, "isByte", "(I)Z"⟩
def dkwX6_isByte_1 : List UInt8 := [27, 160, 0, 7, 4, 167, 0, 4, 3, 172]
abbrev dktX6_isByte_1 : List UInt8 := dkwX6_isByte_1 ++ []
def dkwX6_isByte_0 : List UInt8 := [42, 182, 0, 169, 153, 0, 28, 42, 180, 0, 144, 6, 160, 0, 20, 42, 180, 0, 37, 42, 180, 0, 137, 46]
abbrev dktX6_isByte_0 : List UInt8 := dkwX6_isByte_0 ++ dktX6_isByte_1
theorem dksX6_isByte_0 : cX6_isByte.data.toList.drop 0 = dktX6_isByte_0 := by decide +kernel
theorem dksX6_isByte_1 : cX6_isByte.data.toList.drop 24 = dktX6_isByte_1 := dk_seg dksX6_isByte_0 24 rfl rfl
theorem dX6_isByte_0 : decode cX6_isByte 0 = .ok (.aload_n 0, 1) := dk_42 (dk_at dksX6_isByte_0 0 rfl rfl)
theorem dX6_isByte_1 : decode cX6_isByte 1 = .ok (.invokevirtual 169, 3) := dk_182 0 169 (dk_at dksX6_isByte_0 1 rfl rfl)
theorem dX6_isByte_4 : decode cX6_isByte 4 = .ok (.ifCond .eq 28, 3) := dk_153 0 28 (dk_at dksX6_isByte_0 4 rfl rfl)
theorem dX6_isByte_7 : decode cX6_isByte 7 = .ok (.aload_n 0, 1) := dk_42 (dk_at dksX6_isByte_0 7 rfl rfl)
theorem dX6_isByte_8 : decode cX6_isByte 8 = .ok (.getfield 144, 3) := dk_180 0 144 (dk_at dksX6_isByte_0 8 rfl rfl)
theorem dX6_isByte_11 : decode cX6_isByte 11 = .ok (.iconst 3, 1) := dk_6 (dk_at dksX6_isByte_0 11 rfl rfl)
theorem dX6_isByte_12 : decode cX6_isByte 12 = .ok (.if_icmp .ne 20, 3) := dk_160 0 20 (dk_at dksX6_isByte_0 12 rfl rfl)
theorem dX6_isByte_15 : decode cX6_isByte 15 = .ok (.aload_n 0, 1) := dk_42 (dk_at dksX6_isByte_0 15 rfl rfl)
theorem dX6_isByte_16 : decode cX6_isByte 16 = .ok (.getfield 37, 3) := dk_180 0 37 (dk_at dksX6_isByte_0 16 rfl rfl)
theorem dX6_isByte_19 : decode cX6_isByte 19 = .ok (.aload_n 0, 1) := dk_42 (dk_at dksX6_isByte_0 19 rfl rfl)
theorem dX6_isByte_20 : decode cX6_isByte 20 = .ok (.getfield 137, 3) := dk_180 0 137 (dk_at dksX6_isByte_0 20 rfl rfl)
theorem dX6_isByte_23 : decode cX6_isByte 23 = .ok (.iaload, 1) := dk_46 (dk_at dksX6_isByte_0 23 rfl rfl)
theorem dX6_isByte_24 : decode cX6_isByte 24 = .ok (.iload_n 1, 1) := dk_27 (dk_at dksX6_isByte_1 0 rfl rfl)
theorem dX6_isByte_25 : decode cX6_isByte 25 = .ok (.if_icmp .ne 7, 3) := dk_160 0 7 (dk_at dksX6_isByte_1 1 rfl rfl)
theorem dX6_isByte_28 : decode cX6_isByte 28 = .ok (.iconst 1, 1) := dk_4 (dk_at dksX6_isByte_1 4 rfl rfl)
theorem dX6_isByte_29 : decode cX6_isByte 29 = .ok (.goto 4, 3) := dk_167 0 4 (dk_at dksX6_isByte_1 5 rfl rfl)
theorem dX6_isByte_32 : decode cX6_isByte 32 = .ok (.iconst 0, 1) := dk_3 (dk_at dksX6_isByte_1 8 rfl rfl)
theorem dX6_isByte_33 : decode cX6_isByte 33 = .ok (.ireturn, 1) := dk_172 (dk_at dksX6_isByte_1 9 rfl rfl)
abbrev cX6_schemeRead : ByteArray := prog_25_method_30_code
def yX6_schemeRead : MethodName := ⟨RX6, "schemeRead", "()Z"⟩
def dkwX6_schemeRead_3 : List UInt8 := [20, 0, 205, 182, 0, 191, 154, 0, 9, 42, 4, 182, 0, 180, 87, 42, 16, 59, 182, 0, 194, 4, 172]
abbrev dktX6_schemeRead_3 : List UInt8 := dkwX6_schemeRead_3 ++ []
def dkwX6_schemeRead_2 : List UInt8 := [80, 42, 20, 0, 199, 182, 0, 191, 154, 0, 29, 42, 20, 0, 201, 182, 0, 191, 154, 0, 19, 42]
abbrev dktX6_schemeRead_2 : List UInt8 := dkwX6_schemeRead_2 ++ dktX6_schemeRead_3
def dkwX6_schemeRead_1 : List UInt8 := [153, 0, 7, 9, 167, 0, 20, 42, 20, 0, 201, 182, 0, 173, 153, 0, 7, 10, 167, 0, 6, 20, 0, 203]
abbrev dktX6_schemeRead_1 : List UInt8 := dkwX6_schemeRead_1 ++ dktX6_schemeRead_2
def dkwX6_schemeRead_0 : List UInt8 := [42, 20, 0, 197, 182, 0, 191, 154, 0, 5, 3, 172, 42, 180, 0, 16, 4, 42, 20, 0, 199, 182, 0, 173]
abbrev dktX6_schemeRead_0 : List UInt8 := dkwX6_schemeRead_0 ++ dktX6_schemeRead_1
theorem dksX6_schemeRead_0 : cX6_schemeRead.data.toList.drop 0 = dktX6_schemeRead_0 := by decide +kernel
theorem dksX6_schemeRead_1 : cX6_schemeRead.data.toList.drop 24 = dktX6_schemeRead_1 := dk_seg dksX6_schemeRead_0 24 rfl rfl
theorem dksX6_schemeRead_2 : cX6_schemeRead.data.toList.drop 48 = dktX6_schemeRead_2 := dk_seg dksX6_schemeRead_1 24 rfl rfl
theorem dksX6_schemeRead_3 : cX6_schemeRead.data.toList.drop 70 = dktX6_schemeRead_3 := dk_seg dksX6_schemeRead_2 22 rfl rfl
theorem dX6_schemeRead_0 : decode cX6_schemeRead 0 = .ok (.aload_n 0, 1) := dk_42 (dk_at dksX6_schemeRead_0 0 rfl rfl)
theorem dX6_schemeRead_1 : decode cX6_schemeRead 1 = .ok (.ldc2_w 197, 3) := dk_20 0 197 (dk_at dksX6_schemeRead_0 1 rfl rfl)
theorem dX6_schemeRead_4 : decode cX6_schemeRead 4 = .ok (.invokevirtual 191, 3) := dk_182 0 191 (dk_at dksX6_schemeRead_0 4 rfl rfl)
theorem dX6_schemeRead_7 : decode cX6_schemeRead 7 = .ok (.ifCond .ne 5, 3) := dk_154 0 5 (dk_at dksX6_schemeRead_0 7 rfl rfl)
theorem dX6_schemeRead_10 : decode cX6_schemeRead 10 = .ok (.iconst 0, 1) := dk_3 (dk_at dksX6_schemeRead_0 10 rfl rfl)
theorem dX6_schemeRead_11 : decode cX6_schemeRead 11 = .ok (.ireturn, 1) := dk_172 (dk_at dksX6_schemeRead_0 11 rfl rfl)
theorem dX6_schemeRead_12 : decode cX6_schemeRead 12 = .ok (.aload_n 0, 1) := dk_42 (dk_at dksX6_schemeRead_0 12 rfl rfl)
theorem dX6_schemeRead_13 : decode cX6_schemeRead 13 = .ok (.getfield 16, 3) := dk_180 0 16 (dk_at dksX6_schemeRead_0 13 rfl rfl)
theorem dX6_schemeRead_16 : decode cX6_schemeRead 16 = .ok (.iconst 1, 1) := dk_4 (dk_at dksX6_schemeRead_0 16 rfl rfl)
theorem dX6_schemeRead_17 : decode cX6_schemeRead 17 = .ok (.aload_n 0, 1) := dk_42 (dk_at dksX6_schemeRead_0 17 rfl rfl)
theorem dX6_schemeRead_18 : decode cX6_schemeRead 18 = .ok (.ldc2_w 199, 3) := dk_20 0 199 (dk_at dksX6_schemeRead_0 18 rfl rfl)
theorem dX6_schemeRead_21 : decode cX6_schemeRead 21 = .ok (.invokevirtual 173, 3) := dk_182 0 173 (dk_at dksX6_schemeRead_0 21 rfl rfl)
theorem dX6_schemeRead_24 : decode cX6_schemeRead 24 = .ok (.ifCond .eq 7, 3) := dk_153 0 7 (dk_at dksX6_schemeRead_1 0 rfl rfl)
theorem dX6_schemeRead_27 : decode cX6_schemeRead 27 = .ok (.lconst 0, 1) := dk_9 (dk_at dksX6_schemeRead_1 3 rfl rfl)
theorem dX6_schemeRead_28 : decode cX6_schemeRead 28 = .ok (.goto 20, 3) := dk_167 0 20 (dk_at dksX6_schemeRead_1 4 rfl rfl)
theorem dX6_schemeRead_31 : decode cX6_schemeRead 31 = .ok (.aload_n 0, 1) := dk_42 (dk_at dksX6_schemeRead_1 7 rfl rfl)
theorem dX6_schemeRead_32 : decode cX6_schemeRead 32 = .ok (.ldc2_w 201, 3) := dk_20 0 201 (dk_at dksX6_schemeRead_1 8 rfl rfl)
theorem dX6_schemeRead_35 : decode cX6_schemeRead 35 = .ok (.invokevirtual 173, 3) := dk_182 0 173 (dk_at dksX6_schemeRead_1 11 rfl rfl)
theorem dX6_schemeRead_38 : decode cX6_schemeRead 38 = .ok (.ifCond .eq 7, 3) := dk_153 0 7 (dk_at dksX6_schemeRead_1 14 rfl rfl)
theorem dX6_schemeRead_41 : decode cX6_schemeRead 41 = .ok (.lconst 1, 1) := dk_10 (dk_at dksX6_schemeRead_1 17 rfl rfl)
theorem dX6_schemeRead_42 : decode cX6_schemeRead 42 = .ok (.goto 6, 3) := dk_167 0 6 (dk_at dksX6_schemeRead_1 18 rfl rfl)
theorem dX6_schemeRead_45 : decode cX6_schemeRead 45 = .ok (.ldc2_w 203, 3) := dk_20 0 203 (dk_at dksX6_schemeRead_1 21 rfl rfl)
theorem dX6_schemeRead_48 : decode cX6_schemeRead 48 = .ok (.lastore, 1) := dk_80 (dk_at dksX6_schemeRead_2 0 rfl rfl)
theorem dX6_schemeRead_49 : decode cX6_schemeRead 49 = .ok (.aload_n 0, 1) := dk_42 (dk_at dksX6_schemeRead_2 1 rfl rfl)
theorem dX6_schemeRead_50 : decode cX6_schemeRead 50 = .ok (.ldc2_w 199, 3) := dk_20 0 199 (dk_at dksX6_schemeRead_2 2 rfl rfl)
theorem dX6_schemeRead_53 : decode cX6_schemeRead 53 = .ok (.invokevirtual 191, 3) := dk_182 0 191 (dk_at dksX6_schemeRead_2 5 rfl rfl)
theorem dX6_schemeRead_56 : decode cX6_schemeRead 56 = .ok (.ifCond .ne 29, 3) := dk_154 0 29 (dk_at dksX6_schemeRead_2 8 rfl rfl)
theorem dX6_schemeRead_59 : decode cX6_schemeRead 59 = .ok (.aload_n 0, 1) := dk_42 (dk_at dksX6_schemeRead_2 11 rfl rfl)
theorem dX6_schemeRead_60 : decode cX6_schemeRead 60 = .ok (.ldc2_w 201, 3) := dk_20 0 201 (dk_at dksX6_schemeRead_2 12 rfl rfl)
theorem dX6_schemeRead_63 : decode cX6_schemeRead 63 = .ok (.invokevirtual 191, 3) := dk_182 0 191 (dk_at dksX6_schemeRead_2 15 rfl rfl)
theorem dX6_schemeRead_66 : decode cX6_schemeRead 66 = .ok (.ifCond .ne 19, 3) := dk_154 0 19 (dk_at dksX6_schemeRead_2 18 rfl rfl)
theorem dX6_schemeRead_69 : decode cX6_schemeRead 69 = .ok (.aload_n 0, 1) := dk_42 (dk_at dksX6_schemeRead_2 21 rfl rfl)
theorem dX6_schemeRead_70 : decode cX6_schemeRead 70 = .ok (.ldc2_w 205, 3) := dk_20 0 205 (dk_at dksX6_schemeRead_3 0 rfl rfl)
theorem dX6_schemeRead_73 : decode cX6_schemeRead 73 = .ok (.invokevirtual 191, 3) := dk_182 0 191 (dk_at dksX6_schemeRead_3 3 rfl rfl)
theorem dX6_schemeRead_76 : decode cX6_schemeRead 76 = .ok (.ifCond .ne 9, 3) := dk_154 0 9 (dk_at dksX6_schemeRead_3 6 rfl rfl)
theorem dX6_schemeRead_79 : decode cX6_schemeRead 79 = .ok (.aload_n 0, 1) := dk_42 (dk_at dksX6_schemeRead_3 9 rfl rfl)
theorem dX6_schemeRead_80 : decode cX6_schemeRead 80 = .ok (.iconst 1, 1) := dk_4 (dk_at dksX6_schemeRead_3 10 rfl rfl)
theorem dX6_schemeRead_81 : decode cX6_schemeRead 81 = .ok (.invokevirtual 180, 3) := dk_182 0 180 (dk_at dksX6_schemeRead_3 11 rfl rfl)
theorem dX6_schemeRead_84 : decode cX6_schemeRead 84 = .ok (.pop, 1) := dk_87 (dk_at dksX6_schemeRead_3 14 rfl rfl)
theorem dX6_schemeRead_85 : decode cX6_schemeRead 85 = .ok (.aload_n 0, 1) := dk_42 (dk_at dksX6_schemeRead_3 15 rfl rfl)
theorem dX6_schemeRead_86 : decode cX6_schemeRead 86 = .ok (.bipush 59, 2) := dk_16 59 (dk_at dksX6_schemeRead_3 16 rfl rfl)
theorem dX6_schemeRead_88 : decode cX6_schemeRead 88 = .ok (.invokevirtual 194, 3) := dk_182 0 194 (dk_at dksX6_schemeRead_3 18 rfl rfl)
theorem dX6_schemeRead_91 : decode cX6_schemeRead 91 = .ok (.iconst 1, 1) := dk_4 (dk_at dksX6_schemeRead_3 21 rfl rfl)
theorem dX6_schemeRead_92 : decode cX6_schemeRead 92 = .ok (.ireturn, 1) := dk_172 (dk_at dksX6_schemeRead_3 22 rfl rfl)
abbrev cX6_bodyRead : ByteArray := prog_25_method_33_code
def yX6_bodyRead : MethodName := ⟨RX6, "bodyRead", "(I)V"⟩
def dkwX6_bodyRead_8 : List UInt8 := [182, 0, 177, 153, 0, 13, 28, 153, 0, 9, 42, 6, 182, 0, 180, 87, 42, 16, 59, 182, 0, 194, 177]
abbrev dktX6_bodyRead_8 : List UInt8 := dkwX6_bodyRead_8 ++ []
def dkwX6_bodyRead_7 : List UInt8 := [184, 0, 79, 47, 148, 154, 0, 7, 4, 167, 0, 4, 3, 61, 132, 3, 1, 167, 255, 190, 42, 16, 59]
abbrev dktX6_bodyRead_7 : List UInt8 := dkwX6_bodyRead_7 ++ dktX6_bodyRead_8
def dkwX6_bodyRead_6 : List UInt8 := [184, 0, 79, 47, 148, 154, 0, 31, 42, 180, 0, 16, 29, 5, 184, 0, 79, 47, 42, 180, 0, 16, 27, 5]
abbrev dktX6_bodyRead_6 : List UInt8 := dkwX6_bodyRead_6 ++ dktX6_bodyRead_7
def dkwX6_bodyRead_5 : List UInt8 := [162, 0, 67, 28, 154, 0, 51, 42, 180, 0, 16, 29, 4, 184, 0, 79, 47, 42, 180, 0, 16, 27, 4]
abbrev dktX6_bodyRead_5 : List UInt8 := dkwX6_bodyRead_5 ++ dktX6_bodyRead_6
def dkwX6_bodyRead_4 : List UInt8 := [180, 0, 16, 27, 7, 184, 0, 79, 42, 20, 0, 153, 182, 0, 232, 80, 3, 61, 3, 62, 29, 27]
abbrev dktX6_bodyRead_4 : List UInt8 := dkwX6_bodyRead_4 ++ dktX6_bodyRead_5
def dkwX6_bodyRead_3 : List UInt8 := [182, 0, 232, 80, 42, 180, 0, 16, 27, 6, 184, 0, 79, 42, 20, 0, 153, 182, 0, 232, 80, 42]
abbrev dktX6_bodyRead_3 : List UInt8 := dkwX6_bodyRead_3 ++ dktX6_bodyRead_4
def dkwX6_bodyRead_2 : List UInt8 := [184, 0, 79, 42, 20, 0, 230, 182, 0, 232, 80, 42, 180, 0, 16, 27, 5, 184, 0, 79, 42, 20, 0, 230]
abbrev dktX6_bodyRead_2 : List UInt8 := dkwX6_bodyRead_2 ++ dktX6_bodyRead_3
def dkwX6_bodyRead_1 : List UInt8 := [180, 0, 16, 27, 3, 184, 0, 79, 42, 10, 20, 0, 228, 182, 0, 187, 80, 42, 180, 0, 16, 27, 4]
abbrev dktX6_bodyRead_1 : List UInt8 := dkwX6_bodyRead_1 ++ dktX6_bodyRead_2
def dkwX6_bodyRead_0 : List UInt8 := [42, 182, 0, 169, 153, 0, 19, 42, 20, 0, 226, 182, 0, 191, 154, 0, 9, 42, 4, 182, 0, 180, 87, 42]
abbrev dktX6_bodyRead_0 : List UInt8 := dkwX6_bodyRead_0 ++ dktX6_bodyRead_1
theorem dksX6_bodyRead_0 : cX6_bodyRead.data.toList.drop 0 = dktX6_bodyRead_0 := by decide +kernel
theorem dksX6_bodyRead_1 : cX6_bodyRead.data.toList.drop 24 = dktX6_bodyRead_1 := dk_seg dksX6_bodyRead_0 24 rfl rfl
theorem dksX6_bodyRead_2 : cX6_bodyRead.data.toList.drop 47 = dktX6_bodyRead_2 := dk_seg dksX6_bodyRead_1 23 rfl rfl
theorem dksX6_bodyRead_3 : cX6_bodyRead.data.toList.drop 71 = dktX6_bodyRead_3 := dk_seg dksX6_bodyRead_2 24 rfl rfl
theorem dksX6_bodyRead_4 : cX6_bodyRead.data.toList.drop 93 = dktX6_bodyRead_4 := dk_seg dksX6_bodyRead_3 22 rfl rfl
theorem dksX6_bodyRead_5 : cX6_bodyRead.data.toList.drop 115 = dktX6_bodyRead_5 := dk_seg dksX6_bodyRead_4 22 rfl rfl
theorem dksX6_bodyRead_6 : cX6_bodyRead.data.toList.drop 138 = dktX6_bodyRead_6 := dk_seg dksX6_bodyRead_5 23 rfl rfl
theorem dksX6_bodyRead_7 : cX6_bodyRead.data.toList.drop 162 = dktX6_bodyRead_7 := dk_seg dksX6_bodyRead_6 24 rfl rfl
theorem dksX6_bodyRead_8 : cX6_bodyRead.data.toList.drop 185 = dktX6_bodyRead_8 := dk_seg dksX6_bodyRead_7 23 rfl rfl
theorem dX6_bodyRead_0 : decode cX6_bodyRead 0 = .ok (.aload_n 0, 1) := dk_42 (dk_at dksX6_bodyRead_0 0 rfl rfl)
theorem dX6_bodyRead_1 : decode cX6_bodyRead 1 = .ok (.invokevirtual 169, 3) := dk_182 0 169 (dk_at dksX6_bodyRead_0 1 rfl rfl)
theorem dX6_bodyRead_4 : decode cX6_bodyRead 4 = .ok (.ifCond .eq 19, 3) := dk_153 0 19 (dk_at dksX6_bodyRead_0 4 rfl rfl)
theorem dX6_bodyRead_7 : decode cX6_bodyRead 7 = .ok (.aload_n 0, 1) := dk_42 (dk_at dksX6_bodyRead_0 7 rfl rfl)
theorem dX6_bodyRead_8 : decode cX6_bodyRead 8 = .ok (.ldc2_w 226, 3) := dk_20 0 226 (dk_at dksX6_bodyRead_0 8 rfl rfl)
theorem dX6_bodyRead_11 : decode cX6_bodyRead 11 = .ok (.invokevirtual 191, 3) := dk_182 0 191 (dk_at dksX6_bodyRead_0 11 rfl rfl)
theorem dX6_bodyRead_14 : decode cX6_bodyRead 14 = .ok (.ifCond .ne 9, 3) := dk_154 0 9 (dk_at dksX6_bodyRead_0 14 rfl rfl)
theorem dX6_bodyRead_17 : decode cX6_bodyRead 17 = .ok (.aload_n 0, 1) := dk_42 (dk_at dksX6_bodyRead_0 17 rfl rfl)
theorem dX6_bodyRead_18 : decode cX6_bodyRead 18 = .ok (.iconst 1, 1) := dk_4 (dk_at dksX6_bodyRead_0 18 rfl rfl)
theorem dX6_bodyRead_19 : decode cX6_bodyRead 19 = .ok (.invokevirtual 180, 3) := dk_182 0 180 (dk_at dksX6_bodyRead_0 19 rfl rfl)
theorem dX6_bodyRead_22 : decode cX6_bodyRead 22 = .ok (.pop, 1) := dk_87 (dk_at dksX6_bodyRead_0 22 rfl rfl)
theorem dX6_bodyRead_23 : decode cX6_bodyRead 23 = .ok (.aload_n 0, 1) := dk_42 (dk_at dksX6_bodyRead_0 23 rfl rfl)
theorem dX6_bodyRead_24 : decode cX6_bodyRead 24 = .ok (.getfield 16, 3) := dk_180 0 16 (dk_at dksX6_bodyRead_1 0 rfl rfl)
theorem dX6_bodyRead_27 : decode cX6_bodyRead 27 = .ok (.iload_n 1, 1) := dk_27 (dk_at dksX6_bodyRead_1 3 rfl rfl)
theorem dX6_bodyRead_28 : decode cX6_bodyRead 28 = .ok (.iconst 0, 1) := dk_3 (dk_at dksX6_bodyRead_1 4 rfl rfl)
theorem dX6_bodyRead_29 : decode cX6_bodyRead 29 = .ok (.invokestatic 79, 3) := dk_184 0 79 (dk_at dksX6_bodyRead_1 5 rfl rfl)
theorem dX6_bodyRead_32 : decode cX6_bodyRead 32 = .ok (.aload_n 0, 1) := dk_42 (dk_at dksX6_bodyRead_1 8 rfl rfl)
theorem dX6_bodyRead_33 : decode cX6_bodyRead 33 = .ok (.lconst 1, 1) := dk_10 (dk_at dksX6_bodyRead_1 9 rfl rfl)
theorem dX6_bodyRead_34 : decode cX6_bodyRead 34 = .ok (.ldc2_w 228, 3) := dk_20 0 228 (dk_at dksX6_bodyRead_1 10 rfl rfl)
theorem dX6_bodyRead_37 : decode cX6_bodyRead 37 = .ok (.invokevirtual 187, 3) := dk_182 0 187 (dk_at dksX6_bodyRead_1 13 rfl rfl)
theorem dX6_bodyRead_40 : decode cX6_bodyRead 40 = .ok (.lastore, 1) := dk_80 (dk_at dksX6_bodyRead_1 16 rfl rfl)
theorem dX6_bodyRead_41 : decode cX6_bodyRead 41 = .ok (.aload_n 0, 1) := dk_42 (dk_at dksX6_bodyRead_1 17 rfl rfl)
theorem dX6_bodyRead_42 : decode cX6_bodyRead 42 = .ok (.getfield 16, 3) := dk_180 0 16 (dk_at dksX6_bodyRead_1 18 rfl rfl)
theorem dX6_bodyRead_45 : decode cX6_bodyRead 45 = .ok (.iload_n 1, 1) := dk_27 (dk_at dksX6_bodyRead_1 21 rfl rfl)
theorem dX6_bodyRead_46 : decode cX6_bodyRead 46 = .ok (.iconst 1, 1) := dk_4 (dk_at dksX6_bodyRead_1 22 rfl rfl)
theorem dX6_bodyRead_47 : decode cX6_bodyRead 47 = .ok (.invokestatic 79, 3) := dk_184 0 79 (dk_at dksX6_bodyRead_2 0 rfl rfl)
theorem dX6_bodyRead_50 : decode cX6_bodyRead 50 = .ok (.aload_n 0, 1) := dk_42 (dk_at dksX6_bodyRead_2 3 rfl rfl)
theorem dX6_bodyRead_51 : decode cX6_bodyRead 51 = .ok (.ldc2_w 230, 3) := dk_20 0 230 (dk_at dksX6_bodyRead_2 4 rfl rfl)
theorem dX6_bodyRead_54 : decode cX6_bodyRead 54 = .ok (.invokevirtual 232, 3) := dk_182 0 232 (dk_at dksX6_bodyRead_2 7 rfl rfl)
theorem dX6_bodyRead_57 : decode cX6_bodyRead 57 = .ok (.lastore, 1) := dk_80 (dk_at dksX6_bodyRead_2 10 rfl rfl)
theorem dX6_bodyRead_58 : decode cX6_bodyRead 58 = .ok (.aload_n 0, 1) := dk_42 (dk_at dksX6_bodyRead_2 11 rfl rfl)
theorem dX6_bodyRead_59 : decode cX6_bodyRead 59 = .ok (.getfield 16, 3) := dk_180 0 16 (dk_at dksX6_bodyRead_2 12 rfl rfl)
theorem dX6_bodyRead_62 : decode cX6_bodyRead 62 = .ok (.iload_n 1, 1) := dk_27 (dk_at dksX6_bodyRead_2 15 rfl rfl)
theorem dX6_bodyRead_63 : decode cX6_bodyRead 63 = .ok (.iconst 2, 1) := dk_5 (dk_at dksX6_bodyRead_2 16 rfl rfl)
theorem dX6_bodyRead_64 : decode cX6_bodyRead 64 = .ok (.invokestatic 79, 3) := dk_184 0 79 (dk_at dksX6_bodyRead_2 17 rfl rfl)
theorem dX6_bodyRead_67 : decode cX6_bodyRead 67 = .ok (.aload_n 0, 1) := dk_42 (dk_at dksX6_bodyRead_2 20 rfl rfl)
theorem dX6_bodyRead_68 : decode cX6_bodyRead 68 = .ok (.ldc2_w 230, 3) := dk_20 0 230 (dk_at dksX6_bodyRead_2 21 rfl rfl)
theorem dX6_bodyRead_71 : decode cX6_bodyRead 71 = .ok (.invokevirtual 232, 3) := dk_182 0 232 (dk_at dksX6_bodyRead_3 0 rfl rfl)
theorem dX6_bodyRead_74 : decode cX6_bodyRead 74 = .ok (.lastore, 1) := dk_80 (dk_at dksX6_bodyRead_3 3 rfl rfl)
theorem dX6_bodyRead_75 : decode cX6_bodyRead 75 = .ok (.aload_n 0, 1) := dk_42 (dk_at dksX6_bodyRead_3 4 rfl rfl)
theorem dX6_bodyRead_76 : decode cX6_bodyRead 76 = .ok (.getfield 16, 3) := dk_180 0 16 (dk_at dksX6_bodyRead_3 5 rfl rfl)
theorem dX6_bodyRead_79 : decode cX6_bodyRead 79 = .ok (.iload_n 1, 1) := dk_27 (dk_at dksX6_bodyRead_3 8 rfl rfl)
theorem dX6_bodyRead_80 : decode cX6_bodyRead 80 = .ok (.iconst 3, 1) := dk_6 (dk_at dksX6_bodyRead_3 9 rfl rfl)
theorem dX6_bodyRead_81 : decode cX6_bodyRead 81 = .ok (.invokestatic 79, 3) := dk_184 0 79 (dk_at dksX6_bodyRead_3 10 rfl rfl)
theorem dX6_bodyRead_84 : decode cX6_bodyRead 84 = .ok (.aload_n 0, 1) := dk_42 (dk_at dksX6_bodyRead_3 13 rfl rfl)
theorem dX6_bodyRead_85 : decode cX6_bodyRead 85 = .ok (.ldc2_w 153, 3) := dk_20 0 153 (dk_at dksX6_bodyRead_3 14 rfl rfl)
theorem dX6_bodyRead_88 : decode cX6_bodyRead 88 = .ok (.invokevirtual 232, 3) := dk_182 0 232 (dk_at dksX6_bodyRead_3 17 rfl rfl)
theorem dX6_bodyRead_91 : decode cX6_bodyRead 91 = .ok (.lastore, 1) := dk_80 (dk_at dksX6_bodyRead_3 20 rfl rfl)
theorem dX6_bodyRead_92 : decode cX6_bodyRead 92 = .ok (.aload_n 0, 1) := dk_42 (dk_at dksX6_bodyRead_3 21 rfl rfl)
theorem dX6_bodyRead_93 : decode cX6_bodyRead 93 = .ok (.getfield 16, 3) := dk_180 0 16 (dk_at dksX6_bodyRead_4 0 rfl rfl)
theorem dX6_bodyRead_96 : decode cX6_bodyRead 96 = .ok (.iload_n 1, 1) := dk_27 (dk_at dksX6_bodyRead_4 3 rfl rfl)
theorem dX6_bodyRead_97 : decode cX6_bodyRead 97 = .ok (.iconst 4, 1) := dk_7 (dk_at dksX6_bodyRead_4 4 rfl rfl)
theorem dX6_bodyRead_98 : decode cX6_bodyRead 98 = .ok (.invokestatic 79, 3) := dk_184 0 79 (dk_at dksX6_bodyRead_4 5 rfl rfl)
theorem dX6_bodyRead_101 : decode cX6_bodyRead 101 = .ok (.aload_n 0, 1) := dk_42 (dk_at dksX6_bodyRead_4 8 rfl rfl)
theorem dX6_bodyRead_102 : decode cX6_bodyRead 102 = .ok (.ldc2_w 153, 3) := dk_20 0 153 (dk_at dksX6_bodyRead_4 9 rfl rfl)
theorem dX6_bodyRead_105 : decode cX6_bodyRead 105 = .ok (.invokevirtual 232, 3) := dk_182 0 232 (dk_at dksX6_bodyRead_4 12 rfl rfl)
theorem dX6_bodyRead_108 : decode cX6_bodyRead 108 = .ok (.lastore, 1) := dk_80 (dk_at dksX6_bodyRead_4 15 rfl rfl)
theorem dX6_bodyRead_109 : decode cX6_bodyRead 109 = .ok (.iconst 0, 1) := dk_3 (dk_at dksX6_bodyRead_4 16 rfl rfl)
theorem dX6_bodyRead_110 : decode cX6_bodyRead 110 = .ok (.istore_n 2, 1) := dk_61 (dk_at dksX6_bodyRead_4 17 rfl rfl)
theorem dX6_bodyRead_111 : decode cX6_bodyRead 111 = .ok (.iconst 0, 1) := dk_3 (dk_at dksX6_bodyRead_4 18 rfl rfl)
theorem dX6_bodyRead_112 : decode cX6_bodyRead 112 = .ok (.istore_n 3, 1) := dk_62 (dk_at dksX6_bodyRead_4 19 rfl rfl)
theorem dX6_bodyRead_113 : decode cX6_bodyRead 113 = .ok (.iload_n 3, 1) := dk_29 (dk_at dksX6_bodyRead_4 20 rfl rfl)
theorem dX6_bodyRead_114 : decode cX6_bodyRead 114 = .ok (.iload_n 1, 1) := dk_27 (dk_at dksX6_bodyRead_4 21 rfl rfl)
theorem dX6_bodyRead_115 : decode cX6_bodyRead 115 = .ok (.if_icmp .ge 67, 3) := dk_162 0 67 (dk_at dksX6_bodyRead_5 0 rfl rfl)
theorem dX6_bodyRead_118 : decode cX6_bodyRead 118 = .ok (.iload_n 2, 1) := dk_28 (dk_at dksX6_bodyRead_5 3 rfl rfl)
theorem dX6_bodyRead_119 : decode cX6_bodyRead 119 = .ok (.ifCond .ne 51, 3) := dk_154 0 51 (dk_at dksX6_bodyRead_5 4 rfl rfl)
theorem dX6_bodyRead_122 : decode cX6_bodyRead 122 = .ok (.aload_n 0, 1) := dk_42 (dk_at dksX6_bodyRead_5 7 rfl rfl)
theorem dX6_bodyRead_123 : decode cX6_bodyRead 123 = .ok (.getfield 16, 3) := dk_180 0 16 (dk_at dksX6_bodyRead_5 8 rfl rfl)
theorem dX6_bodyRead_126 : decode cX6_bodyRead 126 = .ok (.iload_n 3, 1) := dk_29 (dk_at dksX6_bodyRead_5 11 rfl rfl)
theorem dX6_bodyRead_127 : decode cX6_bodyRead 127 = .ok (.iconst 1, 1) := dk_4 (dk_at dksX6_bodyRead_5 12 rfl rfl)
theorem dX6_bodyRead_128 : decode cX6_bodyRead 128 = .ok (.invokestatic 79, 3) := dk_184 0 79 (dk_at dksX6_bodyRead_5 13 rfl rfl)
theorem dX6_bodyRead_131 : decode cX6_bodyRead 131 = .ok (.laload, 1) := dk_47 (dk_at dksX6_bodyRead_5 16 rfl rfl)
theorem dX6_bodyRead_132 : decode cX6_bodyRead 132 = .ok (.aload_n 0, 1) := dk_42 (dk_at dksX6_bodyRead_5 17 rfl rfl)
theorem dX6_bodyRead_133 : decode cX6_bodyRead 133 = .ok (.getfield 16, 3) := dk_180 0 16 (dk_at dksX6_bodyRead_5 18 rfl rfl)
theorem dX6_bodyRead_136 : decode cX6_bodyRead 136 = .ok (.iload_n 1, 1) := dk_27 (dk_at dksX6_bodyRead_5 21 rfl rfl)
theorem dX6_bodyRead_137 : decode cX6_bodyRead 137 = .ok (.iconst 1, 1) := dk_4 (dk_at dksX6_bodyRead_5 22 rfl rfl)
theorem dX6_bodyRead_138 : decode cX6_bodyRead 138 = .ok (.invokestatic 79, 3) := dk_184 0 79 (dk_at dksX6_bodyRead_6 0 rfl rfl)
theorem dX6_bodyRead_141 : decode cX6_bodyRead 141 = .ok (.laload, 1) := dk_47 (dk_at dksX6_bodyRead_6 3 rfl rfl)
theorem dX6_bodyRead_142 : decode cX6_bodyRead 142 = .ok (.lcmp, 1) := dk_148 (dk_at dksX6_bodyRead_6 4 rfl rfl)
theorem dX6_bodyRead_143 : decode cX6_bodyRead 143 = .ok (.ifCond .ne 31, 3) := dk_154 0 31 (dk_at dksX6_bodyRead_6 5 rfl rfl)
theorem dX6_bodyRead_146 : decode cX6_bodyRead 146 = .ok (.aload_n 0, 1) := dk_42 (dk_at dksX6_bodyRead_6 8 rfl rfl)
theorem dX6_bodyRead_147 : decode cX6_bodyRead 147 = .ok (.getfield 16, 3) := dk_180 0 16 (dk_at dksX6_bodyRead_6 9 rfl rfl)
theorem dX6_bodyRead_150 : decode cX6_bodyRead 150 = .ok (.iload_n 3, 1) := dk_29 (dk_at dksX6_bodyRead_6 12 rfl rfl)
theorem dX6_bodyRead_151 : decode cX6_bodyRead 151 = .ok (.iconst 2, 1) := dk_5 (dk_at dksX6_bodyRead_6 13 rfl rfl)
theorem dX6_bodyRead_152 : decode cX6_bodyRead 152 = .ok (.invokestatic 79, 3) := dk_184 0 79 (dk_at dksX6_bodyRead_6 14 rfl rfl)
theorem dX6_bodyRead_155 : decode cX6_bodyRead 155 = .ok (.laload, 1) := dk_47 (dk_at dksX6_bodyRead_6 17 rfl rfl)
theorem dX6_bodyRead_156 : decode cX6_bodyRead 156 = .ok (.aload_n 0, 1) := dk_42 (dk_at dksX6_bodyRead_6 18 rfl rfl)
theorem dX6_bodyRead_157 : decode cX6_bodyRead 157 = .ok (.getfield 16, 3) := dk_180 0 16 (dk_at dksX6_bodyRead_6 19 rfl rfl)
theorem dX6_bodyRead_160 : decode cX6_bodyRead 160 = .ok (.iload_n 1, 1) := dk_27 (dk_at dksX6_bodyRead_6 22 rfl rfl)
theorem dX6_bodyRead_161 : decode cX6_bodyRead 161 = .ok (.iconst 2, 1) := dk_5 (dk_at dksX6_bodyRead_6 23 rfl rfl)
theorem dX6_bodyRead_162 : decode cX6_bodyRead 162 = .ok (.invokestatic 79, 3) := dk_184 0 79 (dk_at dksX6_bodyRead_7 0 rfl rfl)
theorem dX6_bodyRead_165 : decode cX6_bodyRead 165 = .ok (.laload, 1) := dk_47 (dk_at dksX6_bodyRead_7 3 rfl rfl)
theorem dX6_bodyRead_166 : decode cX6_bodyRead 166 = .ok (.lcmp, 1) := dk_148 (dk_at dksX6_bodyRead_7 4 rfl rfl)
theorem dX6_bodyRead_167 : decode cX6_bodyRead 167 = .ok (.ifCond .ne 7, 3) := dk_154 0 7 (dk_at dksX6_bodyRead_7 5 rfl rfl)
theorem dX6_bodyRead_170 : decode cX6_bodyRead 170 = .ok (.iconst 1, 1) := dk_4 (dk_at dksX6_bodyRead_7 8 rfl rfl)
theorem dX6_bodyRead_171 : decode cX6_bodyRead 171 = .ok (.goto 4, 3) := dk_167 0 4 (dk_at dksX6_bodyRead_7 9 rfl rfl)
theorem dX6_bodyRead_174 : decode cX6_bodyRead 174 = .ok (.iconst 0, 1) := dk_3 (dk_at dksX6_bodyRead_7 12 rfl rfl)
theorem dX6_bodyRead_175 : decode cX6_bodyRead 175 = .ok (.istore_n 2, 1) := dk_61 (dk_at dksX6_bodyRead_7 13 rfl rfl)
theorem dX6_bodyRead_176 : decode cX6_bodyRead 176 = .ok (.iinc 3 1, 3) := dk_132 3 1 (dk_at dksX6_bodyRead_7 14 rfl rfl)
theorem dX6_bodyRead_179 : decode cX6_bodyRead 179 = .ok (.goto (-66), 3) := dk_167 255 190 (dk_at dksX6_bodyRead_7 17 rfl rfl)
theorem dX6_bodyRead_182 : decode cX6_bodyRead 182 = .ok (.aload_n 0, 1) := dk_42 (dk_at dksX6_bodyRead_7 20 rfl rfl)
theorem dX6_bodyRead_183 : decode cX6_bodyRead 183 = .ok (.bipush 59, 2) := dk_16 59 (dk_at dksX6_bodyRead_7 21 rfl rfl)
theorem dX6_bodyRead_185 : decode cX6_bodyRead 185 = .ok (.invokevirtual 177, 3) := dk_182 0 177 (dk_at dksX6_bodyRead_8 0 rfl rfl)
theorem dX6_bodyRead_188 : decode cX6_bodyRead 188 = .ok (.ifCond .eq 13, 3) := dk_153 0 13 (dk_at dksX6_bodyRead_8 3 rfl rfl)
theorem dX6_bodyRead_191 : decode cX6_bodyRead 191 = .ok (.iload_n 2, 1) := dk_28 (dk_at dksX6_bodyRead_8 6 rfl rfl)
theorem dX6_bodyRead_192 : decode cX6_bodyRead 192 = .ok (.ifCond .eq 9, 3) := dk_153 0 9 (dk_at dksX6_bodyRead_8 7 rfl rfl)
theorem dX6_bodyRead_195 : decode cX6_bodyRead 195 = .ok (.aload_n 0, 1) := dk_42 (dk_at dksX6_bodyRead_8 10 rfl rfl)
theorem dX6_bodyRead_196 : decode cX6_bodyRead 196 = .ok (.iconst 3, 1) := dk_6 (dk_at dksX6_bodyRead_8 11 rfl rfl)
theorem dX6_bodyRead_197 : decode cX6_bodyRead 197 = .ok (.invokevirtual 180, 3) := dk_182 0 180 (dk_at dksX6_bodyRead_8 12 rfl rfl)
theorem dX6_bodyRead_200 : decode cX6_bodyRead 200 = .ok (.pop, 1) := dk_87 (dk_at dksX6_bodyRead_8 15 rfl rfl)
theorem dX6_bodyRead_201 : decode cX6_bodyRead 201 = .ok (.aload_n 0, 1) := dk_42 (dk_at dksX6_bodyRead_8 16 rfl rfl)
theorem dX6_bodyRead_202 : decode cX6_bodyRead 202 = .ok (.bipush 59, 2) := dk_16 59 (dk_at dksX6_bodyRead_8 17 rfl rfl)
theorem dX6_bodyRead_204 : decode cX6_bodyRead 204 = .ok (.invokevirtual 194, 3) := dk_182 0 194 (dk_at dksX6_bodyRead_8 19 rfl rfl)
theorem dX6_bodyRead_207 : decode cX6_bodyRead 207 = .ok (.return_, 1) := dk_177 (dk_at dksX6_bodyRead_8 22 rfl rfl)
abbrev cX6_signed : ByteArray := prog_25_method_28_code
def yX6_signed : MethodName := ⟨RX6, "signed", "(J)J"⟩
def dkwX6_signed_1 : List UInt8 := [153, 0, 9, 22, 4, 117, 167, 0, 5, 22, 4, 173]
abbrev dktX6_signed_1 : List UInt8 := dkwX6_signed_1 ++ []
def dkwX6_signed_0 : List UInt8 := [42, 16, 45, 182, 0, 177, 62, 29, 153, 0, 7, 42, 182, 0, 166, 42, 9, 31, 182, 0, 187, 55, 4, 29]
abbrev dktX6_signed_0 : List UInt8 := dkwX6_signed_0 ++ dktX6_signed_1
theorem dksX6_signed_0 : cX6_signed.data.toList.drop 0 = dktX6_signed_0 := by decide +kernel
theorem dksX6_signed_1 : cX6_signed.data.toList.drop 24 = dktX6_signed_1 := dk_seg dksX6_signed_0 24 rfl rfl
theorem dX6_signed_0 : decode cX6_signed 0 = .ok (.aload_n 0, 1) := dk_42 (dk_at dksX6_signed_0 0 rfl rfl)
theorem dX6_signed_1 : decode cX6_signed 1 = .ok (.bipush 45, 2) := dk_16 45 (dk_at dksX6_signed_0 1 rfl rfl)
theorem dX6_signed_3 : decode cX6_signed 3 = .ok (.invokevirtual 177, 3) := dk_182 0 177 (dk_at dksX6_signed_0 3 rfl rfl)
theorem dX6_signed_6 : decode cX6_signed 6 = .ok (.istore_n 3, 1) := dk_62 (dk_at dksX6_signed_0 6 rfl rfl)
theorem dX6_signed_7 : decode cX6_signed 7 = .ok (.iload_n 3, 1) := dk_29 (dk_at dksX6_signed_0 7 rfl rfl)
theorem dX6_signed_8 : decode cX6_signed 8 = .ok (.ifCond .eq 7, 3) := dk_153 0 7 (dk_at dksX6_signed_0 8 rfl rfl)
theorem dX6_signed_11 : decode cX6_signed 11 = .ok (.aload_n 0, 1) := dk_42 (dk_at dksX6_signed_0 11 rfl rfl)
theorem dX6_signed_12 : decode cX6_signed 12 = .ok (.invokevirtual 166, 3) := dk_182 0 166 (dk_at dksX6_signed_0 12 rfl rfl)
theorem dX6_signed_15 : decode cX6_signed 15 = .ok (.aload_n 0, 1) := dk_42 (dk_at dksX6_signed_0 15 rfl rfl)
theorem dX6_signed_16 : decode cX6_signed 16 = .ok (.lconst 0, 1) := dk_9 (dk_at dksX6_signed_0 16 rfl rfl)
theorem dX6_signed_17 : decode cX6_signed 17 = .ok (.lload_n 1, 1) := dk_31 (dk_at dksX6_signed_0 17 rfl rfl)
theorem dX6_signed_18 : decode cX6_signed 18 = .ok (.invokevirtual 187, 3) := dk_182 0 187 (dk_at dksX6_signed_0 18 rfl rfl)
theorem dX6_signed_21 : decode cX6_signed 21 = .ok (.lstore 4, 2) := dk_55 4 (dk_at dksX6_signed_0 21 rfl rfl)
theorem dX6_signed_23 : decode cX6_signed 23 = .ok (.iload_n 3, 1) := dk_29 (dk_at dksX6_signed_0 23 rfl rfl)
theorem dX6_signed_24 : decode cX6_signed 24 = .ok (.ifCond .eq 9, 3) := dk_153 0 9 (dk_at dksX6_signed_1 0 rfl rfl)
theorem dX6_signed_27 : decode cX6_signed 27 = .ok (.lload 4, 2) := dk_22 4 (dk_at dksX6_signed_1 3 rfl rfl)
theorem dX6_signed_29 : decode cX6_signed 29 = .ok (.lneg, 1) := dk_117 (dk_at dksX6_signed_1 5 rfl rfl)
theorem dX6_signed_30 : decode cX6_signed 30 = .ok (.goto 5, 3) := dk_167 0 5 (dk_at dksX6_signed_1 6 rfl rfl)
theorem dX6_signed_33 : decode cX6_signed 33 = .ok (.lload 4, 2) := dk_22 4 (dk_at dksX6_signed_1 9 rfl rfl)
theorem dX6_signed_35 : decode cX6_signed 35 = .ok (.lreturn, 1) := dk_173 (dk_at dksX6_signed_1 11 rfl rfl)
abbrev cX6_clock : ByteArray := prog_25_method_55_code
def yX6_clock : MethodName := ⟨RX6, "clock", "()I"⟩
def dkwX6_clock_0 : List UInt8 := [42, 3, 181, 0, 88, 42, 180, 0, 7, 3, 47, 136, 172]
abbrev dktX6_clock_0 : List UInt8 := dkwX6_clock_0 ++ []
theorem dksX6_clock_0 : cX6_clock.data.toList.drop 0 = dktX6_clock_0 := by decide +kernel
theorem dX6_clock_0 : decode cX6_clock 0 = .ok (.aload_n 0, 1) := dk_42 (dk_at dksX6_clock_0 0 rfl rfl)
theorem dX6_clock_1 : decode cX6_clock 1 = .ok (.iconst 0, 1) := dk_3 (dk_at dksX6_clock_0 1 rfl rfl)
theorem dX6_clock_2 : decode cX6_clock 2 = .ok (.putfield 88, 3) := dk_181 0 88 (dk_at dksX6_clock_0 2 rfl rfl)
theorem dX6_clock_5 : decode cX6_clock 5 = .ok (.aload_n 0, 1) := dk_42 (dk_at dksX6_clock_0 5 rfl rfl)
theorem dX6_clock_6 : decode cX6_clock 6 = .ok (.getfield 7, 3) := dk_180 0 7 (dk_at dksX6_clock_0 6 rfl rfl)
theorem dX6_clock_9 : decode cX6_clock 9 = .ok (.iconst 0, 1) := dk_3 (dk_at dksX6_clock_0 9 rfl rfl)
theorem dX6_clock_10 : decode cX6_clock 10 = .ok (.laload, 1) := dk_47 (dk_at dksX6_clock_0 10 rfl rfl)
theorem dX6_clock_11 : decode cX6_clock 11 = .ok (.l2i, 1) := dk_136 (dk_at dksX6_clock_0 11 rfl rfl)
theorem dX6_clock_12 : decode cX6_clock 12 = .ok (.ireturn, 1) := dk_172 (dk_at dksX6_clock_0 12 rfl rfl)
abbrev cX6_body : ByteArray := prog_25_method_57_code
def yX6_body : MethodName := ⟨RX6, "body", "(II)I"⟩
def dkwX6_body_1 : List UInt8 := [153, 0, 5, 3, 172, 42, 180, 0, 7, 27, 28, 184, 0, 79, 47, 136, 172]
abbrev dktX6_body_1 : List UInt8 := dkwX6_body_1 ++ []
def dkwX6_body_0 : List UInt8 := [42, 27, 182, 1, 69, 154, 0, 20, 42, 28, 133, 9, 20, 1, 72, 184, 0, 183, 4, 182, 0, 236]
abbrev dktX6_body_0 : List UInt8 := dkwX6_body_0 ++ dktX6_body_1
theorem dksX6_body_0 : cX6_body.data.toList.drop 0 = dktX6_body_0 := by decide +kernel
theorem dksX6_body_1 : cX6_body.data.toList.drop 22 = dktX6_body_1 := dk_seg dksX6_body_0 22 rfl rfl
theorem dX6_body_0 : decode cX6_body 0 = .ok (.aload_n 0, 1) := dk_42 (dk_at dksX6_body_0 0 rfl rfl)
theorem dX6_body_1 : decode cX6_body 1 = .ok (.iload_n 1, 1) := dk_27 (dk_at dksX6_body_0 1 rfl rfl)
theorem dX6_body_2 : decode cX6_body 2 = .ok (.invokevirtual 325, 3) := dk_182 1 69 (dk_at dksX6_body_0 2 rfl rfl)
theorem dX6_body_5 : decode cX6_body 5 = .ok (.ifCond .ne 20, 3) := dk_154 0 20 (dk_at dksX6_body_0 5 rfl rfl)
theorem dX6_body_8 : decode cX6_body 8 = .ok (.aload_n 0, 1) := dk_42 (dk_at dksX6_body_0 8 rfl rfl)
theorem dX6_body_9 : decode cX6_body 9 = .ok (.iload_n 2, 1) := dk_28 (dk_at dksX6_body_0 9 rfl rfl)
theorem dX6_body_10 : decode cX6_body 10 = .ok (.i2l, 1) := dk_133 (dk_at dksX6_body_0 10 rfl rfl)
theorem dX6_body_11 : decode cX6_body 11 = .ok (.lconst 0, 1) := dk_9 (dk_at dksX6_body_0 11 rfl rfl)
theorem dX6_body_12 : decode cX6_body 12 = .ok (.ldc2_w 328, 3) := dk_20 1 72 (dk_at dksX6_body_0 12 rfl rfl)
theorem dX6_body_15 : decode cX6_body 15 = .ok (.invokestatic 183, 3) := dk_184 0 183 (dk_at dksX6_body_0 15 rfl rfl)
theorem dX6_body_18 : decode cX6_body 18 = .ok (.iconst 1, 1) := dk_4 (dk_at dksX6_body_0 18 rfl rfl)
theorem dX6_body_19 : decode cX6_body 19 = .ok (.invokevirtual 236, 3) := dk_182 0 236 (dk_at dksX6_body_0 19 rfl rfl)
theorem dX6_body_22 : decode cX6_body 22 = .ok (.ifCond .eq 5, 3) := dk_153 0 5 (dk_at dksX6_body_1 0 rfl rfl)
theorem dX6_body_25 : decode cX6_body 25 = .ok (.iconst 0, 1) := dk_3 (dk_at dksX6_body_1 3 rfl rfl)
theorem dX6_body_26 : decode cX6_body 26 = .ok (.ireturn, 1) := dk_172 (dk_at dksX6_body_1 4 rfl rfl)
theorem dX6_body_27 : decode cX6_body 27 = .ok (.aload_n 0, 1) := dk_42 (dk_at dksX6_body_1 5 rfl rfl)
theorem dX6_body_28 : decode cX6_body 28 = .ok (.getfield 7, 3) := dk_180 0 7 (dk_at dksX6_body_1 6 rfl rfl)
theorem dX6_body_31 : decode cX6_body 31 = .ok (.iload_n 1, 1) := dk_27 (dk_at dksX6_body_1 9 rfl rfl)
theorem dX6_body_32 : decode cX6_body 32 = .ok (.iload_n 2, 1) := dk_28 (dk_at dksX6_body_1 10 rfl rfl)
theorem dX6_body_33 : decode cX6_body 33 = .ok (.invokestatic 79, 3) := dk_184 0 79 (dk_at dksX6_body_1 11 rfl rfl)
theorem dX6_body_36 : decode cX6_body 36 = .ok (.laload, 1) := dk_47 (dk_at dksX6_body_1 14 rfl rfl)
theorem dX6_body_37 : decode cX6_body 37 = .ok (.l2i, 1) := dk_136 (dk_at dksX6_body_1 15 rfl rfl)
theorem dX6_body_38 : decode cX6_body 38 = .ok (.ireturn, 1) := dk_172 (dk_at dksX6_body_1 16 rfl rfl)
abbrev cX6_noBody : ByteArray := prog_25_method_56_code
def yX6_noBody : MethodName := ⟨RX6, "noBody", "(I)Z"⟩
def dkwX6_noBody_0 : List UInt8 := [42, 3, 181, 0, 88, 42, 27, 133, 9, 20, 0, 203, 184, 0, 183, 4, 182, 0, 236, 172]
abbrev dktX6_noBody_0 : List UInt8 := dkwX6_noBody_0 ++ []
theorem dksX6_noBody_0 : cX6_noBody.data.toList.drop 0 = dktX6_noBody_0 := by decide +kernel
theorem dX6_noBody_0 : decode cX6_noBody 0 = .ok (.aload_n 0, 1) := dk_42 (dk_at dksX6_noBody_0 0 rfl rfl)
theorem dX6_noBody_1 : decode cX6_noBody 1 = .ok (.iconst 0, 1) := dk_3 (dk_at dksX6_noBody_0 1 rfl rfl)
theorem dX6_noBody_2 : decode cX6_noBody 2 = .ok (.putfield 88, 3) := dk_181 0 88 (dk_at dksX6_noBody_0 2 rfl rfl)
theorem dX6_noBody_5 : decode cX6_noBody 5 = .ok (.aload_n 0, 1) := dk_42 (dk_at dksX6_noBody_0 5 rfl rfl)
theorem dX6_noBody_6 : decode cX6_noBody 6 = .ok (.iload_n 1, 1) := dk_27 (dk_at dksX6_noBody_0 6 rfl rfl)
theorem dX6_noBody_7 : decode cX6_noBody 7 = .ok (.i2l, 1) := dk_133 (dk_at dksX6_noBody_0 7 rfl rfl)
theorem dX6_noBody_8 : decode cX6_noBody 8 = .ok (.lconst 0, 1) := dk_9 (dk_at dksX6_noBody_0 8 rfl rfl)
theorem dX6_noBody_9 : decode cX6_noBody 9 = .ok (.ldc2_w 203, 3) := dk_20 0 203 (dk_at dksX6_noBody_0 9 rfl rfl)
theorem dX6_noBody_12 : decode cX6_noBody 12 = .ok (.invokestatic 183, 3) := dk_184 0 183 (dk_at dksX6_noBody_0 12 rfl rfl)
theorem dX6_noBody_15 : decode cX6_noBody 15 = .ok (.iconst 1, 1) := dk_4 (dk_at dksX6_noBody_0 15 rfl rfl)
theorem dX6_noBody_16 : decode cX6_noBody 16 = .ok (.invokevirtual 236, 3) := dk_182 0 236 (dk_at dksX6_noBody_0 16 rfl rfl)
theorem dX6_noBody_19 : decode cX6_noBody 19 = .ok (.ireturn, 1) := dk_172 (dk_at dksX6_noBody_0 19 rfl rfl)
abbrev cX6_setting : ByteArray := prog_25_method_58_code
def yX6_setting : MethodName := ⟨RX6, "setting", "(I)I"⟩
def dkwX6_setting_2 : List UInt8 := [167, 0, 6, 27, 4, 100, 47, 136, 172]
abbrev dktX6_setting_2 : List UInt8 := dkwX6_setting_2 ++ []
def dkwX6_setting_1 : List UInt8 := [27, 6, 160, 0, 12, 42, 180, 0, 7, 4, 47, 167, 0, 20, 42, 180, 0, 28, 27, 6, 162, 0, 7, 27]
abbrev dktX6_setting_1 : List UInt8 := dkwX6_setting_1 ++ dktX6_setting_2
def dkwX6_setting_0 : List UInt8 := [42, 3, 181, 0, 88, 42, 27, 133, 9, 20, 1, 74, 184, 0, 183, 4, 182, 0, 236, 153, 0, 5, 3, 172]
abbrev dktX6_setting_0 : List UInt8 := dkwX6_setting_0 ++ dktX6_setting_1
theorem dksX6_setting_0 : cX6_setting.data.toList.drop 0 = dktX6_setting_0 := by decide +kernel
theorem dksX6_setting_1 : cX6_setting.data.toList.drop 24 = dktX6_setting_1 := dk_seg dksX6_setting_0 24 rfl rfl
theorem dksX6_setting_2 : cX6_setting.data.toList.drop 48 = dktX6_setting_2 := dk_seg dksX6_setting_1 24 rfl rfl
theorem dX6_setting_0 : decode cX6_setting 0 = .ok (.aload_n 0, 1) := dk_42 (dk_at dksX6_setting_0 0 rfl rfl)
theorem dX6_setting_1 : decode cX6_setting 1 = .ok (.iconst 0, 1) := dk_3 (dk_at dksX6_setting_0 1 rfl rfl)
theorem dX6_setting_2 : decode cX6_setting 2 = .ok (.putfield 88, 3) := dk_181 0 88 (dk_at dksX6_setting_0 2 rfl rfl)
theorem dX6_setting_5 : decode cX6_setting 5 = .ok (.aload_n 0, 1) := dk_42 (dk_at dksX6_setting_0 5 rfl rfl)
theorem dX6_setting_6 : decode cX6_setting 6 = .ok (.iload_n 1, 1) := dk_27 (dk_at dksX6_setting_0 6 rfl rfl)
theorem dX6_setting_7 : decode cX6_setting 7 = .ok (.i2l, 1) := dk_133 (dk_at dksX6_setting_0 7 rfl rfl)
theorem dX6_setting_8 : decode cX6_setting 8 = .ok (.lconst 0, 1) := dk_9 (dk_at dksX6_setting_0 8 rfl rfl)
theorem dX6_setting_9 : decode cX6_setting 9 = .ok (.ldc2_w 330, 3) := dk_20 1 74 (dk_at dksX6_setting_0 9 rfl rfl)
theorem dX6_setting_12 : decode cX6_setting 12 = .ok (.invokestatic 183, 3) := dk_184 0 183 (dk_at dksX6_setting_0 12 rfl rfl)
theorem dX6_setting_15 : decode cX6_setting 15 = .ok (.iconst 1, 1) := dk_4 (dk_at dksX6_setting_0 15 rfl rfl)
theorem dX6_setting_16 : decode cX6_setting 16 = .ok (.invokevirtual 236, 3) := dk_182 0 236 (dk_at dksX6_setting_0 16 rfl rfl)
theorem dX6_setting_19 : decode cX6_setting 19 = .ok (.ifCond .eq 5, 3) := dk_153 0 5 (dk_at dksX6_setting_0 19 rfl rfl)
theorem dX6_setting_22 : decode cX6_setting 22 = .ok (.iconst 0, 1) := dk_3 (dk_at dksX6_setting_0 22 rfl rfl)
theorem dX6_setting_23 : decode cX6_setting 23 = .ok (.ireturn, 1) := dk_172 (dk_at dksX6_setting_0 23 rfl rfl)
theorem dX6_setting_24 : decode cX6_setting 24 = .ok (.iload_n 1, 1) := dk_27 (dk_at dksX6_setting_1 0 rfl rfl)
theorem dX6_setting_25 : decode cX6_setting 25 = .ok (.iconst 3, 1) := dk_6 (dk_at dksX6_setting_1 1 rfl rfl)
theorem dX6_setting_26 : decode cX6_setting 26 = .ok (.if_icmp .ne 12, 3) := dk_160 0 12 (dk_at dksX6_setting_1 2 rfl rfl)
theorem dX6_setting_29 : decode cX6_setting 29 = .ok (.aload_n 0, 1) := dk_42 (dk_at dksX6_setting_1 5 rfl rfl)
theorem dX6_setting_30 : decode cX6_setting 30 = .ok (.getfield 7, 3) := dk_180 0 7 (dk_at dksX6_setting_1 6 rfl rfl)
theorem dX6_setting_33 : decode cX6_setting 33 = .ok (.iconst 1, 1) := dk_4 (dk_at dksX6_setting_1 9 rfl rfl)
theorem dX6_setting_34 : decode cX6_setting 34 = .ok (.laload, 1) := dk_47 (dk_at dksX6_setting_1 10 rfl rfl)
theorem dX6_setting_35 : decode cX6_setting 35 = .ok (.goto 20, 3) := dk_167 0 20 (dk_at dksX6_setting_1 11 rfl rfl)
theorem dX6_setting_38 : decode cX6_setting 38 = .ok (.aload_n 0, 1) := dk_42 (dk_at dksX6_setting_1 14 rfl rfl)
theorem dX6_setting_39 : decode cX6_setting 39 = .ok (.getfield 28, 3) := dk_180 0 28 (dk_at dksX6_setting_1 15 rfl rfl)
theorem dX6_setting_42 : decode cX6_setting 42 = .ok (.iload_n 1, 1) := dk_27 (dk_at dksX6_setting_1 18 rfl rfl)
theorem dX6_setting_43 : decode cX6_setting 43 = .ok (.iconst 3, 1) := dk_6 (dk_at dksX6_setting_1 19 rfl rfl)
theorem dX6_setting_44 : decode cX6_setting 44 = .ok (.if_icmp .ge 7, 3) := dk_162 0 7 (dk_at dksX6_setting_1 20 rfl rfl)
theorem dX6_setting_47 : decode cX6_setting 47 = .ok (.iload_n 1, 1) := dk_27 (dk_at dksX6_setting_1 23 rfl rfl)
theorem dX6_setting_48 : decode cX6_setting 48 = .ok (.goto 6, 3) := dk_167 0 6 (dk_at dksX6_setting_2 0 rfl rfl)
theorem dX6_setting_51 : decode cX6_setting 51 = .ok (.iload_n 1, 1) := dk_27 (dk_at dksX6_setting_2 3 rfl rfl)
theorem dX6_setting_52 : decode cX6_setting 52 = .ok (.iconst 1, 1) := dk_4 (dk_at dksX6_setting_2 4 rfl rfl)
theorem dX6_setting_53 : decode cX6_setting 53 = .ok (.isub, 1) := dk_100 (dk_at dksX6_setting_2 5 rfl rfl)
theorem dX6_setting_54 : decode cX6_setting 54 = .ok (.laload, 1) := dk_47 (dk_at dksX6_setting_2 6 rfl rfl)
theorem dX6_setting_55 : decode cX6_setting 55 = .ok (.l2i, 1) := dk_136 (dk_at dksX6_setting_2 7 rfl rfl)
theorem dX6_setting_56 : decode cX6_setting 56 = .ok (.ireturn, 1) := dk_172 (dk_at dksX6_setting_2 8 rfl rfl)
abbrev cX6_distance : ByteArray := prog_25_method_59_code
def yX6_distance : MethodName := ⟨RX6, "distance", "(I)I"⟩
def dkwX6_distance_0 : List UInt8 := [42, 27, 182, 1, 69, 153, 0, 7, 3, 167, 0, 12, 42, 180, 0, 7, 27, 184, 1, 5, 136, 172]
abbrev dktX6_distance_0 : List UInt8 := dkwX6_distance_0 ++ []
theorem dksX6_distance_0 : cX6_distance.data.toList.drop 0 = dktX6_distance_0 := by decide +kernel
theorem dX6_distance_0 : decode cX6_distance 0 = .ok (.aload_n 0, 1) := dk_42 (dk_at dksX6_distance_0 0 rfl rfl)
theorem dX6_distance_1 : decode cX6_distance 1 = .ok (.iload_n 1, 1) := dk_27 (dk_at dksX6_distance_0 1 rfl rfl)
theorem dX6_distance_2 : decode cX6_distance 2 = .ok (.invokevirtual 325, 3) := dk_182 1 69 (dk_at dksX6_distance_0 2 rfl rfl)
theorem dX6_distance_5 : decode cX6_distance 5 = .ok (.ifCond .eq 7, 3) := dk_153 0 7 (dk_at dksX6_distance_0 5 rfl rfl)
theorem dX6_distance_8 : decode cX6_distance 8 = .ok (.iconst 0, 1) := dk_3 (dk_at dksX6_distance_0 8 rfl rfl)
theorem dX6_distance_9 : decode cX6_distance 9 = .ok (.goto 12, 3) := dk_167 0 12 (dk_at dksX6_distance_0 9 rfl rfl)
theorem dX6_distance_12 : decode cX6_distance 12 = .ok (.aload_n 0, 1) := dk_42 (dk_at dksX6_distance_0 12 rfl rfl)
theorem dX6_distance_13 : decode cX6_distance 13 = .ok (.getfield 7, 3) := dk_180 0 7 (dk_at dksX6_distance_0 13 rfl rfl)
theorem dX6_distance_16 : decode cX6_distance 16 = .ok (.iload_n 1, 1) := dk_27 (dk_at dksX6_distance_0 16 rfl rfl)
theorem dX6_distance_17 : decode cX6_distance 17 = .ok (.invokestatic 261, 3) := dk_184 1 5 (dk_at dksX6_distance_0 17 rfl rfl)
theorem dX6_distance_20 : decode cX6_distance 20 = .ok (.l2i, 1) := dk_136 (dk_at dksX6_distance_0 20 rfl rfl)
theorem dX6_distance_21 : decode cX6_distance 21 = .ok (.ireturn, 1) := dk_172 (dk_at dksX6_distance_0 21 rfl rfl)
abbrev cX6_impulse : ByteArray := prog_25_method_60_code
def yX6_impulse : MethodName := ⟨RX6, "impulse", "(II)J"⟩
def dkwX6_impulse_1 : List UInt8 := [167, 0, 13, 42, 42, 180, 0, 7, 27, 28, 182, 1, 21, 173]
abbrev dktX6_impulse_1 : List UInt8 := dkwX6_impulse_1 ++ []
def dkwX6_impulse_0 : List UInt8 := [42, 27, 182, 1, 69, 154, 0, 18, 42, 28, 133, 9, 10, 184, 0, 183, 4, 182, 0, 236, 153, 0, 7, 9]
abbrev dktX6_impulse_0 : List UInt8 := dkwX6_impulse_0 ++ dktX6_impulse_1
theorem dksX6_impulse_0 : cX6_impulse.data.toList.drop 0 = dktX6_impulse_0 := by decide +kernel
theorem dksX6_impulse_1 : cX6_impulse.data.toList.drop 24 = dktX6_impulse_1 := dk_seg dksX6_impulse_0 24 rfl rfl
theorem dX6_impulse_0 : decode cX6_impulse 0 = .ok (.aload_n 0, 1) := dk_42 (dk_at dksX6_impulse_0 0 rfl rfl)
theorem dX6_impulse_1 : decode cX6_impulse 1 = .ok (.iload_n 1, 1) := dk_27 (dk_at dksX6_impulse_0 1 rfl rfl)
theorem dX6_impulse_2 : decode cX6_impulse 2 = .ok (.invokevirtual 325, 3) := dk_182 1 69 (dk_at dksX6_impulse_0 2 rfl rfl)
theorem dX6_impulse_5 : decode cX6_impulse 5 = .ok (.ifCond .ne 18, 3) := dk_154 0 18 (dk_at dksX6_impulse_0 5 rfl rfl)
theorem dX6_impulse_8 : decode cX6_impulse 8 = .ok (.aload_n 0, 1) := dk_42 (dk_at dksX6_impulse_0 8 rfl rfl)
theorem dX6_impulse_9 : decode cX6_impulse 9 = .ok (.iload_n 2, 1) := dk_28 (dk_at dksX6_impulse_0 9 rfl rfl)
theorem dX6_impulse_10 : decode cX6_impulse 10 = .ok (.i2l, 1) := dk_133 (dk_at dksX6_impulse_0 10 rfl rfl)
theorem dX6_impulse_11 : decode cX6_impulse 11 = .ok (.lconst 0, 1) := dk_9 (dk_at dksX6_impulse_0 11 rfl rfl)
theorem dX6_impulse_12 : decode cX6_impulse 12 = .ok (.lconst 1, 1) := dk_10 (dk_at dksX6_impulse_0 12 rfl rfl)
theorem dX6_impulse_13 : decode cX6_impulse 13 = .ok (.invokestatic 183, 3) := dk_184 0 183 (dk_at dksX6_impulse_0 13 rfl rfl)
theorem dX6_impulse_16 : decode cX6_impulse 16 = .ok (.iconst 1, 1) := dk_4 (dk_at dksX6_impulse_0 16 rfl rfl)
theorem dX6_impulse_17 : decode cX6_impulse 17 = .ok (.invokevirtual 236, 3) := dk_182 0 236 (dk_at dksX6_impulse_0 17 rfl rfl)
theorem dX6_impulse_20 : decode cX6_impulse 20 = .ok (.ifCond .eq 7, 3) := dk_153 0 7 (dk_at dksX6_impulse_0 20 rfl rfl)
theorem dX6_impulse_23 : decode cX6_impulse 23 = .ok (.lconst 0, 1) := dk_9 (dk_at dksX6_impulse_0 23 rfl rfl)
theorem dX6_impulse_24 : decode cX6_impulse 24 = .ok (.goto 13, 3) := dk_167 0 13 (dk_at dksX6_impulse_1 0 rfl rfl)
theorem dX6_impulse_27 : decode cX6_impulse 27 = .ok (.aload_n 0, 1) := dk_42 (dk_at dksX6_impulse_1 3 rfl rfl)
theorem dX6_impulse_28 : decode cX6_impulse 28 = .ok (.aload_n 0, 1) := dk_42 (dk_at dksX6_impulse_1 4 rfl rfl)
theorem dX6_impulse_29 : decode cX6_impulse 29 = .ok (.getfield 7, 3) := dk_180 0 7 (dk_at dksX6_impulse_1 5 rfl rfl)
theorem dX6_impulse_32 : decode cX6_impulse 32 = .ok (.iload_n 1, 1) := dk_27 (dk_at dksX6_impulse_1 8 rfl rfl)
theorem dX6_impulse_33 : decode cX6_impulse 33 = .ok (.iload_n 2, 1) := dk_28 (dk_at dksX6_impulse_1 9 rfl rfl)
theorem dX6_impulse_34 : decode cX6_impulse 34 = .ok (.invokevirtual 277, 3) := dk_182 1 21 (dk_at dksX6_impulse_1 10 rfl rfl)
theorem dX6_impulse_37 : decode cX6_impulse 37 = .ok (.lreturn, 1) := dk_173 (dk_at dksX6_impulse_1 13 rfl rfl)
abbrev cX6_impulseOf : ByteArray := prog_25_method_41_code
def yX6_impulseOf : MethodName := ⟨RX6, "impulseOf", "([JII)J"⟩
def dkwX6_impulseOf_3 : List UInt8 := [22, 6, 105, 22, 6, 105, 109, 173]
abbrev dktX6_impulseOf_3 : List UInt8 := dkwX6_impulseOf_3 ++ []
def dkwX6_impulseOf_2 : List UInt8 := [29, 96, 184, 0, 79, 47, 43, 21, 4, 4, 29, 96, 184, 0, 79, 47, 101, 105, 55, 8, 22, 8, 22, 6]
abbrev dktX6_impulseOf_2 : List UInt8 := dkwX6_impulseOf_2 ++ dktX6_impulseOf_3
def dkwX6_impulseOf_1 : List UInt8 := [3, 47, 43, 21, 4, 3, 184, 0, 79, 47, 105, 43, 21, 5, 3, 184, 0, 79, 47, 105, 43, 21, 5, 4]
abbrev dktX6_impulseOf_1 : List UInt8 := dkwX6_impulseOf_1 ++ dktX6_impulseOf_2
def dkwX6_impulseOf_0 : List UInt8 := [28, 184, 0, 252, 54, 4, 28, 184, 0, 255, 54, 5, 42, 43, 28, 182, 1, 9, 55, 6, 42, 180, 0, 28]
abbrev dktX6_impulseOf_0 : List UInt8 := dkwX6_impulseOf_0 ++ dktX6_impulseOf_1
theorem dksX6_impulseOf_0 : cX6_impulseOf.data.toList.drop 0 = dktX6_impulseOf_0 := by decide +kernel
theorem dksX6_impulseOf_1 : cX6_impulseOf.data.toList.drop 24 = dktX6_impulseOf_1 := dk_seg dksX6_impulseOf_0 24 rfl rfl
theorem dksX6_impulseOf_2 : cX6_impulseOf.data.toList.drop 48 = dktX6_impulseOf_2 := dk_seg dksX6_impulseOf_1 24 rfl rfl
theorem dksX6_impulseOf_3 : cX6_impulseOf.data.toList.drop 72 = dktX6_impulseOf_3 := dk_seg dksX6_impulseOf_2 24 rfl rfl
theorem dX6_impulseOf_0 : decode cX6_impulseOf 0 = .ok (.iload_n 2, 1) := dk_28 (dk_at dksX6_impulseOf_0 0 rfl rfl)
theorem dX6_impulseOf_1 : decode cX6_impulseOf 1 = .ok (.invokestatic 252, 3) := dk_184 0 252 (dk_at dksX6_impulseOf_0 1 rfl rfl)
theorem dX6_impulseOf_4 : decode cX6_impulseOf 4 = .ok (.istore 4, 2) := dk_54 4 (dk_at dksX6_impulseOf_0 4 rfl rfl)
theorem dX6_impulseOf_6 : decode cX6_impulseOf 6 = .ok (.iload_n 2, 1) := dk_28 (dk_at dksX6_impulseOf_0 6 rfl rfl)
theorem dX6_impulseOf_7 : decode cX6_impulseOf 7 = .ok (.invokestatic 255, 3) := dk_184 0 255 (dk_at dksX6_impulseOf_0 7 rfl rfl)
theorem dX6_impulseOf_10 : decode cX6_impulseOf 10 = .ok (.istore 5, 2) := dk_54 5 (dk_at dksX6_impulseOf_0 10 rfl rfl)
theorem dX6_impulseOf_12 : decode cX6_impulseOf 12 = .ok (.aload_n 0, 1) := dk_42 (dk_at dksX6_impulseOf_0 12 rfl rfl)
theorem dX6_impulseOf_13 : decode cX6_impulseOf 13 = .ok (.aload_n 1, 1) := dk_43 (dk_at dksX6_impulseOf_0 13 rfl rfl)
theorem dX6_impulseOf_14 : decode cX6_impulseOf 14 = .ok (.iload_n 2, 1) := dk_28 (dk_at dksX6_impulseOf_0 14 rfl rfl)
theorem dX6_impulseOf_15 : decode cX6_impulseOf 15 = .ok (.invokevirtual 265, 3) := dk_182 1 9 (dk_at dksX6_impulseOf_0 15 rfl rfl)
theorem dX6_impulseOf_18 : decode cX6_impulseOf 18 = .ok (.lstore 6, 2) := dk_55 6 (dk_at dksX6_impulseOf_0 18 rfl rfl)
theorem dX6_impulseOf_20 : decode cX6_impulseOf 20 = .ok (.aload_n 0, 1) := dk_42 (dk_at dksX6_impulseOf_0 20 rfl rfl)
theorem dX6_impulseOf_21 : decode cX6_impulseOf 21 = .ok (.getfield 28, 3) := dk_180 0 28 (dk_at dksX6_impulseOf_0 21 rfl rfl)
theorem dX6_impulseOf_24 : decode cX6_impulseOf 24 = .ok (.iconst 0, 1) := dk_3 (dk_at dksX6_impulseOf_1 0 rfl rfl)
theorem dX6_impulseOf_25 : decode cX6_impulseOf 25 = .ok (.laload, 1) := dk_47 (dk_at dksX6_impulseOf_1 1 rfl rfl)
theorem dX6_impulseOf_26 : decode cX6_impulseOf 26 = .ok (.aload_n 1, 1) := dk_43 (dk_at dksX6_impulseOf_1 2 rfl rfl)
theorem dX6_impulseOf_27 : decode cX6_impulseOf 27 = .ok (.iload 4, 2) := dk_21 4 (dk_at dksX6_impulseOf_1 3 rfl rfl)
theorem dX6_impulseOf_29 : decode cX6_impulseOf 29 = .ok (.iconst 0, 1) := dk_3 (dk_at dksX6_impulseOf_1 5 rfl rfl)
theorem dX6_impulseOf_30 : decode cX6_impulseOf 30 = .ok (.invokestatic 79, 3) := dk_184 0 79 (dk_at dksX6_impulseOf_1 6 rfl rfl)
theorem dX6_impulseOf_33 : decode cX6_impulseOf 33 = .ok (.laload, 1) := dk_47 (dk_at dksX6_impulseOf_1 9 rfl rfl)
theorem dX6_impulseOf_34 : decode cX6_impulseOf 34 = .ok (.lmul, 1) := dk_105 (dk_at dksX6_impulseOf_1 10 rfl rfl)
theorem dX6_impulseOf_35 : decode cX6_impulseOf 35 = .ok (.aload_n 1, 1) := dk_43 (dk_at dksX6_impulseOf_1 11 rfl rfl)
theorem dX6_impulseOf_36 : decode cX6_impulseOf 36 = .ok (.iload 5, 2) := dk_21 5 (dk_at dksX6_impulseOf_1 12 rfl rfl)
theorem dX6_impulseOf_38 : decode cX6_impulseOf 38 = .ok (.iconst 0, 1) := dk_3 (dk_at dksX6_impulseOf_1 14 rfl rfl)
theorem dX6_impulseOf_39 : decode cX6_impulseOf 39 = .ok (.invokestatic 79, 3) := dk_184 0 79 (dk_at dksX6_impulseOf_1 15 rfl rfl)
theorem dX6_impulseOf_42 : decode cX6_impulseOf 42 = .ok (.laload, 1) := dk_47 (dk_at dksX6_impulseOf_1 18 rfl rfl)
theorem dX6_impulseOf_43 : decode cX6_impulseOf 43 = .ok (.lmul, 1) := dk_105 (dk_at dksX6_impulseOf_1 19 rfl rfl)
theorem dX6_impulseOf_44 : decode cX6_impulseOf 44 = .ok (.aload_n 1, 1) := dk_43 (dk_at dksX6_impulseOf_1 20 rfl rfl)
theorem dX6_impulseOf_45 : decode cX6_impulseOf 45 = .ok (.iload 5, 2) := dk_21 5 (dk_at dksX6_impulseOf_1 21 rfl rfl)
theorem dX6_impulseOf_47 : decode cX6_impulseOf 47 = .ok (.iconst 1, 1) := dk_4 (dk_at dksX6_impulseOf_1 23 rfl rfl)
theorem dX6_impulseOf_48 : decode cX6_impulseOf 48 = .ok (.iload_n 3, 1) := dk_29 (dk_at dksX6_impulseOf_2 0 rfl rfl)
theorem dX6_impulseOf_49 : decode cX6_impulseOf 49 = .ok (.iadd, 1) := dk_96 (dk_at dksX6_impulseOf_2 1 rfl rfl)
theorem dX6_impulseOf_50 : decode cX6_impulseOf 50 = .ok (.invokestatic 79, 3) := dk_184 0 79 (dk_at dksX6_impulseOf_2 2 rfl rfl)
theorem dX6_impulseOf_53 : decode cX6_impulseOf 53 = .ok (.laload, 1) := dk_47 (dk_at dksX6_impulseOf_2 5 rfl rfl)
theorem dX6_impulseOf_54 : decode cX6_impulseOf 54 = .ok (.aload_n 1, 1) := dk_43 (dk_at dksX6_impulseOf_2 6 rfl rfl)
theorem dX6_impulseOf_55 : decode cX6_impulseOf 55 = .ok (.iload 4, 2) := dk_21 4 (dk_at dksX6_impulseOf_2 7 rfl rfl)
theorem dX6_impulseOf_57 : decode cX6_impulseOf 57 = .ok (.iconst 1, 1) := dk_4 (dk_at dksX6_impulseOf_2 9 rfl rfl)
theorem dX6_impulseOf_58 : decode cX6_impulseOf 58 = .ok (.iload_n 3, 1) := dk_29 (dk_at dksX6_impulseOf_2 10 rfl rfl)
theorem dX6_impulseOf_59 : decode cX6_impulseOf 59 = .ok (.iadd, 1) := dk_96 (dk_at dksX6_impulseOf_2 11 rfl rfl)
theorem dX6_impulseOf_60 : decode cX6_impulseOf 60 = .ok (.invokestatic 79, 3) := dk_184 0 79 (dk_at dksX6_impulseOf_2 12 rfl rfl)
theorem dX6_impulseOf_63 : decode cX6_impulseOf 63 = .ok (.laload, 1) := dk_47 (dk_at dksX6_impulseOf_2 15 rfl rfl)
theorem dX6_impulseOf_64 : decode cX6_impulseOf 64 = .ok (.lsub, 1) := dk_101 (dk_at dksX6_impulseOf_2 16 rfl rfl)
theorem dX6_impulseOf_65 : decode cX6_impulseOf 65 = .ok (.lmul, 1) := dk_105 (dk_at dksX6_impulseOf_2 17 rfl rfl)
theorem dX6_impulseOf_66 : decode cX6_impulseOf 66 = .ok (.lstore 8, 2) := dk_55 8 (dk_at dksX6_impulseOf_2 18 rfl rfl)
theorem dX6_impulseOf_68 : decode cX6_impulseOf 68 = .ok (.lload 8, 2) := dk_22 8 (dk_at dksX6_impulseOf_2 20 rfl rfl)
theorem dX6_impulseOf_70 : decode cX6_impulseOf 70 = .ok (.lload 6, 2) := dk_22 6 (dk_at dksX6_impulseOf_2 22 rfl rfl)
theorem dX6_impulseOf_72 : decode cX6_impulseOf 72 = .ok (.lload 6, 2) := dk_22 6 (dk_at dksX6_impulseOf_3 0 rfl rfl)
theorem dX6_impulseOf_74 : decode cX6_impulseOf 74 = .ok (.lmul, 1) := dk_105 (dk_at dksX6_impulseOf_3 2 rfl rfl)
theorem dX6_impulseOf_75 : decode cX6_impulseOf 75 = .ok (.lload 6, 2) := dk_22 6 (dk_at dksX6_impulseOf_3 3 rfl rfl)
theorem dX6_impulseOf_77 : decode cX6_impulseOf 77 = .ok (.lmul, 1) := dk_105 (dk_at dksX6_impulseOf_3 5 rfl rfl)
theorem dX6_impulseOf_78 : decode cX6_impulseOf 78 = .ok (.ldiv, 1) := dk_109 (dk_at dksX6_impulseOf_3 6 rfl rfl)
theorem dX6_impulseOf_79 : decode cX6_impulseOf 79 = .ok (.lreturn, 1) := dk_173 (dk_at dksX6_impulseOf_3 7 rfl rfl)
abbrev cX6_momentum : ByteArray := prog_25_method_61_code
def yX6_momentum : MethodName := ⟨RX6, "momentum", "(I)J"⟩
def dkwX6_momentum_2 : List UInt8 := [42, 180, 0, 7, 5, 6, 27, 96, 184, 0, 79, 47, 97, 173]
abbrev dktX6_momentum_2 : List UInt8 := dkwX6_momentum_2 ++ []
def dkwX6_momentum_1 : List UInt8 := [180, 0, 7, 3, 6, 27, 96, 184, 0, 79, 47, 42, 180, 0, 7, 4, 6, 27, 96, 184, 0, 79, 47, 97]
abbrev dktX6_momentum_1 : List UInt8 := dkwX6_momentum_1 ++ dktX6_momentum_2
def dkwX6_momentum_0 : List UInt8 := [42, 3, 181, 0, 88, 42, 27, 133, 9, 10, 184, 0, 183, 4, 182, 0, 236, 153, 0, 5, 9, 173, 42]
abbrev dktX6_momentum_0 : List UInt8 := dkwX6_momentum_0 ++ dktX6_momentum_1
theorem dksX6_momentum_0 : cX6_momentum.data.toList.drop 0 = dktX6_momentum_0 := by decide +kernel
theorem dksX6_momentum_1 : cX6_momentum.data.toList.drop 23 = dktX6_momentum_1 := dk_seg dksX6_momentum_0 23 rfl rfl
theorem dksX6_momentum_2 : cX6_momentum.data.toList.drop 47 = dktX6_momentum_2 := dk_seg dksX6_momentum_1 24 rfl rfl
theorem dX6_momentum_0 : decode cX6_momentum 0 = .ok (.aload_n 0, 1) := dk_42 (dk_at dksX6_momentum_0 0 rfl rfl)
theorem dX6_momentum_1 : decode cX6_momentum 1 = .ok (.iconst 0, 1) := dk_3 (dk_at dksX6_momentum_0 1 rfl rfl)
theorem dX6_momentum_2 : decode cX6_momentum 2 = .ok (.putfield 88, 3) := dk_181 0 88 (dk_at dksX6_momentum_0 2 rfl rfl)
theorem dX6_momentum_5 : decode cX6_momentum 5 = .ok (.aload_n 0, 1) := dk_42 (dk_at dksX6_momentum_0 5 rfl rfl)
theorem dX6_momentum_6 : decode cX6_momentum 6 = .ok (.iload_n 1, 1) := dk_27 (dk_at dksX6_momentum_0 6 rfl rfl)
theorem dX6_momentum_7 : decode cX6_momentum 7 = .ok (.i2l, 1) := dk_133 (dk_at dksX6_momentum_0 7 rfl rfl)
theorem dX6_momentum_8 : decode cX6_momentum 8 = .ok (.lconst 0, 1) := dk_9 (dk_at dksX6_momentum_0 8 rfl rfl)
theorem dX6_momentum_9 : decode cX6_momentum 9 = .ok (.lconst 1, 1) := dk_10 (dk_at dksX6_momentum_0 9 rfl rfl)
theorem dX6_momentum_10 : decode cX6_momentum 10 = .ok (.invokestatic 183, 3) := dk_184 0 183 (dk_at dksX6_momentum_0 10 rfl rfl)
theorem dX6_momentum_13 : decode cX6_momentum 13 = .ok (.iconst 1, 1) := dk_4 (dk_at dksX6_momentum_0 13 rfl rfl)
theorem dX6_momentum_14 : decode cX6_momentum 14 = .ok (.invokevirtual 236, 3) := dk_182 0 236 (dk_at dksX6_momentum_0 14 rfl rfl)
theorem dX6_momentum_17 : decode cX6_momentum 17 = .ok (.ifCond .eq 5, 3) := dk_153 0 5 (dk_at dksX6_momentum_0 17 rfl rfl)
theorem dX6_momentum_20 : decode cX6_momentum 20 = .ok (.lconst 0, 1) := dk_9 (dk_at dksX6_momentum_0 20 rfl rfl)
theorem dX6_momentum_21 : decode cX6_momentum 21 = .ok (.lreturn, 1) := dk_173 (dk_at dksX6_momentum_0 21 rfl rfl)
theorem dX6_momentum_22 : decode cX6_momentum 22 = .ok (.aload_n 0, 1) := dk_42 (dk_at dksX6_momentum_0 22 rfl rfl)
theorem dX6_momentum_23 : decode cX6_momentum 23 = .ok (.getfield 7, 3) := dk_180 0 7 (dk_at dksX6_momentum_1 0 rfl rfl)
theorem dX6_momentum_26 : decode cX6_momentum 26 = .ok (.iconst 0, 1) := dk_3 (dk_at dksX6_momentum_1 3 rfl rfl)
theorem dX6_momentum_27 : decode cX6_momentum 27 = .ok (.iconst 3, 1) := dk_6 (dk_at dksX6_momentum_1 4 rfl rfl)
theorem dX6_momentum_28 : decode cX6_momentum 28 = .ok (.iload_n 1, 1) := dk_27 (dk_at dksX6_momentum_1 5 rfl rfl)
theorem dX6_momentum_29 : decode cX6_momentum 29 = .ok (.iadd, 1) := dk_96 (dk_at dksX6_momentum_1 6 rfl rfl)
theorem dX6_momentum_30 : decode cX6_momentum 30 = .ok (.invokestatic 79, 3) := dk_184 0 79 (dk_at dksX6_momentum_1 7 rfl rfl)
theorem dX6_momentum_33 : decode cX6_momentum 33 = .ok (.laload, 1) := dk_47 (dk_at dksX6_momentum_1 10 rfl rfl)
theorem dX6_momentum_34 : decode cX6_momentum 34 = .ok (.aload_n 0, 1) := dk_42 (dk_at dksX6_momentum_1 11 rfl rfl)
theorem dX6_momentum_35 : decode cX6_momentum 35 = .ok (.getfield 7, 3) := dk_180 0 7 (dk_at dksX6_momentum_1 12 rfl rfl)
theorem dX6_momentum_38 : decode cX6_momentum 38 = .ok (.iconst 1, 1) := dk_4 (dk_at dksX6_momentum_1 15 rfl rfl)
theorem dX6_momentum_39 : decode cX6_momentum 39 = .ok (.iconst 3, 1) := dk_6 (dk_at dksX6_momentum_1 16 rfl rfl)
theorem dX6_momentum_40 : decode cX6_momentum 40 = .ok (.iload_n 1, 1) := dk_27 (dk_at dksX6_momentum_1 17 rfl rfl)
theorem dX6_momentum_41 : decode cX6_momentum 41 = .ok (.iadd, 1) := dk_96 (dk_at dksX6_momentum_1 18 rfl rfl)
theorem dX6_momentum_42 : decode cX6_momentum 42 = .ok (.invokestatic 79, 3) := dk_184 0 79 (dk_at dksX6_momentum_1 19 rfl rfl)
theorem dX6_momentum_45 : decode cX6_momentum 45 = .ok (.laload, 1) := dk_47 (dk_at dksX6_momentum_1 22 rfl rfl)
theorem dX6_momentum_46 : decode cX6_momentum 46 = .ok (.ladd, 1) := dk_97 (dk_at dksX6_momentum_1 23 rfl rfl)
theorem dX6_momentum_47 : decode cX6_momentum 47 = .ok (.aload_n 0, 1) := dk_42 (dk_at dksX6_momentum_2 0 rfl rfl)
theorem dX6_momentum_48 : decode cX6_momentum 48 = .ok (.getfield 7, 3) := dk_180 0 7 (dk_at dksX6_momentum_2 1 rfl rfl)
theorem dX6_momentum_51 : decode cX6_momentum 51 = .ok (.iconst 2, 1) := dk_5 (dk_at dksX6_momentum_2 4 rfl rfl)
theorem dX6_momentum_52 : decode cX6_momentum 52 = .ok (.iconst 3, 1) := dk_6 (dk_at dksX6_momentum_2 5 rfl rfl)
theorem dX6_momentum_53 : decode cX6_momentum 53 = .ok (.iload_n 1, 1) := dk_27 (dk_at dksX6_momentum_2 6 rfl rfl)
theorem dX6_momentum_54 : decode cX6_momentum 54 = .ok (.iadd, 1) := dk_96 (dk_at dksX6_momentum_2 7 rfl rfl)
theorem dX6_momentum_55 : decode cX6_momentum 55 = .ok (.invokestatic 79, 3) := dk_184 0 79 (dk_at dksX6_momentum_2 8 rfl rfl)
theorem dX6_momentum_58 : decode cX6_momentum 58 = .ok (.laload, 1) := dk_47 (dk_at dksX6_momentum_2 11 rfl rfl)
theorem dX6_momentum_59 : decode cX6_momentum 59 = .ok (.ladd, 1) := dk_97 (dk_at dksX6_momentum_2 12 rfl rfl)
theorem dX6_momentum_60 : decode cX6_momentum 60 = .ok (.lreturn, 1) := dk_173 (dk_at dksX6_momentum_2 13 rfl rfl)
abbrev cX6_angular : ByteArray := prog_25_method_62_code
def yX6_angular : MethodName := ⟨RX6, "angular", "()J"⟩
def dkwX6_angular_2 : List UInt8 := [180, 0, 7, 29, 6, 184, 0, 79, 47, 105, 101, 97, 64, 132, 3, 1, 167, 255, 202, 31, 173]
abbrev dktX6_angular_2 : List UInt8 := dkwX6_angular_2 ++ []
def dkwX6_angular_1 : List UInt8 := [47, 42, 180, 0, 7, 29, 7, 184, 0, 79, 47, 105, 42, 180, 0, 7, 29, 5, 184, 0, 79, 47, 42]
abbrev dktX6_angular_1 : List UInt8 := dkwX6_angular_1 ++ dktX6_angular_2
def dkwX6_angular_0 : List UInt8 := [42, 3, 181, 0, 88, 9, 64, 3, 62, 29, 6, 162, 0, 55, 31, 42, 180, 0, 7, 29, 4, 184, 0, 79]
abbrev dktX6_angular_0 : List UInt8 := dkwX6_angular_0 ++ dktX6_angular_1
theorem dksX6_angular_0 : cX6_angular.data.toList.drop 0 = dktX6_angular_0 := by decide +kernel
theorem dksX6_angular_1 : cX6_angular.data.toList.drop 24 = dktX6_angular_1 := dk_seg dksX6_angular_0 24 rfl rfl
theorem dksX6_angular_2 : cX6_angular.data.toList.drop 47 = dktX6_angular_2 := dk_seg dksX6_angular_1 23 rfl rfl
theorem dX6_angular_0 : decode cX6_angular 0 = .ok (.aload_n 0, 1) := dk_42 (dk_at dksX6_angular_0 0 rfl rfl)
theorem dX6_angular_1 : decode cX6_angular 1 = .ok (.iconst 0, 1) := dk_3 (dk_at dksX6_angular_0 1 rfl rfl)
theorem dX6_angular_2 : decode cX6_angular 2 = .ok (.putfield 88, 3) := dk_181 0 88 (dk_at dksX6_angular_0 2 rfl rfl)
theorem dX6_angular_5 : decode cX6_angular 5 = .ok (.lconst 0, 1) := dk_9 (dk_at dksX6_angular_0 5 rfl rfl)
theorem dX6_angular_6 : decode cX6_angular 6 = .ok (.lstore_n 1, 1) := dk_64 (dk_at dksX6_angular_0 6 rfl rfl)
theorem dX6_angular_7 : decode cX6_angular 7 = .ok (.iconst 0, 1) := dk_3 (dk_at dksX6_angular_0 7 rfl rfl)
theorem dX6_angular_8 : decode cX6_angular 8 = .ok (.istore_n 3, 1) := dk_62 (dk_at dksX6_angular_0 8 rfl rfl)
theorem dX6_angular_9 : decode cX6_angular 9 = .ok (.iload_n 3, 1) := dk_29 (dk_at dksX6_angular_0 9 rfl rfl)
theorem dX6_angular_10 : decode cX6_angular 10 = .ok (.iconst 3, 1) := dk_6 (dk_at dksX6_angular_0 10 rfl rfl)
theorem dX6_angular_11 : decode cX6_angular 11 = .ok (.if_icmp .ge 55, 3) := dk_162 0 55 (dk_at dksX6_angular_0 11 rfl rfl)
theorem dX6_angular_14 : decode cX6_angular 14 = .ok (.lload_n 1, 1) := dk_31 (dk_at dksX6_angular_0 14 rfl rfl)
theorem dX6_angular_15 : decode cX6_angular 15 = .ok (.aload_n 0, 1) := dk_42 (dk_at dksX6_angular_0 15 rfl rfl)
theorem dX6_angular_16 : decode cX6_angular 16 = .ok (.getfield 7, 3) := dk_180 0 7 (dk_at dksX6_angular_0 16 rfl rfl)
theorem dX6_angular_19 : decode cX6_angular 19 = .ok (.iload_n 3, 1) := dk_29 (dk_at dksX6_angular_0 19 rfl rfl)
theorem dX6_angular_20 : decode cX6_angular 20 = .ok (.iconst 1, 1) := dk_4 (dk_at dksX6_angular_0 20 rfl rfl)
theorem dX6_angular_21 : decode cX6_angular 21 = .ok (.invokestatic 79, 3) := dk_184 0 79 (dk_at dksX6_angular_0 21 rfl rfl)
theorem dX6_angular_24 : decode cX6_angular 24 = .ok (.laload, 1) := dk_47 (dk_at dksX6_angular_1 0 rfl rfl)
theorem dX6_angular_25 : decode cX6_angular 25 = .ok (.aload_n 0, 1) := dk_42 (dk_at dksX6_angular_1 1 rfl rfl)
theorem dX6_angular_26 : decode cX6_angular 26 = .ok (.getfield 7, 3) := dk_180 0 7 (dk_at dksX6_angular_1 2 rfl rfl)
theorem dX6_angular_29 : decode cX6_angular 29 = .ok (.iload_n 3, 1) := dk_29 (dk_at dksX6_angular_1 5 rfl rfl)
theorem dX6_angular_30 : decode cX6_angular 30 = .ok (.iconst 4, 1) := dk_7 (dk_at dksX6_angular_1 6 rfl rfl)
theorem dX6_angular_31 : decode cX6_angular 31 = .ok (.invokestatic 79, 3) := dk_184 0 79 (dk_at dksX6_angular_1 7 rfl rfl)
theorem dX6_angular_34 : decode cX6_angular 34 = .ok (.laload, 1) := dk_47 (dk_at dksX6_angular_1 10 rfl rfl)
theorem dX6_angular_35 : decode cX6_angular 35 = .ok (.lmul, 1) := dk_105 (dk_at dksX6_angular_1 11 rfl rfl)
theorem dX6_angular_36 : decode cX6_angular 36 = .ok (.aload_n 0, 1) := dk_42 (dk_at dksX6_angular_1 12 rfl rfl)
theorem dX6_angular_37 : decode cX6_angular 37 = .ok (.getfield 7, 3) := dk_180 0 7 (dk_at dksX6_angular_1 13 rfl rfl)
theorem dX6_angular_40 : decode cX6_angular 40 = .ok (.iload_n 3, 1) := dk_29 (dk_at dksX6_angular_1 16 rfl rfl)
theorem dX6_angular_41 : decode cX6_angular 41 = .ok (.iconst 2, 1) := dk_5 (dk_at dksX6_angular_1 17 rfl rfl)
theorem dX6_angular_42 : decode cX6_angular 42 = .ok (.invokestatic 79, 3) := dk_184 0 79 (dk_at dksX6_angular_1 18 rfl rfl)
theorem dX6_angular_45 : decode cX6_angular 45 = .ok (.laload, 1) := dk_47 (dk_at dksX6_angular_1 21 rfl rfl)
theorem dX6_angular_46 : decode cX6_angular 46 = .ok (.aload_n 0, 1) := dk_42 (dk_at dksX6_angular_1 22 rfl rfl)
theorem dX6_angular_47 : decode cX6_angular 47 = .ok (.getfield 7, 3) := dk_180 0 7 (dk_at dksX6_angular_2 0 rfl rfl)
theorem dX6_angular_50 : decode cX6_angular 50 = .ok (.iload_n 3, 1) := dk_29 (dk_at dksX6_angular_2 3 rfl rfl)
theorem dX6_angular_51 : decode cX6_angular 51 = .ok (.iconst 3, 1) := dk_6 (dk_at dksX6_angular_2 4 rfl rfl)
theorem dX6_angular_52 : decode cX6_angular 52 = .ok (.invokestatic 79, 3) := dk_184 0 79 (dk_at dksX6_angular_2 5 rfl rfl)
theorem dX6_angular_55 : decode cX6_angular 55 = .ok (.laload, 1) := dk_47 (dk_at dksX6_angular_2 8 rfl rfl)
theorem dX6_angular_56 : decode cX6_angular 56 = .ok (.lmul, 1) := dk_105 (dk_at dksX6_angular_2 9 rfl rfl)
theorem dX6_angular_57 : decode cX6_angular 57 = .ok (.lsub, 1) := dk_101 (dk_at dksX6_angular_2 10 rfl rfl)
theorem dX6_angular_58 : decode cX6_angular 58 = .ok (.ladd, 1) := dk_97 (dk_at dksX6_angular_2 11 rfl rfl)
theorem dX6_angular_59 : decode cX6_angular 59 = .ok (.lstore_n 1, 1) := dk_64 (dk_at dksX6_angular_2 12 rfl rfl)
theorem dX6_angular_60 : decode cX6_angular 60 = .ok (.iinc 3 1, 3) := dk_132 3 1 (dk_at dksX6_angular_2 13 rfl rfl)
theorem dX6_angular_63 : decode cX6_angular 63 = .ok (.goto (-54), 3) := dk_167 255 202 (dk_at dksX6_angular_2 16 rfl rfl)
theorem dX6_angular_66 : decode cX6_angular 66 = .ok (.lload_n 1, 1) := dk_31 (dk_at dksX6_angular_2 19 rfl rfl)
theorem dX6_angular_67 : decode cX6_angular 67 = .ok (.lreturn, 1) := dk_173 (dk_at dksX6_angular_2 20 rfl rfl)
abbrev cX6_kinetic : ByteArray := prog_25_method_63_code
def yX6_kinetic : MethodName := ⟨RX6, "kinetic", "()J"⟩
def dkwX6_kinetic_0 : List UInt8 := [42, 3, 181, 0, 88, 42, 180, 0, 7, 184, 1, 12, 173]
abbrev dktX6_kinetic_0 : List UInt8 := dkwX6_kinetic_0 ++ []
theorem dksX6_kinetic_0 : cX6_kinetic.data.toList.drop 0 = dktX6_kinetic_0 := by decide +kernel
theorem dX6_kinetic_0 : decode cX6_kinetic 0 = .ok (.aload_n 0, 1) := dk_42 (dk_at dksX6_kinetic_0 0 rfl rfl)
theorem dX6_kinetic_1 : decode cX6_kinetic 1 = .ok (.iconst 0, 1) := dk_3 (dk_at dksX6_kinetic_0 1 rfl rfl)
theorem dX6_kinetic_2 : decode cX6_kinetic 2 = .ok (.putfield 88, 3) := dk_181 0 88 (dk_at dksX6_kinetic_0 2 rfl rfl)
theorem dX6_kinetic_5 : decode cX6_kinetic 5 = .ok (.aload_n 0, 1) := dk_42 (dk_at dksX6_kinetic_0 5 rfl rfl)
theorem dX6_kinetic_6 : decode cX6_kinetic 6 = .ok (.getfield 7, 3) := dk_180 0 7 (dk_at dksX6_kinetic_0 6 rfl rfl)
theorem dX6_kinetic_9 : decode cX6_kinetic 9 = .ok (.invokestatic 268, 3) := dk_184 1 12 (dk_at dksX6_kinetic_0 9 rfl rfl)
theorem dX6_kinetic_12 : decode cX6_kinetic 12 = .ok (.lreturn, 1) := dk_173 (dk_at dksX6_kinetic_0 12 rfl rfl)
abbrev cX6_potential : ByteArray := prog_25_method_64_code
def yX6_potential : MethodName := ⟨RX6, "potential", "()J"⟩
def dkwX6_potential_0 : List UInt8 := [42, 3, 181, 0, 88, 42, 42, 180, 0, 7, 182, 1, 15, 173]
abbrev dktX6_potential_0 : List UInt8 := dkwX6_potential_0 ++ []
theorem dksX6_potential_0 : cX6_potential.data.toList.drop 0 = dktX6_potential_0 := by decide +kernel
theorem dX6_potential_0 : decode cX6_potential 0 = .ok (.aload_n 0, 1) := dk_42 (dk_at dksX6_potential_0 0 rfl rfl)
theorem dX6_potential_1 : decode cX6_potential 1 = .ok (.iconst 0, 1) := dk_3 (dk_at dksX6_potential_0 1 rfl rfl)
theorem dX6_potential_2 : decode cX6_potential 2 = .ok (.putfield 88, 3) := dk_181 0 88 (dk_at dksX6_potential_0 2 rfl rfl)
theorem dX6_potential_5 : decode cX6_potential 5 = .ok (.aload_n 0, 1) := dk_42 (dk_at dksX6_potential_0 5 rfl rfl)
theorem dX6_potential_6 : decode cX6_potential 6 = .ok (.aload_n 0, 1) := dk_42 (dk_at dksX6_potential_0 6 rfl rfl)
theorem dX6_potential_7 : decode cX6_potential 7 = .ok (.getfield 7, 3) := dk_180 0 7 (dk_at dksX6_potential_0 7 rfl rfl)
theorem dX6_potential_10 : decode cX6_potential 10 = .ok (.invokevirtual 271, 3) := dk_182 1 15 (dk_at dksX6_potential_0 10 rfl rfl)
theorem dX6_potential_13 : decode cX6_potential 13 = .ok (.lreturn, 1) := dk_173 (dk_at dksX6_potential_0 13 rfl rfl)
abbrev cX6_band : ByteArray := prog_25_method_65_code
def yX6_band : MethodName := ⟨RX6, "band", "()J"⟩
def dkwX6_band_0 : List UInt8 := [42, 3, 181, 0, 88, 42, 42, 180, 0, 7, 182, 1, 59, 173]
abbrev dktX6_band_0 : List UInt8 := dkwX6_band_0 ++ []
theorem dksX6_band_0 : cX6_band.data.toList.drop 0 = dktX6_band_0 := by decide +kernel
theorem dX6_band_0 : decode cX6_band 0 = .ok (.aload_n 0, 1) := dk_42 (dk_at dksX6_band_0 0 rfl rfl)
theorem dX6_band_1 : decode cX6_band 1 = .ok (.iconst 0, 1) := dk_3 (dk_at dksX6_band_0 1 rfl rfl)
theorem dX6_band_2 : decode cX6_band 2 = .ok (.putfield 88, 3) := dk_181 0 88 (dk_at dksX6_band_0 2 rfl rfl)
theorem dX6_band_5 : decode cX6_band 5 = .ok (.aload_n 0, 1) := dk_42 (dk_at dksX6_band_0 5 rfl rfl)
theorem dX6_band_6 : decode cX6_band 6 = .ok (.aload_n 0, 1) := dk_42 (dk_at dksX6_band_0 6 rfl rfl)
theorem dX6_band_7 : decode cX6_band 7 = .ok (.getfield 7, 3) := dk_180 0 7 (dk_at dksX6_band_0 7 rfl rfl)
theorem dX6_band_10 : decode cX6_band 10 = .ok (.invokevirtual 315, 3) := dk_182 1 59 (dk_at dksX6_band_0 10 rfl rfl)
theorem dX6_band_13 : decode cX6_band 13 = .ok (.lreturn, 1) := dk_173 (dk_at dksX6_band_0 13 rfl rfl)
abbrev cX6_bandOf : ByteArray := prog_25_method_45_code
def yX6_bandOf : MethodName := ⟨RX6, "bandOf", "([J)J"⟩
def dkwX6_bandOf_0 : List UInt8 := [42, 43, 182, 0, 99, 42, 180, 0, 28, 7, 47, 184, 1, 18, 173]
abbrev dktX6_bandOf_0 : List UInt8 := dkwX6_bandOf_0 ++ []
theorem dksX6_bandOf_0 : cX6_bandOf.data.toList.drop 0 = dktX6_bandOf_0 := by decide +kernel
theorem dX6_bandOf_0 : decode cX6_bandOf 0 = .ok (.aload_n 0, 1) := dk_42 (dk_at dksX6_bandOf_0 0 rfl rfl)
theorem dX6_bandOf_1 : decode cX6_bandOf 1 = .ok (.aload_n 1, 1) := dk_43 (dk_at dksX6_bandOf_0 1 rfl rfl)
theorem dX6_bandOf_2 : decode cX6_bandOf 2 = .ok (.invokevirtual 99, 3) := dk_182 0 99 (dk_at dksX6_bandOf_0 2 rfl rfl)
theorem dX6_bandOf_5 : decode cX6_bandOf 5 = .ok (.aload_n 0, 1) := dk_42 (dk_at dksX6_bandOf_0 5 rfl rfl)
theorem dX6_bandOf_6 : decode cX6_bandOf 6 = .ok (.getfield 28, 3) := dk_180 0 28 (dk_at dksX6_bandOf_0 6 rfl rfl)
theorem dX6_bandOf_9 : decode cX6_bandOf 9 = .ok (.iconst 4, 1) := dk_7 (dk_at dksX6_bandOf_0 9 rfl rfl)
theorem dX6_bandOf_10 : decode cX6_bandOf 10 = .ok (.laload, 1) := dk_47 (dk_at dksX6_bandOf_0 10 rfl rfl)
theorem dX6_bandOf_11 : decode cX6_bandOf 11 = .ok (.invokestatic 274, 3) := dk_184 1 18 (dk_at dksX6_bandOf_0 11 rfl rfl)
theorem dX6_bandOf_14 : decode cX6_bandOf 14 = .ok (.lreturn, 1) := dk_173 (dk_at dksX6_bandOf_0 14 rfl rfl)
abbrev cX6_floored : ByteArray := prog_25_method_6_code
def yX6_floored : MethodName := ⟨RX6, "floored", "(JJ)J"⟩
def dkwX6_floored_0 : List UInt8 := [30, 32, 109, 55, 4, 30, 32, 113, 9, 148, 156, 0, 10, 22, 4, 10, 101, 167, 0, 5, 22, 4, 173]
abbrev dktX6_floored_0 : List UInt8 := dkwX6_floored_0 ++ []
theorem dksX6_floored_0 : cX6_floored.data.toList.drop 0 = dktX6_floored_0 := by decide +kernel
theorem dX6_floored_0 : decode cX6_floored 0 = .ok (.lload_n 0, 1) := dk_30 (dk_at dksX6_floored_0 0 rfl rfl)
theorem dX6_floored_1 : decode cX6_floored 1 = .ok (.lload_n 2, 1) := dk_32 (dk_at dksX6_floored_0 1 rfl rfl)
theorem dX6_floored_2 : decode cX6_floored 2 = .ok (.ldiv, 1) := dk_109 (dk_at dksX6_floored_0 2 rfl rfl)
theorem dX6_floored_3 : decode cX6_floored 3 = .ok (.lstore 4, 2) := dk_55 4 (dk_at dksX6_floored_0 3 rfl rfl)
theorem dX6_floored_5 : decode cX6_floored 5 = .ok (.lload_n 0, 1) := dk_30 (dk_at dksX6_floored_0 5 rfl rfl)
theorem dX6_floored_6 : decode cX6_floored 6 = .ok (.lload_n 2, 1) := dk_32 (dk_at dksX6_floored_0 6 rfl rfl)
theorem dX6_floored_7 : decode cX6_floored 7 = .ok (.lrem, 1) := dk_113 (dk_at dksX6_floored_0 7 rfl rfl)
theorem dX6_floored_8 : decode cX6_floored 8 = .ok (.lconst 0, 1) := dk_9 (dk_at dksX6_floored_0 8 rfl rfl)
theorem dX6_floored_9 : decode cX6_floored 9 = .ok (.lcmp, 1) := dk_148 (dk_at dksX6_floored_0 9 rfl rfl)
theorem dX6_floored_10 : decode cX6_floored 10 = .ok (.ifCond .ge 10, 3) := dk_156 0 10 (dk_at dksX6_floored_0 10 rfl rfl)
theorem dX6_floored_13 : decode cX6_floored 13 = .ok (.lload 4, 2) := dk_22 4 (dk_at dksX6_floored_0 13 rfl rfl)
theorem dX6_floored_15 : decode cX6_floored 15 = .ok (.lconst 1, 1) := dk_10 (dk_at dksX6_floored_0 15 rfl rfl)
theorem dX6_floored_16 : decode cX6_floored 16 = .ok (.lsub, 1) := dk_101 (dk_at dksX6_floored_0 16 rfl rfl)
theorem dX6_floored_17 : decode cX6_floored 17 = .ok (.goto 5, 3) := dk_167 0 5 (dk_at dksX6_floored_0 17 rfl rfl)
theorem dX6_floored_20 : decode cX6_floored 20 = .ok (.lload 4, 2) := dk_22 4 (dk_at dksX6_floored_0 20 rfl rfl)
theorem dX6_floored_22 : decode cX6_floored 22 = .ok (.lreturn, 1) := dk_173 (dk_at dksX6_floored_0 22 rfl rfl)
abbrev cX6_seen : ByteArray := prog_25_method_66_code
def yX6_seen : MethodName := ⟨RX6, "seen", "(Z)J"⟩
def dkwX6_seen_0 : List UInt8 := [42, 3, 181, 0, 88, 42, 180, 0, 7, 27, 153, 0, 7, 6, 167, 0, 4, 7, 47, 173]
abbrev dktX6_seen_0 : List UInt8 := dkwX6_seen_0 ++ []
theorem dksX6_seen_0 : cX6_seen.data.toList.drop 0 = dktX6_seen_0 := by decide +kernel
theorem dX6_seen_0 : decode cX6_seen 0 = .ok (.aload_n 0, 1) := dk_42 (dk_at dksX6_seen_0 0 rfl rfl)
theorem dX6_seen_1 : decode cX6_seen 1 = .ok (.iconst 0, 1) := dk_3 (dk_at dksX6_seen_0 1 rfl rfl)
theorem dX6_seen_2 : decode cX6_seen 2 = .ok (.putfield 88, 3) := dk_181 0 88 (dk_at dksX6_seen_0 2 rfl rfl)
theorem dX6_seen_5 : decode cX6_seen 5 = .ok (.aload_n 0, 1) := dk_42 (dk_at dksX6_seen_0 5 rfl rfl)
theorem dX6_seen_6 : decode cX6_seen 6 = .ok (.getfield 7, 3) := dk_180 0 7 (dk_at dksX6_seen_0 6 rfl rfl)
theorem dX6_seen_9 : decode cX6_seen 9 = .ok (.iload_n 1, 1) := dk_27 (dk_at dksX6_seen_0 9 rfl rfl)
theorem dX6_seen_10 : decode cX6_seen 10 = .ok (.ifCond .eq 7, 3) := dk_153 0 7 (dk_at dksX6_seen_0 10 rfl rfl)
theorem dX6_seen_13 : decode cX6_seen 13 = .ok (.iconst 3, 1) := dk_6 (dk_at dksX6_seen_0 13 rfl rfl)
theorem dX6_seen_14 : decode cX6_seen 14 = .ok (.goto 4, 3) := dk_167 0 4 (dk_at dksX6_seen_0 14 rfl rfl)
theorem dX6_seen_17 : decode cX6_seen 17 = .ok (.iconst 4, 1) := dk_7 (dk_at dksX6_seen_0 17 rfl rfl)
theorem dX6_seen_18 : decode cX6_seen 18 = .ok (.laload, 1) := dk_47 (dk_at dksX6_seen_0 18 rfl rfl)
theorem dX6_seen_19 : decode cX6_seen 19 = .ok (.lreturn, 1) := dk_173 (dk_at dksX6_seen_0 19 rfl rfl)
abbrev cX6_crossings : ByteArray := prog_25_method_67_code
def yX6_crossings : MethodName := ⟨RX6, "crossings", "()I"⟩
def dkwX6_crossings_0 : List UInt8 := [42, 3, 181, 0, 88, 42, 180, 0, 7, 5, 47, 136, 172]
abbrev dktX6_crossings_0 : List UInt8 := dkwX6_crossings_0 ++ []
theorem dksX6_crossings_0 : cX6_crossings.data.toList.drop 0 = dktX6_crossings_0 := by decide +kernel
theorem dX6_crossings_0 : decode cX6_crossings 0 = .ok (.aload_n 0, 1) := dk_42 (dk_at dksX6_crossings_0 0 rfl rfl)
theorem dX6_crossings_1 : decode cX6_crossings 1 = .ok (.iconst 0, 1) := dk_3 (dk_at dksX6_crossings_0 1 rfl rfl)
theorem dX6_crossings_2 : decode cX6_crossings 2 = .ok (.putfield 88, 3) := dk_181 0 88 (dk_at dksX6_crossings_0 2 rfl rfl)
theorem dX6_crossings_5 : decode cX6_crossings 5 = .ok (.aload_n 0, 1) := dk_42 (dk_at dksX6_crossings_0 5 rfl rfl)
theorem dX6_crossings_6 : decode cX6_crossings 6 = .ok (.getfield 7, 3) := dk_180 0 7 (dk_at dksX6_crossings_0 6 rfl rfl)
theorem dX6_crossings_9 : decode cX6_crossings 9 = .ok (.iconst 2, 1) := dk_5 (dk_at dksX6_crossings_0 9 rfl rfl)
theorem dX6_crossings_10 : decode cX6_crossings 10 = .ok (.laload, 1) := dk_47 (dk_at dksX6_crossings_0 10 rfl rfl)
theorem dX6_crossings_11 : decode cX6_crossings 11 = .ok (.l2i, 1) := dk_136 (dk_at dksX6_crossings_0 11 rfl rfl)
theorem dX6_crossings_12 : decode cX6_crossings 12 = .ok (.ireturn, 1) := dk_172 (dk_at dksX6_crossings_0 12 rfl rfl)
abbrev cX6_approachCount : ByteArray := prog_25_method_68_code
def yX6_approachCount : MethodName := ⟨RX6, "approachCount", "()I"⟩
def dkwX6_approachCount_0 : List UInt8 := [42, 3, 181, 0, 88, 42, 180, 0, 7, 8, 47, 136, 172]
abbrev dktX6_approachCount_0 : List UInt8 := dkwX6_approachCount_0 ++ []
theorem dksX6_approachCount_0 : cX6_approachCount.data.toList.drop 0 = dktX6_approachCount_0 := by decide +kernel
theorem dX6_approachCount_0 : decode cX6_approachCount 0 = .ok (.aload_n 0, 1) := dk_42 (dk_at dksX6_approachCount_0 0 rfl rfl)
theorem dX6_approachCount_1 : decode cX6_approachCount 1 = .ok (.iconst 0, 1) := dk_3 (dk_at dksX6_approachCount_0 1 rfl rfl)
theorem dX6_approachCount_2 : decode cX6_approachCount 2 = .ok (.putfield 88, 3) := dk_181 0 88 (dk_at dksX6_approachCount_0 2 rfl rfl)
theorem dX6_approachCount_5 : decode cX6_approachCount 5 = .ok (.aload_n 0, 1) := dk_42 (dk_at dksX6_approachCount_0 5 rfl rfl)
theorem dX6_approachCount_6 : decode cX6_approachCount 6 = .ok (.getfield 7, 3) := dk_180 0 7 (dk_at dksX6_approachCount_0 6 rfl rfl)
theorem dX6_approachCount_9 : decode cX6_approachCount 9 = .ok (.iconst 5, 1) := dk_8 (dk_at dksX6_approachCount_0 9 rfl rfl)
theorem dX6_approachCount_10 : decode cX6_approachCount 10 = .ok (.laload, 1) := dk_47 (dk_at dksX6_approachCount_0 10 rfl rfl)
theorem dX6_approachCount_11 : decode cX6_approachCount 11 = .ok (.l2i, 1) := dk_136 (dk_at dksX6_approachCount_0 11 rfl rfl)
theorem dX6_approachCount_12 : decode cX6_approachCount 12 = .ok (.ireturn, 1) := dk_172 (dk_at dksX6_approachCount_0 12 rfl rfl)
abbrev cX6_approach : ByteArray := prog_25_method_69_code
def yX6_approach : MethodName := ⟨RX6, "approach", "(II)I"⟩
def dkwX6_approach_2 : List UInt8 := [172, 42, 180, 0, 7, 16, 21, 6, 27, 104, 96, 28, 96, 47, 136, 172]
abbrev dktX6_approach_2 : List UInt8 := dkwX6_approach_2 ++ []
def dkwX6_approach_1 : List UInt8 := [133, 9, 20, 0, 203, 184, 0, 183, 153, 0, 7, 4, 167, 0, 4, 3, 4, 182, 0, 236, 153, 0, 5, 3]
abbrev dktX6_approach_1 : List UInt8 := dkwX6_approach_1 ++ dktX6_approach_2
def dkwX6_approach_0 : List UInt8 := [42, 3, 181, 0, 88, 42, 27, 133, 9, 42, 180, 0, 7, 8, 47, 10, 101, 184, 0, 183, 153, 0, 19, 28]
abbrev dktX6_approach_0 : List UInt8 := dkwX6_approach_0 ++ dktX6_approach_1
theorem dksX6_approach_0 : cX6_approach.data.toList.drop 0 = dktX6_approach_0 := by decide +kernel
theorem dksX6_approach_1 : cX6_approach.data.toList.drop 24 = dktX6_approach_1 := dk_seg dksX6_approach_0 24 rfl rfl
theorem dksX6_approach_2 : cX6_approach.data.toList.drop 48 = dktX6_approach_2 := dk_seg dksX6_approach_1 24 rfl rfl
theorem dX6_approach_0 : decode cX6_approach 0 = .ok (.aload_n 0, 1) := dk_42 (dk_at dksX6_approach_0 0 rfl rfl)
theorem dX6_approach_1 : decode cX6_approach 1 = .ok (.iconst 0, 1) := dk_3 (dk_at dksX6_approach_0 1 rfl rfl)
theorem dX6_approach_2 : decode cX6_approach 2 = .ok (.putfield 88, 3) := dk_181 0 88 (dk_at dksX6_approach_0 2 rfl rfl)
theorem dX6_approach_5 : decode cX6_approach 5 = .ok (.aload_n 0, 1) := dk_42 (dk_at dksX6_approach_0 5 rfl rfl)
theorem dX6_approach_6 : decode cX6_approach 6 = .ok (.iload_n 1, 1) := dk_27 (dk_at dksX6_approach_0 6 rfl rfl)
theorem dX6_approach_7 : decode cX6_approach 7 = .ok (.i2l, 1) := dk_133 (dk_at dksX6_approach_0 7 rfl rfl)
theorem dX6_approach_8 : decode cX6_approach 8 = .ok (.lconst 0, 1) := dk_9 (dk_at dksX6_approach_0 8 rfl rfl)
theorem dX6_approach_9 : decode cX6_approach 9 = .ok (.aload_n 0, 1) := dk_42 (dk_at dksX6_approach_0 9 rfl rfl)
theorem dX6_approach_10 : decode cX6_approach 10 = .ok (.getfield 7, 3) := dk_180 0 7 (dk_at dksX6_approach_0 10 rfl rfl)
theorem dX6_approach_13 : decode cX6_approach 13 = .ok (.iconst 5, 1) := dk_8 (dk_at dksX6_approach_0 13 rfl rfl)
theorem dX6_approach_14 : decode cX6_approach 14 = .ok (.laload, 1) := dk_47 (dk_at dksX6_approach_0 14 rfl rfl)
theorem dX6_approach_15 : decode cX6_approach 15 = .ok (.lconst 1, 1) := dk_10 (dk_at dksX6_approach_0 15 rfl rfl)
theorem dX6_approach_16 : decode cX6_approach 16 = .ok (.lsub, 1) := dk_101 (dk_at dksX6_approach_0 16 rfl rfl)
theorem dX6_approach_17 : decode cX6_approach 17 = .ok (.invokestatic 183, 3) := dk_184 0 183 (dk_at dksX6_approach_0 17 rfl rfl)
theorem dX6_approach_20 : decode cX6_approach 20 = .ok (.ifCond .eq 19, 3) := dk_153 0 19 (dk_at dksX6_approach_0 20 rfl rfl)
theorem dX6_approach_23 : decode cX6_approach 23 = .ok (.iload_n 2, 1) := dk_28 (dk_at dksX6_approach_0 23 rfl rfl)
theorem dX6_approach_24 : decode cX6_approach 24 = .ok (.i2l, 1) := dk_133 (dk_at dksX6_approach_1 0 rfl rfl)
theorem dX6_approach_25 : decode cX6_approach 25 = .ok (.lconst 0, 1) := dk_9 (dk_at dksX6_approach_1 1 rfl rfl)
theorem dX6_approach_26 : decode cX6_approach 26 = .ok (.ldc2_w 203, 3) := dk_20 0 203 (dk_at dksX6_approach_1 2 rfl rfl)
theorem dX6_approach_29 : decode cX6_approach 29 = .ok (.invokestatic 183, 3) := dk_184 0 183 (dk_at dksX6_approach_1 5 rfl rfl)
theorem dX6_approach_32 : decode cX6_approach 32 = .ok (.ifCond .eq 7, 3) := dk_153 0 7 (dk_at dksX6_approach_1 8 rfl rfl)
theorem dX6_approach_35 : decode cX6_approach 35 = .ok (.iconst 1, 1) := dk_4 (dk_at dksX6_approach_1 11 rfl rfl)
theorem dX6_approach_36 : decode cX6_approach 36 = .ok (.goto 4, 3) := dk_167 0 4 (dk_at dksX6_approach_1 12 rfl rfl)
theorem dX6_approach_39 : decode cX6_approach 39 = .ok (.iconst 0, 1) := dk_3 (dk_at dksX6_approach_1 15 rfl rfl)
theorem dX6_approach_40 : decode cX6_approach 40 = .ok (.iconst 1, 1) := dk_4 (dk_at dksX6_approach_1 16 rfl rfl)
theorem dX6_approach_41 : decode cX6_approach 41 = .ok (.invokevirtual 236, 3) := dk_182 0 236 (dk_at dksX6_approach_1 17 rfl rfl)
theorem dX6_approach_44 : decode cX6_approach 44 = .ok (.ifCond .eq 5, 3) := dk_153 0 5 (dk_at dksX6_approach_1 20 rfl rfl)
theorem dX6_approach_47 : decode cX6_approach 47 = .ok (.iconst 0, 1) := dk_3 (dk_at dksX6_approach_1 23 rfl rfl)
theorem dX6_approach_48 : decode cX6_approach 48 = .ok (.ireturn, 1) := dk_172 (dk_at dksX6_approach_2 0 rfl rfl)
theorem dX6_approach_49 : decode cX6_approach 49 = .ok (.aload_n 0, 1) := dk_42 (dk_at dksX6_approach_2 1 rfl rfl)
theorem dX6_approach_50 : decode cX6_approach 50 = .ok (.getfield 7, 3) := dk_180 0 7 (dk_at dksX6_approach_2 2 rfl rfl)
theorem dX6_approach_53 : decode cX6_approach 53 = .ok (.bipush 21, 2) := dk_16 21 (dk_at dksX6_approach_2 5 rfl rfl)
theorem dX6_approach_55 : decode cX6_approach 55 = .ok (.iconst 3, 1) := dk_6 (dk_at dksX6_approach_2 7 rfl rfl)
theorem dX6_approach_56 : decode cX6_approach 56 = .ok (.iload_n 1, 1) := dk_27 (dk_at dksX6_approach_2 8 rfl rfl)
theorem dX6_approach_57 : decode cX6_approach 57 = .ok (.imul, 1) := dk_104 (dk_at dksX6_approach_2 9 rfl rfl)
theorem dX6_approach_58 : decode cX6_approach 58 = .ok (.iadd, 1) := dk_96 (dk_at dksX6_approach_2 10 rfl rfl)
theorem dX6_approach_59 : decode cX6_approach 59 = .ok (.iload_n 2, 1) := dk_28 (dk_at dksX6_approach_2 11 rfl rfl)
theorem dX6_approach_60 : decode cX6_approach 60 = .ok (.iadd, 1) := dk_96 (dk_at dksX6_approach_2 12 rfl rfl)
theorem dX6_approach_61 : decode cX6_approach 61 = .ok (.laload, 1) := dk_47 (dk_at dksX6_approach_2 13 rfl rfl)
theorem dX6_approach_62 : decode cX6_approach 62 = .ok (.l2i, 1) := dk_136 (dk_at dksX6_approach_2 14 rfl rfl)
theorem dX6_approach_63 : decode cX6_approach 63 = .ok (.ireturn, 1) := dk_172 (dk_at dksX6_approach_2 15 rfl rfl)
abbrev cX6_run : ByteArray := prog_25_method_72_code
def yX6_run : MethodName := ⟨RX6, "run", "(I)I"⟩
def dkwX6_run_2 : List UInt8 := [182, 1, 81, 153, 0, 9, 132, 2, 1, 167, 255, 241, 28, 172]
abbrev dktX6_run_2 : List UInt8 := dkwX6_run_2 ++ []
def dkwX6_run_1 : List UInt8 := [42, 182, 1, 76, 42, 180, 0, 110, 154, 0, 7, 42, 182, 1, 56, 3, 61, 28, 27, 162, 0, 16, 42]
abbrev dktX6_run_1 : List UInt8 := dkwX6_run_1 ++ dktX6_run_2
def dkwX6_run_0 : List UInt8 := [42, 3, 181, 0, 88, 42, 27, 133, 9, 20, 1, 79, 184, 0, 183, 4, 182, 0, 236, 153, 0, 5, 3, 172]
abbrev dktX6_run_0 : List UInt8 := dkwX6_run_0 ++ dktX6_run_1
theorem dksX6_run_0 : cX6_run.data.toList.drop 0 = dktX6_run_0 := by decide +kernel
theorem dksX6_run_1 : cX6_run.data.toList.drop 24 = dktX6_run_1 := dk_seg dksX6_run_0 24 rfl rfl
theorem dksX6_run_2 : cX6_run.data.toList.drop 47 = dktX6_run_2 := dk_seg dksX6_run_1 23 rfl rfl
theorem dX6_run_0 : decode cX6_run 0 = .ok (.aload_n 0, 1) := dk_42 (dk_at dksX6_run_0 0 rfl rfl)
theorem dX6_run_1 : decode cX6_run 1 = .ok (.iconst 0, 1) := dk_3 (dk_at dksX6_run_0 1 rfl rfl)
theorem dX6_run_2 : decode cX6_run 2 = .ok (.putfield 88, 3) := dk_181 0 88 (dk_at dksX6_run_0 2 rfl rfl)
theorem dX6_run_5 : decode cX6_run 5 = .ok (.aload_n 0, 1) := dk_42 (dk_at dksX6_run_0 5 rfl rfl)
theorem dX6_run_6 : decode cX6_run 6 = .ok (.iload_n 1, 1) := dk_27 (dk_at dksX6_run_0 6 rfl rfl)
theorem dX6_run_7 : decode cX6_run 7 = .ok (.i2l, 1) := dk_133 (dk_at dksX6_run_0 7 rfl rfl)
theorem dX6_run_8 : decode cX6_run 8 = .ok (.lconst 0, 1) := dk_9 (dk_at dksX6_run_0 8 rfl rfl)
theorem dX6_run_9 : decode cX6_run 9 = .ok (.ldc2_w 335, 3) := dk_20 1 79 (dk_at dksX6_run_0 9 rfl rfl)
theorem dX6_run_12 : decode cX6_run 12 = .ok (.invokestatic 183, 3) := dk_184 0 183 (dk_at dksX6_run_0 12 rfl rfl)
theorem dX6_run_15 : decode cX6_run 15 = .ok (.iconst 1, 1) := dk_4 (dk_at dksX6_run_0 15 rfl rfl)
theorem dX6_run_16 : decode cX6_run 16 = .ok (.invokevirtual 236, 3) := dk_182 0 236 (dk_at dksX6_run_0 16 rfl rfl)
theorem dX6_run_19 : decode cX6_run 19 = .ok (.ifCond .eq 5, 3) := dk_153 0 5 (dk_at dksX6_run_0 19 rfl rfl)
theorem dX6_run_22 : decode cX6_run 22 = .ok (.iconst 0, 1) := dk_3 (dk_at dksX6_run_0 22 rfl rfl)
theorem dX6_run_23 : decode cX6_run 23 = .ok (.ireturn, 1) := dk_172 (dk_at dksX6_run_0 23 rfl rfl)
theorem dX6_run_24 : decode cX6_run 24 = .ok (.aload_n 0, 1) := dk_42 (dk_at dksX6_run_1 0 rfl rfl)
theorem dX6_run_25 : decode cX6_run 25 = .ok (.invokevirtual 332, 3) := dk_182 1 76 (dk_at dksX6_run_1 1 rfl rfl)
theorem dX6_run_28 : decode cX6_run 28 = .ok (.aload_n 0, 1) := dk_42 (dk_at dksX6_run_1 4 rfl rfl)
theorem dX6_run_29 : decode cX6_run 29 = .ok (.getfield 110, 3) := dk_180 0 110 (dk_at dksX6_run_1 5 rfl rfl)
theorem dX6_run_32 : decode cX6_run 32 = .ok (.ifCond .ne 7, 3) := dk_154 0 7 (dk_at dksX6_run_1 8 rfl rfl)
theorem dX6_run_35 : decode cX6_run 35 = .ok (.aload_n 0, 1) := dk_42 (dk_at dksX6_run_1 11 rfl rfl)
theorem dX6_run_36 : decode cX6_run 36 = .ok (.invokevirtual 312, 3) := dk_182 1 56 (dk_at dksX6_run_1 12 rfl rfl)
theorem dX6_run_39 : decode cX6_run 39 = .ok (.iconst 0, 1) := dk_3 (dk_at dksX6_run_1 15 rfl rfl)
theorem dX6_run_40 : decode cX6_run 40 = .ok (.istore_n 2, 1) := dk_61 (dk_at dksX6_run_1 16 rfl rfl)
theorem dX6_run_41 : decode cX6_run 41 = .ok (.iload_n 2, 1) := dk_28 (dk_at dksX6_run_1 17 rfl rfl)
theorem dX6_run_42 : decode cX6_run 42 = .ok (.iload_n 1, 1) := dk_27 (dk_at dksX6_run_1 18 rfl rfl)
theorem dX6_run_43 : decode cX6_run 43 = .ok (.if_icmp .ge 16, 3) := dk_162 0 16 (dk_at dksX6_run_1 19 rfl rfl)
theorem dX6_run_46 : decode cX6_run 46 = .ok (.aload_n 0, 1) := dk_42 (dk_at dksX6_run_1 22 rfl rfl)
theorem dX6_run_47 : decode cX6_run 47 = .ok (.invokevirtual 337, 3) := dk_182 1 81 (dk_at dksX6_run_2 0 rfl rfl)
theorem dX6_run_50 : decode cX6_run 50 = .ok (.ifCond .eq 9, 3) := dk_153 0 9 (dk_at dksX6_run_2 3 rfl rfl)
theorem dX6_run_53 : decode cX6_run 53 = .ok (.iinc 2 1, 3) := dk_132 2 1 (dk_at dksX6_run_2 6 rfl rfl)
theorem dX6_run_56 : decode cX6_run 56 = .ok (.goto (-15), 3) := dk_167 255 241 (dk_at dksX6_run_2 9 rfl rfl)
theorem dX6_run_59 : decode cX6_run 59 = .ok (.iload_n 2, 1) := dk_28 (dk_at dksX6_run_2 12 rfl rfl)
theorem dX6_run_60 : decode cX6_run 60 = .ok (.ireturn, 1) := dk_172 (dk_at dksX6_run_2 13 rfl rfl)
abbrev cX6_records : ByteArray := prog_25_method_70_code
def yX6_records : MethodName := ⟨RX6, "records", "()V"⟩
def dkwX6_records_3 : List UInt8 := [42, 180, 0, 7, 27, 47, 80, 132, 1, 1, 167, 255, 227, 42, 89, 180, 0, 103, 4, 96, 181, 0, 103, 177]
abbrev dktX6_records_3 : List UInt8 := dkwX6_records_3 ++ []
def dkwX6_records_2 : List UInt8 := [181, 0, 103, 3, 60, 27, 16, 111, 162, 0, 29, 42, 180, 0, 25, 16, 111, 42, 180, 0, 103, 104, 27, 96]
abbrev dktX6_records_2 : List UInt8 := dkwX6_records_2 ++ dktX6_records_3
def dkwX6_records_1 : List UInt8 := [16, 111, 100, 42, 180, 0, 25, 27, 47, 80, 132, 1, 1, 167, 255, 231, 42, 89, 180, 0, 103, 4, 100]
abbrev dktX6_records_1 : List UInt8 := dkwX6_records_1 ++ dktX6_records_2
def dkwX6_records_0 : List UInt8 := [42, 180, 0, 103, 16, 10, 160, 0, 44, 16, 111, 60, 27, 17, 4, 86, 162, 0, 24, 42, 180, 0, 25, 27]
abbrev dktX6_records_0 : List UInt8 := dkwX6_records_0 ++ dktX6_records_1
theorem dksX6_records_0 : cX6_records.data.toList.drop 0 = dktX6_records_0 := by decide +kernel
theorem dksX6_records_1 : cX6_records.data.toList.drop 24 = dktX6_records_1 := dk_seg dksX6_records_0 24 rfl rfl
theorem dksX6_records_2 : cX6_records.data.toList.drop 47 = dktX6_records_2 := dk_seg dksX6_records_1 23 rfl rfl
theorem dksX6_records_3 : cX6_records.data.toList.drop 71 = dktX6_records_3 := dk_seg dksX6_records_2 24 rfl rfl
theorem dX6_records_0 : decode cX6_records 0 = .ok (.aload_n 0, 1) := dk_42 (dk_at dksX6_records_0 0 rfl rfl)
theorem dX6_records_1 : decode cX6_records 1 = .ok (.getfield 103, 3) := dk_180 0 103 (dk_at dksX6_records_0 1 rfl rfl)
theorem dX6_records_4 : decode cX6_records 4 = .ok (.bipush 10, 2) := dk_16 10 (dk_at dksX6_records_0 4 rfl rfl)
theorem dX6_records_6 : decode cX6_records 6 = .ok (.if_icmp .ne 44, 3) := dk_160 0 44 (dk_at dksX6_records_0 6 rfl rfl)
theorem dX6_records_9 : decode cX6_records 9 = .ok (.bipush 111, 2) := dk_16 111 (dk_at dksX6_records_0 9 rfl rfl)
theorem dX6_records_11 : decode cX6_records 11 = .ok (.istore_n 1, 1) := dk_60 (dk_at dksX6_records_0 11 rfl rfl)
theorem dX6_records_12 : decode cX6_records 12 = .ok (.iload_n 1, 1) := dk_27 (dk_at dksX6_records_0 12 rfl rfl)
theorem dX6_records_13 : decode cX6_records 13 = .ok (.sipush 1110, 3) := dk_17 4 86 (dk_at dksX6_records_0 13 rfl rfl)
theorem dX6_records_16 : decode cX6_records 16 = .ok (.if_icmp .ge 24, 3) := dk_162 0 24 (dk_at dksX6_records_0 16 rfl rfl)
theorem dX6_records_19 : decode cX6_records 19 = .ok (.aload_n 0, 1) := dk_42 (dk_at dksX6_records_0 19 rfl rfl)
theorem dX6_records_20 : decode cX6_records 20 = .ok (.getfield 25, 3) := dk_180 0 25 (dk_at dksX6_records_0 20 rfl rfl)
theorem dX6_records_23 : decode cX6_records 23 = .ok (.iload_n 1, 1) := dk_27 (dk_at dksX6_records_0 23 rfl rfl)
theorem dX6_records_24 : decode cX6_records 24 = .ok (.bipush 111, 2) := dk_16 111 (dk_at dksX6_records_1 0 rfl rfl)
theorem dX6_records_26 : decode cX6_records 26 = .ok (.isub, 1) := dk_100 (dk_at dksX6_records_1 2 rfl rfl)
theorem dX6_records_27 : decode cX6_records 27 = .ok (.aload_n 0, 1) := dk_42 (dk_at dksX6_records_1 3 rfl rfl)
theorem dX6_records_28 : decode cX6_records 28 = .ok (.getfield 25, 3) := dk_180 0 25 (dk_at dksX6_records_1 4 rfl rfl)
theorem dX6_records_31 : decode cX6_records 31 = .ok (.iload_n 1, 1) := dk_27 (dk_at dksX6_records_1 7 rfl rfl)
theorem dX6_records_32 : decode cX6_records 32 = .ok (.laload, 1) := dk_47 (dk_at dksX6_records_1 8 rfl rfl)
theorem dX6_records_33 : decode cX6_records 33 = .ok (.lastore, 1) := dk_80 (dk_at dksX6_records_1 9 rfl rfl)
theorem dX6_records_34 : decode cX6_records 34 = .ok (.iinc 1 1, 3) := dk_132 1 1 (dk_at dksX6_records_1 10 rfl rfl)
theorem dX6_records_37 : decode cX6_records 37 = .ok (.goto (-25), 3) := dk_167 255 231 (dk_at dksX6_records_1 13 rfl rfl)
theorem dX6_records_40 : decode cX6_records 40 = .ok (.aload_n 0, 1) := dk_42 (dk_at dksX6_records_1 16 rfl rfl)
theorem dX6_records_41 : decode cX6_records 41 = .ok (.dup, 1) := dk_89 (dk_at dksX6_records_1 17 rfl rfl)
theorem dX6_records_42 : decode cX6_records 42 = .ok (.getfield 103, 3) := dk_180 0 103 (dk_at dksX6_records_1 18 rfl rfl)
theorem dX6_records_45 : decode cX6_records 45 = .ok (.iconst 1, 1) := dk_4 (dk_at dksX6_records_1 21 rfl rfl)
theorem dX6_records_46 : decode cX6_records 46 = .ok (.isub, 1) := dk_100 (dk_at dksX6_records_1 22 rfl rfl)
theorem dX6_records_47 : decode cX6_records 47 = .ok (.putfield 103, 3) := dk_181 0 103 (dk_at dksX6_records_2 0 rfl rfl)
theorem dX6_records_50 : decode cX6_records 50 = .ok (.iconst 0, 1) := dk_3 (dk_at dksX6_records_2 3 rfl rfl)
theorem dX6_records_51 : decode cX6_records 51 = .ok (.istore_n 1, 1) := dk_60 (dk_at dksX6_records_2 4 rfl rfl)
theorem dX6_records_52 : decode cX6_records 52 = .ok (.iload_n 1, 1) := dk_27 (dk_at dksX6_records_2 5 rfl rfl)
theorem dX6_records_53 : decode cX6_records 53 = .ok (.bipush 111, 2) := dk_16 111 (dk_at dksX6_records_2 6 rfl rfl)
theorem dX6_records_55 : decode cX6_records 55 = .ok (.if_icmp .ge 29, 3) := dk_162 0 29 (dk_at dksX6_records_2 8 rfl rfl)
theorem dX6_records_58 : decode cX6_records 58 = .ok (.aload_n 0, 1) := dk_42 (dk_at dksX6_records_2 11 rfl rfl)
theorem dX6_records_59 : decode cX6_records 59 = .ok (.getfield 25, 3) := dk_180 0 25 (dk_at dksX6_records_2 12 rfl rfl)
theorem dX6_records_62 : decode cX6_records 62 = .ok (.bipush 111, 2) := dk_16 111 (dk_at dksX6_records_2 15 rfl rfl)
theorem dX6_records_64 : decode cX6_records 64 = .ok (.aload_n 0, 1) := dk_42 (dk_at dksX6_records_2 17 rfl rfl)
theorem dX6_records_65 : decode cX6_records 65 = .ok (.getfield 103, 3) := dk_180 0 103 (dk_at dksX6_records_2 18 rfl rfl)
theorem dX6_records_68 : decode cX6_records 68 = .ok (.imul, 1) := dk_104 (dk_at dksX6_records_2 21 rfl rfl)
theorem dX6_records_69 : decode cX6_records 69 = .ok (.iload_n 1, 1) := dk_27 (dk_at dksX6_records_2 22 rfl rfl)
theorem dX6_records_70 : decode cX6_records 70 = .ok (.iadd, 1) := dk_96 (dk_at dksX6_records_2 23 rfl rfl)
theorem dX6_records_71 : decode cX6_records 71 = .ok (.aload_n 0, 1) := dk_42 (dk_at dksX6_records_3 0 rfl rfl)
theorem dX6_records_72 : decode cX6_records 72 = .ok (.getfield 7, 3) := dk_180 0 7 (dk_at dksX6_records_3 1 rfl rfl)
theorem dX6_records_75 : decode cX6_records 75 = .ok (.iload_n 1, 1) := dk_27 (dk_at dksX6_records_3 4 rfl rfl)
theorem dX6_records_76 : decode cX6_records 76 = .ok (.laload, 1) := dk_47 (dk_at dksX6_records_3 5 rfl rfl)
theorem dX6_records_77 : decode cX6_records 77 = .ok (.lastore, 1) := dk_80 (dk_at dksX6_records_3 6 rfl rfl)
theorem dX6_records_78 : decode cX6_records 78 = .ok (.iinc 1 1, 3) := dk_132 1 1 (dk_at dksX6_records_3 7 rfl rfl)
theorem dX6_records_81 : decode cX6_records 81 = .ok (.goto (-29), 3) := dk_167 255 227 (dk_at dksX6_records_3 10 rfl rfl)
theorem dX6_records_84 : decode cX6_records 84 = .ok (.aload_n 0, 1) := dk_42 (dk_at dksX6_records_3 13 rfl rfl)
theorem dX6_records_85 : decode cX6_records 85 = .ok (.dup, 1) := dk_89 (dk_at dksX6_records_3 14 rfl rfl)
theorem dX6_records_86 : decode cX6_records 86 = .ok (.getfield 103, 3) := dk_180 0 103 (dk_at dksX6_records_3 15 rfl rfl)
theorem dX6_records_89 : decode cX6_records 89 = .ok (.iconst 1, 1) := dk_4 (dk_at dksX6_records_3 18 rfl rfl)
theorem dX6_records_90 : decode cX6_records 90 = .ok (.iadd, 1) := dk_96 (dk_at dksX6_records_3 19 rfl rfl)
theorem dX6_records_91 : decode cX6_records 91 = .ok (.putfield 103, 3) := dk_181 0 103 (dk_at dksX6_records_3 20 rfl rfl)
theorem dX6_records_94 : decode cX6_records 94 = .ok (.return_, 1) := dk_177 (dk_at dksX6_records_3 23 rfl rfl)
abbrev cX6_remembers : ByteArray := prog_25_method_51_code
def yX6_remembers : MethodName := ⟨RX6, "remembers", "()V"⟩
def dkwX6_remembers_3 : List UInt8 := [80, 132, 1, 1, 167, 255, 227, 42, 89, 180, 0, 110, 4, 96, 181, 0, 110, 177]
abbrev dktX6_remembers_3 : List UInt8 := dkwX6_remembers_3 ++ []
def dkwX6_remembers_2 : List UInt8 := [6, 162, 0, 30, 42, 180, 0, 34, 6, 42, 180, 0, 110, 104, 27, 96, 42, 180, 0, 7, 27, 184, 1, 5]
abbrev dktX6_remembers_2 : List UInt8 := dkwX6_remembers_2 ++ dktX6_remembers_3
def dkwX6_remembers_1 : List UInt8 := [6, 27, 96, 47, 80, 132, 1, 1, 167, 255, 234, 42, 89, 180, 0, 110, 4, 100, 181, 0, 110, 3, 60, 27]
abbrev dktX6_remembers_1 : List UInt8 := dkwX6_remembers_1 ++ dktX6_remembers_2
def dkwX6_remembers_0 : List UInt8 := [42, 180, 0, 110, 5, 160, 0, 40, 3, 60, 27, 6, 162, 0, 23, 42, 180, 0, 34, 27, 42, 180, 0, 34]
abbrev dktX6_remembers_0 : List UInt8 := dkwX6_remembers_0 ++ dktX6_remembers_1
theorem dksX6_remembers_0 : cX6_remembers.data.toList.drop 0 = dktX6_remembers_0 := by decide +kernel
theorem dksX6_remembers_1 : cX6_remembers.data.toList.drop 24 = dktX6_remembers_1 := dk_seg dksX6_remembers_0 24 rfl rfl
theorem dksX6_remembers_2 : cX6_remembers.data.toList.drop 48 = dktX6_remembers_2 := dk_seg dksX6_remembers_1 24 rfl rfl
theorem dksX6_remembers_3 : cX6_remembers.data.toList.drop 72 = dktX6_remembers_3 := dk_seg dksX6_remembers_2 24 rfl rfl
theorem dX6_remembers_0 : decode cX6_remembers 0 = .ok (.aload_n 0, 1) := dk_42 (dk_at dksX6_remembers_0 0 rfl rfl)
theorem dX6_remembers_1 : decode cX6_remembers 1 = .ok (.getfield 110, 3) := dk_180 0 110 (dk_at dksX6_remembers_0 1 rfl rfl)
theorem dX6_remembers_4 : decode cX6_remembers 4 = .ok (.iconst 2, 1) := dk_5 (dk_at dksX6_remembers_0 4 rfl rfl)
theorem dX6_remembers_5 : decode cX6_remembers 5 = .ok (.if_icmp .ne 40, 3) := dk_160 0 40 (dk_at dksX6_remembers_0 5 rfl rfl)
theorem dX6_remembers_8 : decode cX6_remembers 8 = .ok (.iconst 0, 1) := dk_3 (dk_at dksX6_remembers_0 8 rfl rfl)
theorem dX6_remembers_9 : decode cX6_remembers 9 = .ok (.istore_n 1, 1) := dk_60 (dk_at dksX6_remembers_0 9 rfl rfl)
theorem dX6_remembers_10 : decode cX6_remembers 10 = .ok (.iload_n 1, 1) := dk_27 (dk_at dksX6_remembers_0 10 rfl rfl)
theorem dX6_remembers_11 : decode cX6_remembers 11 = .ok (.iconst 3, 1) := dk_6 (dk_at dksX6_remembers_0 11 rfl rfl)
theorem dX6_remembers_12 : decode cX6_remembers 12 = .ok (.if_icmp .ge 23, 3) := dk_162 0 23 (dk_at dksX6_remembers_0 12 rfl rfl)
theorem dX6_remembers_15 : decode cX6_remembers 15 = .ok (.aload_n 0, 1) := dk_42 (dk_at dksX6_remembers_0 15 rfl rfl)
theorem dX6_remembers_16 : decode cX6_remembers 16 = .ok (.getfield 34, 3) := dk_180 0 34 (dk_at dksX6_remembers_0 16 rfl rfl)
theorem dX6_remembers_19 : decode cX6_remembers 19 = .ok (.iload_n 1, 1) := dk_27 (dk_at dksX6_remembers_0 19 rfl rfl)
theorem dX6_remembers_20 : decode cX6_remembers 20 = .ok (.aload_n 0, 1) := dk_42 (dk_at dksX6_remembers_0 20 rfl rfl)
theorem dX6_remembers_21 : decode cX6_remembers 21 = .ok (.getfield 34, 3) := dk_180 0 34 (dk_at dksX6_remembers_0 21 rfl rfl)
theorem dX6_remembers_24 : decode cX6_remembers 24 = .ok (.iconst 3, 1) := dk_6 (dk_at dksX6_remembers_1 0 rfl rfl)
theorem dX6_remembers_25 : decode cX6_remembers 25 = .ok (.iload_n 1, 1) := dk_27 (dk_at dksX6_remembers_1 1 rfl rfl)
theorem dX6_remembers_26 : decode cX6_remembers 26 = .ok (.iadd, 1) := dk_96 (dk_at dksX6_remembers_1 2 rfl rfl)
theorem dX6_remembers_27 : decode cX6_remembers 27 = .ok (.laload, 1) := dk_47 (dk_at dksX6_remembers_1 3 rfl rfl)
theorem dX6_remembers_28 : decode cX6_remembers 28 = .ok (.lastore, 1) := dk_80 (dk_at dksX6_remembers_1 4 rfl rfl)
theorem dX6_remembers_29 : decode cX6_remembers 29 = .ok (.iinc 1 1, 3) := dk_132 1 1 (dk_at dksX6_remembers_1 5 rfl rfl)
theorem dX6_remembers_32 : decode cX6_remembers 32 = .ok (.goto (-22), 3) := dk_167 255 234 (dk_at dksX6_remembers_1 8 rfl rfl)
theorem dX6_remembers_35 : decode cX6_remembers 35 = .ok (.aload_n 0, 1) := dk_42 (dk_at dksX6_remembers_1 11 rfl rfl)
theorem dX6_remembers_36 : decode cX6_remembers 36 = .ok (.dup, 1) := dk_89 (dk_at dksX6_remembers_1 12 rfl rfl)
theorem dX6_remembers_37 : decode cX6_remembers 37 = .ok (.getfield 110, 3) := dk_180 0 110 (dk_at dksX6_remembers_1 13 rfl rfl)
theorem dX6_remembers_40 : decode cX6_remembers 40 = .ok (.iconst 1, 1) := dk_4 (dk_at dksX6_remembers_1 16 rfl rfl)
theorem dX6_remembers_41 : decode cX6_remembers 41 = .ok (.isub, 1) := dk_100 (dk_at dksX6_remembers_1 17 rfl rfl)
theorem dX6_remembers_42 : decode cX6_remembers 42 = .ok (.putfield 110, 3) := dk_181 0 110 (dk_at dksX6_remembers_1 18 rfl rfl)
theorem dX6_remembers_45 : decode cX6_remembers 45 = .ok (.iconst 0, 1) := dk_3 (dk_at dksX6_remembers_1 21 rfl rfl)
theorem dX6_remembers_46 : decode cX6_remembers 46 = .ok (.istore_n 1, 1) := dk_60 (dk_at dksX6_remembers_1 22 rfl rfl)
theorem dX6_remembers_47 : decode cX6_remembers 47 = .ok (.iload_n 1, 1) := dk_27 (dk_at dksX6_remembers_1 23 rfl rfl)
theorem dX6_remembers_48 : decode cX6_remembers 48 = .ok (.iconst 3, 1) := dk_6 (dk_at dksX6_remembers_2 0 rfl rfl)
theorem dX6_remembers_49 : decode cX6_remembers 49 = .ok (.if_icmp .ge 30, 3) := dk_162 0 30 (dk_at dksX6_remembers_2 1 rfl rfl)
theorem dX6_remembers_52 : decode cX6_remembers 52 = .ok (.aload_n 0, 1) := dk_42 (dk_at dksX6_remembers_2 4 rfl rfl)
theorem dX6_remembers_53 : decode cX6_remembers 53 = .ok (.getfield 34, 3) := dk_180 0 34 (dk_at dksX6_remembers_2 5 rfl rfl)
theorem dX6_remembers_56 : decode cX6_remembers 56 = .ok (.iconst 3, 1) := dk_6 (dk_at dksX6_remembers_2 8 rfl rfl)
theorem dX6_remembers_57 : decode cX6_remembers 57 = .ok (.aload_n 0, 1) := dk_42 (dk_at dksX6_remembers_2 9 rfl rfl)
theorem dX6_remembers_58 : decode cX6_remembers 58 = .ok (.getfield 110, 3) := dk_180 0 110 (dk_at dksX6_remembers_2 10 rfl rfl)
theorem dX6_remembers_61 : decode cX6_remembers 61 = .ok (.imul, 1) := dk_104 (dk_at dksX6_remembers_2 13 rfl rfl)
theorem dX6_remembers_62 : decode cX6_remembers 62 = .ok (.iload_n 1, 1) := dk_27 (dk_at dksX6_remembers_2 14 rfl rfl)
theorem dX6_remembers_63 : decode cX6_remembers 63 = .ok (.iadd, 1) := dk_96 (dk_at dksX6_remembers_2 15 rfl rfl)
theorem dX6_remembers_64 : decode cX6_remembers 64 = .ok (.aload_n 0, 1) := dk_42 (dk_at dksX6_remembers_2 16 rfl rfl)
theorem dX6_remembers_65 : decode cX6_remembers 65 = .ok (.getfield 7, 3) := dk_180 0 7 (dk_at dksX6_remembers_2 17 rfl rfl)
theorem dX6_remembers_68 : decode cX6_remembers 68 = .ok (.iload_n 1, 1) := dk_27 (dk_at dksX6_remembers_2 20 rfl rfl)
theorem dX6_remembers_69 : decode cX6_remembers 69 = .ok (.invokestatic 261, 3) := dk_184 1 5 (dk_at dksX6_remembers_2 21 rfl rfl)
theorem dX6_remembers_72 : decode cX6_remembers 72 = .ok (.lastore, 1) := dk_80 (dk_at dksX6_remembers_3 0 rfl rfl)
theorem dX6_remembers_73 : decode cX6_remembers 73 = .ok (.iinc 1 1, 3) := dk_132 1 1 (dk_at dksX6_remembers_3 1 rfl rfl)
theorem dX6_remembers_76 : decode cX6_remembers 76 = .ok (.goto (-29), 3) := dk_167 255 227 (dk_at dksX6_remembers_3 4 rfl rfl)
theorem dX6_remembers_79 : decode cX6_remembers 79 = .ok (.aload_n 0, 1) := dk_42 (dk_at dksX6_remembers_3 7 rfl rfl)
theorem dX6_remembers_80 : decode cX6_remembers 80 = .ok (.dup, 1) := dk_89 (dk_at dksX6_remembers_3 8 rfl rfl)
theorem dX6_remembers_81 : decode cX6_remembers 81 = .ok (.getfield 110, 3) := dk_180 0 110 (dk_at dksX6_remembers_3 9 rfl rfl)
theorem dX6_remembers_84 : decode cX6_remembers 84 = .ok (.iconst 1, 1) := dk_4 (dk_at dksX6_remembers_3 12 rfl rfl)
theorem dX6_remembers_85 : decode cX6_remembers 85 = .ok (.iadd, 1) := dk_96 (dk_at dksX6_remembers_3 13 rfl rfl)
theorem dX6_remembers_86 : decode cX6_remembers 86 = .ok (.putfield 110, 3) := dk_181 0 110 (dk_at dksX6_remembers_3 14 rfl rfl)
theorem dX6_remembers_89 : decode cX6_remembers 89 = .ok (.return_, 1) := dk_177 (dk_at dksX6_remembers_3 17 rfl rfl)
abbrev cX6_runsOne : ByteArray := prog_25_method_54_code
def yX6_runsOne : MethodName := ⟨RX6, "runsOne", "()Z"⟩
def dkwX6_runsOne_4 : List UInt8 := [180, 0, 7, 182, 1, 59, 31, 148, 153, 0, 7, 10, 167, 0, 4, 9, 97, 80, 42, 182, 1, 66, 4, 172]
abbrev dktX6_runsOne_4 : List UInt8 := dkwX6_runsOne_4 ++ []
def dkwX6_runsOne_3 : List UInt8 := [156, 0, 7, 33, 167, 0, 9, 42, 180, 0, 7, 7, 47, 80, 42, 180, 0, 7, 5, 92, 47, 42, 42]
abbrev dktX6_runsOne_3 : List UInt8 := dkwX6_runsOne_3 ++ dktX6_runsOne_4
def dkwX6_runsOne_2 : List UInt8 := [33, 167, 0, 9, 42, 180, 0, 7, 6, 47, 80, 42, 180, 0, 7, 7, 33, 42, 180, 0, 7, 7, 47, 148]
abbrev dktX6_runsOne_2 : List UInt8 := dkwX6_runsOne_2 ++ dktX6_runsOne_3
def dkwX6_runsOne_1 : List UInt8 := [42, 180, 0, 7, 182, 0, 99, 66, 42, 180, 0, 7, 6, 33, 42, 180, 0, 7, 6, 47, 148, 158, 0, 7]
abbrev dktX6_runsOne_1 : List UInt8 := dkwX6_runsOne_1 ++ dktX6_runsOne_2
def dkwX6_runsOne_0 : List UInt8 := [42, 42, 180, 0, 7, 182, 1, 59, 64, 42, 42, 180, 0, 7, 3, 182, 1, 62, 154, 0, 5, 3, 172, 42]
abbrev dktX6_runsOne_0 : List UInt8 := dkwX6_runsOne_0 ++ dktX6_runsOne_1
theorem dksX6_runsOne_0 : cX6_runsOne.data.toList.drop 0 = dktX6_runsOne_0 := by decide +kernel
theorem dksX6_runsOne_1 : cX6_runsOne.data.toList.drop 24 = dktX6_runsOne_1 := dk_seg dksX6_runsOne_0 24 rfl rfl
theorem dksX6_runsOne_2 : cX6_runsOne.data.toList.drop 48 = dktX6_runsOne_2 := dk_seg dksX6_runsOne_1 24 rfl rfl
theorem dksX6_runsOne_3 : cX6_runsOne.data.toList.drop 72 = dktX6_runsOne_3 := dk_seg dksX6_runsOne_2 24 rfl rfl
theorem dksX6_runsOne_4 : cX6_runsOne.data.toList.drop 95 = dktX6_runsOne_4 := dk_seg dksX6_runsOne_3 23 rfl rfl
theorem dX6_runsOne_0 : decode cX6_runsOne 0 = .ok (.aload_n 0, 1) := dk_42 (dk_at dksX6_runsOne_0 0 rfl rfl)
theorem dX6_runsOne_1 : decode cX6_runsOne 1 = .ok (.aload_n 0, 1) := dk_42 (dk_at dksX6_runsOne_0 1 rfl rfl)
theorem dX6_runsOne_2 : decode cX6_runsOne 2 = .ok (.getfield 7, 3) := dk_180 0 7 (dk_at dksX6_runsOne_0 2 rfl rfl)
theorem dX6_runsOne_5 : decode cX6_runsOne 5 = .ok (.invokevirtual 315, 3) := dk_182 1 59 (dk_at dksX6_runsOne_0 5 rfl rfl)
theorem dX6_runsOne_8 : decode cX6_runsOne 8 = .ok (.lstore_n 1, 1) := dk_64 (dk_at dksX6_runsOne_0 8 rfl rfl)
theorem dX6_runsOne_9 : decode cX6_runsOne 9 = .ok (.aload_n 0, 1) := dk_42 (dk_at dksX6_runsOne_0 9 rfl rfl)
theorem dX6_runsOne_10 : decode cX6_runsOne 10 = .ok (.aload_n 0, 1) := dk_42 (dk_at dksX6_runsOne_0 10 rfl rfl)
theorem dX6_runsOne_11 : decode cX6_runsOne 11 = .ok (.getfield 7, 3) := dk_180 0 7 (dk_at dksX6_runsOne_0 11 rfl rfl)
theorem dX6_runsOne_14 : decode cX6_runsOne 14 = .ok (.iconst 0, 1) := dk_3 (dk_at dksX6_runsOne_0 14 rfl rfl)
theorem dX6_runsOne_15 : decode cX6_runsOne 15 = .ok (.invokevirtual 318, 3) := dk_182 1 62 (dk_at dksX6_runsOne_0 15 rfl rfl)
theorem dX6_runsOne_18 : decode cX6_runsOne 18 = .ok (.ifCond .ne 5, 3) := dk_154 0 5 (dk_at dksX6_runsOne_0 18 rfl rfl)
theorem dX6_runsOne_21 : decode cX6_runsOne 21 = .ok (.iconst 0, 1) := dk_3 (dk_at dksX6_runsOne_0 21 rfl rfl)
theorem dX6_runsOne_22 : decode cX6_runsOne 22 = .ok (.ireturn, 1) := dk_172 (dk_at dksX6_runsOne_0 22 rfl rfl)
theorem dX6_runsOne_23 : decode cX6_runsOne 23 = .ok (.aload_n 0, 1) := dk_42 (dk_at dksX6_runsOne_0 23 rfl rfl)
theorem dX6_runsOne_24 : decode cX6_runsOne 24 = .ok (.aload_n 0, 1) := dk_42 (dk_at dksX6_runsOne_1 0 rfl rfl)
theorem dX6_runsOne_25 : decode cX6_runsOne 25 = .ok (.getfield 7, 3) := dk_180 0 7 (dk_at dksX6_runsOne_1 1 rfl rfl)
theorem dX6_runsOne_28 : decode cX6_runsOne 28 = .ok (.invokevirtual 99, 3) := dk_182 0 99 (dk_at dksX6_runsOne_1 4 rfl rfl)
theorem dX6_runsOne_31 : decode cX6_runsOne 31 = .ok (.lstore_n 3, 1) := dk_66 (dk_at dksX6_runsOne_1 7 rfl rfl)
theorem dX6_runsOne_32 : decode cX6_runsOne 32 = .ok (.aload_n 0, 1) := dk_42 (dk_at dksX6_runsOne_1 8 rfl rfl)
theorem dX6_runsOne_33 : decode cX6_runsOne 33 = .ok (.getfield 7, 3) := dk_180 0 7 (dk_at dksX6_runsOne_1 9 rfl rfl)
theorem dX6_runsOne_36 : decode cX6_runsOne 36 = .ok (.iconst 3, 1) := dk_6 (dk_at dksX6_runsOne_1 12 rfl rfl)
theorem dX6_runsOne_37 : decode cX6_runsOne 37 = .ok (.lload_n 3, 1) := dk_33 (dk_at dksX6_runsOne_1 13 rfl rfl)
theorem dX6_runsOne_38 : decode cX6_runsOne 38 = .ok (.aload_n 0, 1) := dk_42 (dk_at dksX6_runsOne_1 14 rfl rfl)
theorem dX6_runsOne_39 : decode cX6_runsOne 39 = .ok (.getfield 7, 3) := dk_180 0 7 (dk_at dksX6_runsOne_1 15 rfl rfl)
theorem dX6_runsOne_42 : decode cX6_runsOne 42 = .ok (.iconst 3, 1) := dk_6 (dk_at dksX6_runsOne_1 18 rfl rfl)
theorem dX6_runsOne_43 : decode cX6_runsOne 43 = .ok (.laload, 1) := dk_47 (dk_at dksX6_runsOne_1 19 rfl rfl)
theorem dX6_runsOne_44 : decode cX6_runsOne 44 = .ok (.lcmp, 1) := dk_148 (dk_at dksX6_runsOne_1 20 rfl rfl)
theorem dX6_runsOne_45 : decode cX6_runsOne 45 = .ok (.ifCond .le 7, 3) := dk_158 0 7 (dk_at dksX6_runsOne_1 21 rfl rfl)
theorem dX6_runsOne_48 : decode cX6_runsOne 48 = .ok (.lload_n 3, 1) := dk_33 (dk_at dksX6_runsOne_2 0 rfl rfl)
theorem dX6_runsOne_49 : decode cX6_runsOne 49 = .ok (.goto 9, 3) := dk_167 0 9 (dk_at dksX6_runsOne_2 1 rfl rfl)
theorem dX6_runsOne_52 : decode cX6_runsOne 52 = .ok (.aload_n 0, 1) := dk_42 (dk_at dksX6_runsOne_2 4 rfl rfl)
theorem dX6_runsOne_53 : decode cX6_runsOne 53 = .ok (.getfield 7, 3) := dk_180 0 7 (dk_at dksX6_runsOne_2 5 rfl rfl)
theorem dX6_runsOne_56 : decode cX6_runsOne 56 = .ok (.iconst 3, 1) := dk_6 (dk_at dksX6_runsOne_2 8 rfl rfl)
theorem dX6_runsOne_57 : decode cX6_runsOne 57 = .ok (.laload, 1) := dk_47 (dk_at dksX6_runsOne_2 9 rfl rfl)
theorem dX6_runsOne_58 : decode cX6_runsOne 58 = .ok (.lastore, 1) := dk_80 (dk_at dksX6_runsOne_2 10 rfl rfl)
theorem dX6_runsOne_59 : decode cX6_runsOne 59 = .ok (.aload_n 0, 1) := dk_42 (dk_at dksX6_runsOne_2 11 rfl rfl)
theorem dX6_runsOne_60 : decode cX6_runsOne 60 = .ok (.getfield 7, 3) := dk_180 0 7 (dk_at dksX6_runsOne_2 12 rfl rfl)
theorem dX6_runsOne_63 : decode cX6_runsOne 63 = .ok (.iconst 4, 1) := dk_7 (dk_at dksX6_runsOne_2 15 rfl rfl)
theorem dX6_runsOne_64 : decode cX6_runsOne 64 = .ok (.lload_n 3, 1) := dk_33 (dk_at dksX6_runsOne_2 16 rfl rfl)
theorem dX6_runsOne_65 : decode cX6_runsOne 65 = .ok (.aload_n 0, 1) := dk_42 (dk_at dksX6_runsOne_2 17 rfl rfl)
theorem dX6_runsOne_66 : decode cX6_runsOne 66 = .ok (.getfield 7, 3) := dk_180 0 7 (dk_at dksX6_runsOne_2 18 rfl rfl)
theorem dX6_runsOne_69 : decode cX6_runsOne 69 = .ok (.iconst 4, 1) := dk_7 (dk_at dksX6_runsOne_2 21 rfl rfl)
theorem dX6_runsOne_70 : decode cX6_runsOne 70 = .ok (.laload, 1) := dk_47 (dk_at dksX6_runsOne_2 22 rfl rfl)
theorem dX6_runsOne_71 : decode cX6_runsOne 71 = .ok (.lcmp, 1) := dk_148 (dk_at dksX6_runsOne_2 23 rfl rfl)
theorem dX6_runsOne_72 : decode cX6_runsOne 72 = .ok (.ifCond .ge 7, 3) := dk_156 0 7 (dk_at dksX6_runsOne_3 0 rfl rfl)
theorem dX6_runsOne_75 : decode cX6_runsOne 75 = .ok (.lload_n 3, 1) := dk_33 (dk_at dksX6_runsOne_3 3 rfl rfl)
theorem dX6_runsOne_76 : decode cX6_runsOne 76 = .ok (.goto 9, 3) := dk_167 0 9 (dk_at dksX6_runsOne_3 4 rfl rfl)
theorem dX6_runsOne_79 : decode cX6_runsOne 79 = .ok (.aload_n 0, 1) := dk_42 (dk_at dksX6_runsOne_3 7 rfl rfl)
theorem dX6_runsOne_80 : decode cX6_runsOne 80 = .ok (.getfield 7, 3) := dk_180 0 7 (dk_at dksX6_runsOne_3 8 rfl rfl)
theorem dX6_runsOne_83 : decode cX6_runsOne 83 = .ok (.iconst 4, 1) := dk_7 (dk_at dksX6_runsOne_3 11 rfl rfl)
theorem dX6_runsOne_84 : decode cX6_runsOne 84 = .ok (.laload, 1) := dk_47 (dk_at dksX6_runsOne_3 12 rfl rfl)
theorem dX6_runsOne_85 : decode cX6_runsOne 85 = .ok (.lastore, 1) := dk_80 (dk_at dksX6_runsOne_3 13 rfl rfl)
theorem dX6_runsOne_86 : decode cX6_runsOne 86 = .ok (.aload_n 0, 1) := dk_42 (dk_at dksX6_runsOne_3 14 rfl rfl)
theorem dX6_runsOne_87 : decode cX6_runsOne 87 = .ok (.getfield 7, 3) := dk_180 0 7 (dk_at dksX6_runsOne_3 15 rfl rfl)
theorem dX6_runsOne_90 : decode cX6_runsOne 90 = .ok (.iconst 2, 1) := dk_5 (dk_at dksX6_runsOne_3 18 rfl rfl)
theorem dX6_runsOne_91 : decode cX6_runsOne 91 = .ok (.dup2, 1) := dk_92 (dk_at dksX6_runsOne_3 19 rfl rfl)
theorem dX6_runsOne_92 : decode cX6_runsOne 92 = .ok (.laload, 1) := dk_47 (dk_at dksX6_runsOne_3 20 rfl rfl)
theorem dX6_runsOne_93 : decode cX6_runsOne 93 = .ok (.aload_n 0, 1) := dk_42 (dk_at dksX6_runsOne_3 21 rfl rfl)
theorem dX6_runsOne_94 : decode cX6_runsOne 94 = .ok (.aload_n 0, 1) := dk_42 (dk_at dksX6_runsOne_3 22 rfl rfl)
theorem dX6_runsOne_95 : decode cX6_runsOne 95 = .ok (.getfield 7, 3) := dk_180 0 7 (dk_at dksX6_runsOne_4 0 rfl rfl)
theorem dX6_runsOne_98 : decode cX6_runsOne 98 = .ok (.invokevirtual 315, 3) := dk_182 1 59 (dk_at dksX6_runsOne_4 3 rfl rfl)
theorem dX6_runsOne_101 : decode cX6_runsOne 101 = .ok (.lload_n 1, 1) := dk_31 (dk_at dksX6_runsOne_4 6 rfl rfl)
theorem dX6_runsOne_102 : decode cX6_runsOne 102 = .ok (.lcmp, 1) := dk_148 (dk_at dksX6_runsOne_4 7 rfl rfl)
theorem dX6_runsOne_103 : decode cX6_runsOne 103 = .ok (.ifCond .eq 7, 3) := dk_153 0 7 (dk_at dksX6_runsOne_4 8 rfl rfl)
theorem dX6_runsOne_106 : decode cX6_runsOne 106 = .ok (.lconst 1, 1) := dk_10 (dk_at dksX6_runsOne_4 11 rfl rfl)
theorem dX6_runsOne_107 : decode cX6_runsOne 107 = .ok (.goto 4, 3) := dk_167 0 4 (dk_at dksX6_runsOne_4 12 rfl rfl)
theorem dX6_runsOne_110 : decode cX6_runsOne 110 = .ok (.lconst 0, 1) := dk_9 (dk_at dksX6_runsOne_4 15 rfl rfl)
theorem dX6_runsOne_111 : decode cX6_runsOne 111 = .ok (.ladd, 1) := dk_97 (dk_at dksX6_runsOne_4 16 rfl rfl)
theorem dX6_runsOne_112 : decode cX6_runsOne 112 = .ok (.lastore, 1) := dk_80 (dk_at dksX6_runsOne_4 17 rfl rfl)
theorem dX6_runsOne_113 : decode cX6_runsOne 113 = .ok (.aload_n 0, 1) := dk_42 (dk_at dksX6_runsOne_4 18 rfl rfl)
theorem dX6_runsOne_114 : decode cX6_runsOne 114 = .ok (.invokevirtual 322, 3) := dk_182 1 66 (dk_at dksX6_runsOne_4 19 rfl rfl)
theorem dX6_runsOne_117 : decode cX6_runsOne 117 = .ok (.iconst 1, 1) := dk_4 (dk_at dksX6_runsOne_4 22 rfl rfl)
theorem dX6_runsOne_118 : decode cX6_runsOne 118 = .ok (.ireturn, 1) := dk_172 (dk_at dksX6_runsOne_4 23 rfl rfl)
abbrev cX6_steps : ByteArray := prog_25_method_50_code
def yX6_steps : MethodName := ⟨RX6, "steps", "([JZ)Z"⟩
def dkwX6_steps_8 : List UInt8 := [21, 6, 42, 180, 0, 48, 21, 6, 47, 80, 132, 6, 1, 167, 255, 230, 21, 5, 172]
abbrev dktX6_steps_8 : List UInt8 := dkwX6_steps_8 ++ []
def dkwX6_steps_7 : List UInt8 := [153, 0, 7, 43, 3, 33, 80, 3, 54, 6, 21, 6, 16, 21, 162, 0, 25, 21, 5, 154, 0, 20, 43]
abbrev dktX6_steps_7 : List UInt8 := dkwX6_steps_7 ++ dktX6_steps_8
def dkwX6_steps_6 : List UInt8 := [167, 0, 4, 3, 28, 182, 1, 43, 43, 184, 1, 46, 54, 5, 132, 6, 1, 167, 255, 162, 21, 5]
abbrev dktX6_steps_6 : List UInt8 := dkwX6_steps_6 ++ dktX6_steps_7
def dkwX6_steps_5 : List UInt8 := [160, 0, 7, 4, 167, 0, 4, 3, 28, 182, 1, 39, 167, 0, 20, 42, 43, 21, 7, 6, 160, 0, 7, 4]
abbrev dktX6_steps_5 : List UInt8 := dkwX6_steps_5 ++ dktX6_steps_6
def dkwX6_steps_4 : List UInt8 := [54, 7, 21, 7, 2, 160, 0, 6, 167, 0, 53, 21, 7, 5, 112, 154, 0, 23, 42, 43, 21, 7, 5]
abbrev dktX6_steps_4 : List UInt8 := dkwX6_steps_4 ++ dktX6_steps_5
def dkwX6_steps_3 : List UInt8 := [21, 5, 153, 0, 89, 43, 4, 47, 28, 153, 0, 10, 5, 21, 6, 100, 167, 0, 5, 21, 6, 184, 1, 35]
abbrev dktX6_steps_3 : List UInt8 := dkwX6_steps_3 ++ dktX6_steps_4
def dkwX6_steps_2 : List UInt8 := [43, 21, 5, 47, 80, 132, 5, 1, 167, 255, 235, 4, 54, 5, 3, 54, 6, 21, 6, 6, 162, 0, 94]
abbrev dktX6_steps_2 : List UInt8 := dkwX6_steps_2 ++ dktX6_steps_3
def dkwX6_steps_1 : List UInt8 := [184, 0, 183, 154, 0, 5, 3, 172, 3, 54, 5, 21, 5, 16, 21, 162, 0, 20, 42, 180, 0, 48, 21, 5]
abbrev dktX6_steps_1 : List UInt8 := dkwX6_steps_1 ++ dktX6_steps_2
def dkwX6_steps_0 : List UInt8 := [43, 3, 47, 28, 153, 0, 9, 20, 1, 29, 167, 0, 4, 10, 97, 66, 33, 20, 1, 31, 20, 1, 33]
abbrev dktX6_steps_0 : List UInt8 := dkwX6_steps_0 ++ dktX6_steps_1
theorem dksX6_steps_0 : cX6_steps.data.toList.drop 0 = dktX6_steps_0 := by decide +kernel
theorem dksX6_steps_1 : cX6_steps.data.toList.drop 23 = dktX6_steps_1 := dk_seg dksX6_steps_0 23 rfl rfl
theorem dksX6_steps_2 : cX6_steps.data.toList.drop 47 = dktX6_steps_2 := dk_seg dksX6_steps_1 24 rfl rfl
theorem dksX6_steps_3 : cX6_steps.data.toList.drop 70 = dktX6_steps_3 := dk_seg dksX6_steps_2 23 rfl rfl
theorem dksX6_steps_4 : cX6_steps.data.toList.drop 94 = dktX6_steps_4 := dk_seg dksX6_steps_3 24 rfl rfl
theorem dksX6_steps_5 : cX6_steps.data.toList.drop 117 = dktX6_steps_5 := dk_seg dksX6_steps_4 23 rfl rfl
theorem dksX6_steps_6 : cX6_steps.data.toList.drop 141 = dktX6_steps_6 := dk_seg dksX6_steps_5 24 rfl rfl
theorem dksX6_steps_7 : cX6_steps.data.toList.drop 163 = dktX6_steps_7 := dk_seg dksX6_steps_6 22 rfl rfl
theorem dksX6_steps_8 : cX6_steps.data.toList.drop 186 = dktX6_steps_8 := dk_seg dksX6_steps_7 23 rfl rfl
theorem dX6_steps_0 : decode cX6_steps 0 = .ok (.aload_n 1, 1) := dk_43 (dk_at dksX6_steps_0 0 rfl rfl)
theorem dX6_steps_1 : decode cX6_steps 1 = .ok (.iconst 0, 1) := dk_3 (dk_at dksX6_steps_0 1 rfl rfl)
theorem dX6_steps_2 : decode cX6_steps 2 = .ok (.laload, 1) := dk_47 (dk_at dksX6_steps_0 2 rfl rfl)
theorem dX6_steps_3 : decode cX6_steps 3 = .ok (.iload_n 2, 1) := dk_28 (dk_at dksX6_steps_0 3 rfl rfl)
theorem dX6_steps_4 : decode cX6_steps 4 = .ok (.ifCond .eq 9, 3) := dk_153 0 9 (dk_at dksX6_steps_0 4 rfl rfl)
theorem dX6_steps_7 : decode cX6_steps 7 = .ok (.ldc2_w 285, 3) := dk_20 1 29 (dk_at dksX6_steps_0 7 rfl rfl)
theorem dX6_steps_10 : decode cX6_steps 10 = .ok (.goto 4, 3) := dk_167 0 4 (dk_at dksX6_steps_0 10 rfl rfl)
theorem dX6_steps_13 : decode cX6_steps 13 = .ok (.lconst 1, 1) := dk_10 (dk_at dksX6_steps_0 13 rfl rfl)
theorem dX6_steps_14 : decode cX6_steps 14 = .ok (.ladd, 1) := dk_97 (dk_at dksX6_steps_0 14 rfl rfl)
theorem dX6_steps_15 : decode cX6_steps 15 = .ok (.lstore_n 3, 1) := dk_66 (dk_at dksX6_steps_0 15 rfl rfl)
theorem dX6_steps_16 : decode cX6_steps 16 = .ok (.lload_n 3, 1) := dk_33 (dk_at dksX6_steps_0 16 rfl rfl)
theorem dX6_steps_17 : decode cX6_steps 17 = .ok (.ldc2_w 287, 3) := dk_20 1 31 (dk_at dksX6_steps_0 17 rfl rfl)
theorem dX6_steps_20 : decode cX6_steps 20 = .ok (.ldc2_w 289, 3) := dk_20 1 33 (dk_at dksX6_steps_0 20 rfl rfl)
theorem dX6_steps_23 : decode cX6_steps 23 = .ok (.invokestatic 183, 3) := dk_184 0 183 (dk_at dksX6_steps_1 0 rfl rfl)
theorem dX6_steps_26 : decode cX6_steps 26 = .ok (.ifCond .ne 5, 3) := dk_154 0 5 (dk_at dksX6_steps_1 3 rfl rfl)
theorem dX6_steps_29 : decode cX6_steps 29 = .ok (.iconst 0, 1) := dk_3 (dk_at dksX6_steps_1 6 rfl rfl)
theorem dX6_steps_30 : decode cX6_steps 30 = .ok (.ireturn, 1) := dk_172 (dk_at dksX6_steps_1 7 rfl rfl)
theorem dX6_steps_31 : decode cX6_steps 31 = .ok (.iconst 0, 1) := dk_3 (dk_at dksX6_steps_1 8 rfl rfl)
theorem dX6_steps_32 : decode cX6_steps 32 = .ok (.istore 5, 2) := dk_54 5 (dk_at dksX6_steps_1 9 rfl rfl)
theorem dX6_steps_34 : decode cX6_steps 34 = .ok (.iload 5, 2) := dk_21 5 (dk_at dksX6_steps_1 11 rfl rfl)
theorem dX6_steps_36 : decode cX6_steps 36 = .ok (.bipush 21, 2) := dk_16 21 (dk_at dksX6_steps_1 13 rfl rfl)
theorem dX6_steps_38 : decode cX6_steps 38 = .ok (.if_icmp .ge 20, 3) := dk_162 0 20 (dk_at dksX6_steps_1 15 rfl rfl)
theorem dX6_steps_41 : decode cX6_steps 41 = .ok (.aload_n 0, 1) := dk_42 (dk_at dksX6_steps_1 18 rfl rfl)
theorem dX6_steps_42 : decode cX6_steps 42 = .ok (.getfield 48, 3) := dk_180 0 48 (dk_at dksX6_steps_1 19 rfl rfl)
theorem dX6_steps_45 : decode cX6_steps 45 = .ok (.iload 5, 2) := dk_21 5 (dk_at dksX6_steps_1 22 rfl rfl)
theorem dX6_steps_47 : decode cX6_steps 47 = .ok (.aload_n 1, 1) := dk_43 (dk_at dksX6_steps_2 0 rfl rfl)
theorem dX6_steps_48 : decode cX6_steps 48 = .ok (.iload 5, 2) := dk_21 5 (dk_at dksX6_steps_2 1 rfl rfl)
theorem dX6_steps_50 : decode cX6_steps 50 = .ok (.laload, 1) := dk_47 (dk_at dksX6_steps_2 3 rfl rfl)
theorem dX6_steps_51 : decode cX6_steps 51 = .ok (.lastore, 1) := dk_80 (dk_at dksX6_steps_2 4 rfl rfl)
theorem dX6_steps_52 : decode cX6_steps 52 = .ok (.iinc 5 1, 3) := dk_132 5 1 (dk_at dksX6_steps_2 5 rfl rfl)
theorem dX6_steps_55 : decode cX6_steps 55 = .ok (.goto (-21), 3) := dk_167 255 235 (dk_at dksX6_steps_2 8 rfl rfl)
theorem dX6_steps_58 : decode cX6_steps 58 = .ok (.iconst 1, 1) := dk_4 (dk_at dksX6_steps_2 11 rfl rfl)
theorem dX6_steps_59 : decode cX6_steps 59 = .ok (.istore 5, 2) := dk_54 5 (dk_at dksX6_steps_2 12 rfl rfl)
theorem dX6_steps_61 : decode cX6_steps 61 = .ok (.iconst 0, 1) := dk_3 (dk_at dksX6_steps_2 14 rfl rfl)
theorem dX6_steps_62 : decode cX6_steps 62 = .ok (.istore 6, 2) := dk_54 6 (dk_at dksX6_steps_2 15 rfl rfl)
theorem dX6_steps_64 : decode cX6_steps 64 = .ok (.iload 6, 2) := dk_21 6 (dk_at dksX6_steps_2 17 rfl rfl)
theorem dX6_steps_66 : decode cX6_steps 66 = .ok (.iconst 3, 1) := dk_6 (dk_at dksX6_steps_2 19 rfl rfl)
theorem dX6_steps_67 : decode cX6_steps 67 = .ok (.if_icmp .ge 94, 3) := dk_162 0 94 (dk_at dksX6_steps_2 20 rfl rfl)
theorem dX6_steps_70 : decode cX6_steps 70 = .ok (.iload 5, 2) := dk_21 5 (dk_at dksX6_steps_3 0 rfl rfl)
theorem dX6_steps_72 : decode cX6_steps 72 = .ok (.ifCond .eq 89, 3) := dk_153 0 89 (dk_at dksX6_steps_3 2 rfl rfl)
theorem dX6_steps_75 : decode cX6_steps 75 = .ok (.aload_n 1, 1) := dk_43 (dk_at dksX6_steps_3 5 rfl rfl)
theorem dX6_steps_76 : decode cX6_steps 76 = .ok (.iconst 1, 1) := dk_4 (dk_at dksX6_steps_3 6 rfl rfl)
theorem dX6_steps_77 : decode cX6_steps 77 = .ok (.laload, 1) := dk_47 (dk_at dksX6_steps_3 7 rfl rfl)
theorem dX6_steps_78 : decode cX6_steps 78 = .ok (.iload_n 2, 1) := dk_28 (dk_at dksX6_steps_3 8 rfl rfl)
theorem dX6_steps_79 : decode cX6_steps 79 = .ok (.ifCond .eq 10, 3) := dk_153 0 10 (dk_at dksX6_steps_3 9 rfl rfl)
theorem dX6_steps_82 : decode cX6_steps 82 = .ok (.iconst 2, 1) := dk_5 (dk_at dksX6_steps_3 12 rfl rfl)
theorem dX6_steps_83 : decode cX6_steps 83 = .ok (.iload 6, 2) := dk_21 6 (dk_at dksX6_steps_3 13 rfl rfl)
theorem dX6_steps_85 : decode cX6_steps 85 = .ok (.isub, 1) := dk_100 (dk_at dksX6_steps_3 15 rfl rfl)
theorem dX6_steps_86 : decode cX6_steps 86 = .ok (.goto 5, 3) := dk_167 0 5 (dk_at dksX6_steps_3 16 rfl rfl)
theorem dX6_steps_89 : decode cX6_steps 89 = .ok (.iload 6, 2) := dk_21 6 (dk_at dksX6_steps_3 19 rfl rfl)
theorem dX6_steps_91 : decode cX6_steps 91 = .ok (.invokestatic 291, 3) := dk_184 1 35 (dk_at dksX6_steps_3 21 rfl rfl)
theorem dX6_steps_94 : decode cX6_steps 94 = .ok (.istore 7, 2) := dk_54 7 (dk_at dksX6_steps_4 0 rfl rfl)
theorem dX6_steps_96 : decode cX6_steps 96 = .ok (.iload 7, 2) := dk_21 7 (dk_at dksX6_steps_4 2 rfl rfl)
theorem dX6_steps_98 : decode cX6_steps 98 = .ok (.iconst (-1), 1) := dk_2 (dk_at dksX6_steps_4 4 rfl rfl)
theorem dX6_steps_99 : decode cX6_steps 99 = .ok (.if_icmp .ne 6, 3) := dk_160 0 6 (dk_at dksX6_steps_4 5 rfl rfl)
theorem dX6_steps_102 : decode cX6_steps 102 = .ok (.goto 53, 3) := dk_167 0 53 (dk_at dksX6_steps_4 8 rfl rfl)
theorem dX6_steps_105 : decode cX6_steps 105 = .ok (.iload 7, 2) := dk_21 7 (dk_at dksX6_steps_4 11 rfl rfl)
theorem dX6_steps_107 : decode cX6_steps 107 = .ok (.iconst 2, 1) := dk_5 (dk_at dksX6_steps_4 13 rfl rfl)
theorem dX6_steps_108 : decode cX6_steps 108 = .ok (.irem, 1) := dk_112 (dk_at dksX6_steps_4 14 rfl rfl)
theorem dX6_steps_109 : decode cX6_steps 109 = .ok (.ifCond .ne 23, 3) := dk_154 0 23 (dk_at dksX6_steps_4 15 rfl rfl)
theorem dX6_steps_112 : decode cX6_steps 112 = .ok (.aload_n 0, 1) := dk_42 (dk_at dksX6_steps_4 18 rfl rfl)
theorem dX6_steps_113 : decode cX6_steps 113 = .ok (.aload_n 1, 1) := dk_43 (dk_at dksX6_steps_4 19 rfl rfl)
theorem dX6_steps_114 : decode cX6_steps 114 = .ok (.iload 7, 2) := dk_21 7 (dk_at dksX6_steps_4 20 rfl rfl)
theorem dX6_steps_116 : decode cX6_steps 116 = .ok (.iconst 2, 1) := dk_5 (dk_at dksX6_steps_4 22 rfl rfl)
theorem dX6_steps_117 : decode cX6_steps 117 = .ok (.if_icmp .ne 7, 3) := dk_160 0 7 (dk_at dksX6_steps_5 0 rfl rfl)
theorem dX6_steps_120 : decode cX6_steps 120 = .ok (.iconst 1, 1) := dk_4 (dk_at dksX6_steps_5 3 rfl rfl)
theorem dX6_steps_121 : decode cX6_steps 121 = .ok (.goto 4, 3) := dk_167 0 4 (dk_at dksX6_steps_5 4 rfl rfl)
theorem dX6_steps_124 : decode cX6_steps 124 = .ok (.iconst 0, 1) := dk_3 (dk_at dksX6_steps_5 7 rfl rfl)
theorem dX6_steps_125 : decode cX6_steps 125 = .ok (.iload_n 2, 1) := dk_28 (dk_at dksX6_steps_5 8 rfl rfl)
theorem dX6_steps_126 : decode cX6_steps 126 = .ok (.invokevirtual 295, 3) := dk_182 1 39 (dk_at dksX6_steps_5 9 rfl rfl)
theorem dX6_steps_129 : decode cX6_steps 129 = .ok (.goto 20, 3) := dk_167 0 20 (dk_at dksX6_steps_5 12 rfl rfl)
theorem dX6_steps_132 : decode cX6_steps 132 = .ok (.aload_n 0, 1) := dk_42 (dk_at dksX6_steps_5 15 rfl rfl)
theorem dX6_steps_133 : decode cX6_steps 133 = .ok (.aload_n 1, 1) := dk_43 (dk_at dksX6_steps_5 16 rfl rfl)
theorem dX6_steps_134 : decode cX6_steps 134 = .ok (.iload 7, 2) := dk_21 7 (dk_at dksX6_steps_5 17 rfl rfl)
theorem dX6_steps_136 : decode cX6_steps 136 = .ok (.iconst 3, 1) := dk_6 (dk_at dksX6_steps_5 19 rfl rfl)
theorem dX6_steps_137 : decode cX6_steps 137 = .ok (.if_icmp .ne 7, 3) := dk_160 0 7 (dk_at dksX6_steps_5 20 rfl rfl)
theorem dX6_steps_140 : decode cX6_steps 140 = .ok (.iconst 1, 1) := dk_4 (dk_at dksX6_steps_5 23 rfl rfl)
theorem dX6_steps_141 : decode cX6_steps 141 = .ok (.goto 4, 3) := dk_167 0 4 (dk_at dksX6_steps_6 0 rfl rfl)
theorem dX6_steps_144 : decode cX6_steps 144 = .ok (.iconst 0, 1) := dk_3 (dk_at dksX6_steps_6 3 rfl rfl)
theorem dX6_steps_145 : decode cX6_steps 145 = .ok (.iload_n 2, 1) := dk_28 (dk_at dksX6_steps_6 4 rfl rfl)
theorem dX6_steps_146 : decode cX6_steps 146 = .ok (.invokevirtual 299, 3) := dk_182 1 43 (dk_at dksX6_steps_6 5 rfl rfl)
theorem dX6_steps_149 : decode cX6_steps 149 = .ok (.aload_n 1, 1) := dk_43 (dk_at dksX6_steps_6 8 rfl rfl)
theorem dX6_steps_150 : decode cX6_steps 150 = .ok (.invokestatic 302, 3) := dk_184 1 46 (dk_at dksX6_steps_6 9 rfl rfl)
theorem dX6_steps_153 : decode cX6_steps 153 = .ok (.istore 5, 2) := dk_54 5 (dk_at dksX6_steps_6 12 rfl rfl)
theorem dX6_steps_155 : decode cX6_steps 155 = .ok (.iinc 6 1, 3) := dk_132 6 1 (dk_at dksX6_steps_6 14 rfl rfl)
theorem dX6_steps_158 : decode cX6_steps 158 = .ok (.goto (-94), 3) := dk_167 255 162 (dk_at dksX6_steps_6 17 rfl rfl)
theorem dX6_steps_161 : decode cX6_steps 161 = .ok (.iload 5, 2) := dk_21 5 (dk_at dksX6_steps_6 20 rfl rfl)
theorem dX6_steps_163 : decode cX6_steps 163 = .ok (.ifCond .eq 7, 3) := dk_153 0 7 (dk_at dksX6_steps_7 0 rfl rfl)
theorem dX6_steps_166 : decode cX6_steps 166 = .ok (.aload_n 1, 1) := dk_43 (dk_at dksX6_steps_7 3 rfl rfl)
theorem dX6_steps_167 : decode cX6_steps 167 = .ok (.iconst 0, 1) := dk_3 (dk_at dksX6_steps_7 4 rfl rfl)
theorem dX6_steps_168 : decode cX6_steps 168 = .ok (.lload_n 3, 1) := dk_33 (dk_at dksX6_steps_7 5 rfl rfl)
theorem dX6_steps_169 : decode cX6_steps 169 = .ok (.lastore, 1) := dk_80 (dk_at dksX6_steps_7 6 rfl rfl)
theorem dX6_steps_170 : decode cX6_steps 170 = .ok (.iconst 0, 1) := dk_3 (dk_at dksX6_steps_7 7 rfl rfl)
theorem dX6_steps_171 : decode cX6_steps 171 = .ok (.istore 6, 2) := dk_54 6 (dk_at dksX6_steps_7 8 rfl rfl)
theorem dX6_steps_173 : decode cX6_steps 173 = .ok (.iload 6, 2) := dk_21 6 (dk_at dksX6_steps_7 10 rfl rfl)
theorem dX6_steps_175 : decode cX6_steps 175 = .ok (.bipush 21, 2) := dk_16 21 (dk_at dksX6_steps_7 12 rfl rfl)
theorem dX6_steps_177 : decode cX6_steps 177 = .ok (.if_icmp .ge 25, 3) := dk_162 0 25 (dk_at dksX6_steps_7 14 rfl rfl)
theorem dX6_steps_180 : decode cX6_steps 180 = .ok (.iload 5, 2) := dk_21 5 (dk_at dksX6_steps_7 17 rfl rfl)
theorem dX6_steps_182 : decode cX6_steps 182 = .ok (.ifCond .ne 20, 3) := dk_154 0 20 (dk_at dksX6_steps_7 19 rfl rfl)
theorem dX6_steps_185 : decode cX6_steps 185 = .ok (.aload_n 1, 1) := dk_43 (dk_at dksX6_steps_7 22 rfl rfl)
theorem dX6_steps_186 : decode cX6_steps 186 = .ok (.iload 6, 2) := dk_21 6 (dk_at dksX6_steps_8 0 rfl rfl)
theorem dX6_steps_188 : decode cX6_steps 188 = .ok (.aload_n 0, 1) := dk_42 (dk_at dksX6_steps_8 2 rfl rfl)
theorem dX6_steps_189 : decode cX6_steps 189 = .ok (.getfield 48, 3) := dk_180 0 48 (dk_at dksX6_steps_8 3 rfl rfl)
theorem dX6_steps_192 : decode cX6_steps 192 = .ok (.iload 6, 2) := dk_21 6 (dk_at dksX6_steps_8 6 rfl rfl)
theorem dX6_steps_194 : decode cX6_steps 194 = .ok (.laload, 1) := dk_47 (dk_at dksX6_steps_8 8 rfl rfl)
theorem dX6_steps_195 : decode cX6_steps 195 = .ok (.lastore, 1) := dk_80 (dk_at dksX6_steps_8 9 rfl rfl)
theorem dX6_steps_196 : decode cX6_steps 196 = .ok (.iinc 6 1, 3) := dk_132 6 1 (dk_at dksX6_steps_8 10 rfl rfl)
theorem dX6_steps_199 : decode cX6_steps 199 = .ok (.goto (-26), 3) := dk_167 255 230 (dk_at dksX6_steps_8 13 rfl rfl)
theorem dX6_steps_202 : decode cX6_steps 202 = .ok (.iload 5, 2) := dk_21 5 (dk_at dksX6_steps_8 16 rfl rfl)
theorem dX6_steps_204 : decode cX6_steps 204 = .ok (.ireturn, 1) := dk_172 (dk_at dksX6_steps_8 18 rfl rfl)
abbrev cX6_partOf : ByteArray := prog_25_method_49_code
def yX6_partOf : MethodName := ⟨RX6, "partOf", "(JI)I"⟩
def dkwX6_partOf_2 : List UInt8 := [167, 0, 4, 5, 172]
abbrev dktX6_partOf_2 : List UInt8 := dkwX6_partOf_2 ++ []
def dkwX6_partOf_1 : List UInt8 := [172, 30, 10, 148, 154, 0, 14, 28, 4, 160, 0, 7, 3, 167, 0, 4, 6, 172, 28, 4, 160, 0, 7, 4]
abbrev dktX6_partOf_1 : List UInt8 := dkwX6_partOf_1 ++ dktX6_partOf_2
def dkwX6_partOf_0 : List UInt8 := [30, 9, 148, 154, 0, 22, 28, 154, 0, 7, 3, 167, 0, 13, 28, 4, 160, 0, 7, 4, 167, 0, 4, 2]
abbrev dktX6_partOf_0 : List UInt8 := dkwX6_partOf_0 ++ dktX6_partOf_1
theorem dksX6_partOf_0 : cX6_partOf.data.toList.drop 0 = dktX6_partOf_0 := by decide +kernel
theorem dksX6_partOf_1 : cX6_partOf.data.toList.drop 24 = dktX6_partOf_1 := dk_seg dksX6_partOf_0 24 rfl rfl
theorem dksX6_partOf_2 : cX6_partOf.data.toList.drop 48 = dktX6_partOf_2 := dk_seg dksX6_partOf_1 24 rfl rfl
theorem dX6_partOf_0 : decode cX6_partOf 0 = .ok (.lload_n 0, 1) := dk_30 (dk_at dksX6_partOf_0 0 rfl rfl)
theorem dX6_partOf_1 : decode cX6_partOf 1 = .ok (.lconst 0, 1) := dk_9 (dk_at dksX6_partOf_0 1 rfl rfl)
theorem dX6_partOf_2 : decode cX6_partOf 2 = .ok (.lcmp, 1) := dk_148 (dk_at dksX6_partOf_0 2 rfl rfl)
theorem dX6_partOf_3 : decode cX6_partOf 3 = .ok (.ifCond .ne 22, 3) := dk_154 0 22 (dk_at dksX6_partOf_0 3 rfl rfl)
theorem dX6_partOf_6 : decode cX6_partOf 6 = .ok (.iload_n 2, 1) := dk_28 (dk_at dksX6_partOf_0 6 rfl rfl)
theorem dX6_partOf_7 : decode cX6_partOf 7 = .ok (.ifCond .ne 7, 3) := dk_154 0 7 (dk_at dksX6_partOf_0 7 rfl rfl)
theorem dX6_partOf_10 : decode cX6_partOf 10 = .ok (.iconst 0, 1) := dk_3 (dk_at dksX6_partOf_0 10 rfl rfl)
theorem dX6_partOf_11 : decode cX6_partOf 11 = .ok (.goto 13, 3) := dk_167 0 13 (dk_at dksX6_partOf_0 11 rfl rfl)
theorem dX6_partOf_14 : decode cX6_partOf 14 = .ok (.iload_n 2, 1) := dk_28 (dk_at dksX6_partOf_0 14 rfl rfl)
theorem dX6_partOf_15 : decode cX6_partOf 15 = .ok (.iconst 1, 1) := dk_4 (dk_at dksX6_partOf_0 15 rfl rfl)
theorem dX6_partOf_16 : decode cX6_partOf 16 = .ok (.if_icmp .ne 7, 3) := dk_160 0 7 (dk_at dksX6_partOf_0 16 rfl rfl)
theorem dX6_partOf_19 : decode cX6_partOf 19 = .ok (.iconst 1, 1) := dk_4 (dk_at dksX6_partOf_0 19 rfl rfl)
theorem dX6_partOf_20 : decode cX6_partOf 20 = .ok (.goto 4, 3) := dk_167 0 4 (dk_at dksX6_partOf_0 20 rfl rfl)
theorem dX6_partOf_23 : decode cX6_partOf 23 = .ok (.iconst (-1), 1) := dk_2 (dk_at dksX6_partOf_0 23 rfl rfl)
theorem dX6_partOf_24 : decode cX6_partOf 24 = .ok (.ireturn, 1) := dk_172 (dk_at dksX6_partOf_1 0 rfl rfl)
theorem dX6_partOf_25 : decode cX6_partOf 25 = .ok (.lload_n 0, 1) := dk_30 (dk_at dksX6_partOf_1 1 rfl rfl)
theorem dX6_partOf_26 : decode cX6_partOf 26 = .ok (.lconst 1, 1) := dk_10 (dk_at dksX6_partOf_1 2 rfl rfl)
theorem dX6_partOf_27 : decode cX6_partOf 27 = .ok (.lcmp, 1) := dk_148 (dk_at dksX6_partOf_1 3 rfl rfl)
theorem dX6_partOf_28 : decode cX6_partOf 28 = .ok (.ifCond .ne 14, 3) := dk_154 0 14 (dk_at dksX6_partOf_1 4 rfl rfl)
theorem dX6_partOf_31 : decode cX6_partOf 31 = .ok (.iload_n 2, 1) := dk_28 (dk_at dksX6_partOf_1 7 rfl rfl)
theorem dX6_partOf_32 : decode cX6_partOf 32 = .ok (.iconst 1, 1) := dk_4 (dk_at dksX6_partOf_1 8 rfl rfl)
theorem dX6_partOf_33 : decode cX6_partOf 33 = .ok (.if_icmp .ne 7, 3) := dk_160 0 7 (dk_at dksX6_partOf_1 9 rfl rfl)
theorem dX6_partOf_36 : decode cX6_partOf 36 = .ok (.iconst 0, 1) := dk_3 (dk_at dksX6_partOf_1 12 rfl rfl)
theorem dX6_partOf_37 : decode cX6_partOf 37 = .ok (.goto 4, 3) := dk_167 0 4 (dk_at dksX6_partOf_1 13 rfl rfl)
theorem dX6_partOf_40 : decode cX6_partOf 40 = .ok (.iconst 3, 1) := dk_6 (dk_at dksX6_partOf_1 16 rfl rfl)
theorem dX6_partOf_41 : decode cX6_partOf 41 = .ok (.ireturn, 1) := dk_172 (dk_at dksX6_partOf_1 17 rfl rfl)
theorem dX6_partOf_42 : decode cX6_partOf 42 = .ok (.iload_n 2, 1) := dk_28 (dk_at dksX6_partOf_1 18 rfl rfl)
theorem dX6_partOf_43 : decode cX6_partOf 43 = .ok (.iconst 1, 1) := dk_4 (dk_at dksX6_partOf_1 19 rfl rfl)
theorem dX6_partOf_44 : decode cX6_partOf 44 = .ok (.if_icmp .ne 7, 3) := dk_160 0 7 (dk_at dksX6_partOf_1 20 rfl rfl)
theorem dX6_partOf_47 : decode cX6_partOf 47 = .ok (.iconst 1, 1) := dk_4 (dk_at dksX6_partOf_1 23 rfl rfl)
theorem dX6_partOf_48 : decode cX6_partOf 48 = .ok (.goto 4, 3) := dk_167 0 4 (dk_at dksX6_partOf_2 0 rfl rfl)
theorem dX6_partOf_51 : decode cX6_partOf 51 = .ok (.iconst 2, 1) := dk_5 (dk_at dksX6_partOf_2 3 rfl rfl)
theorem dX6_partOf_52 : decode cX6_partOf 52 = .ok (.ireturn, 1) := dk_172 (dk_at dksX6_partOf_2 4 rfl rfl)
abbrev cX6_kicks : ByteArray := prog_25_method_46_code
def yX6_kicks : MethodName := ⟨RX6, "kicks", "([JZZ)V"⟩
def dkwX6_kicks_7 : List UInt8 := [167, 255, 189, 132, 4, 1, 167, 255, 174, 177]
abbrev dktX6_kicks_7 : List UInt8 := dkwX6_kicks_7 ++ []
def dkwX6_kicks_6 : List UInt8 := [184, 0, 79, 92, 47, 42, 180, 0, 45, 5, 21, 4, 104, 21, 5, 96, 47, 101, 80, 132, 5, 1]
abbrev dktX6_kicks_6 : List UInt8 := dkwX6_kicks_6 ++ dktX6_kicks_7
def dkwX6_kicks_5 : List UInt8 := [180, 0, 45, 5, 21, 4, 104, 21, 5, 96, 47, 97, 80, 43, 21, 4, 184, 0, 255, 6, 21, 5, 96]
abbrev dktX6_kicks_5 : List UInt8 := dkwX6_kicks_5 ++ dktX6_kicks_6
def dkwX6_kicks_4 : List UInt8 := [21, 5, 5, 162, 0, 67, 43, 21, 4, 184, 0, 252, 6, 21, 5, 96, 184, 0, 79, 92, 47, 42]
abbrev dktX6_kicks_4 : List UInt8 := dkwX6_kicks_4 ++ dktX6_kicks_5
def dkwX6_kicks_3 : List UInt8 := [132, 5, 1, 167, 255, 195, 132, 4, 1, 167, 255, 180, 3, 54, 4, 21, 4, 6, 162, 0, 82, 3, 54, 5]
abbrev dktX6_kicks_3 : List UInt8 := dkwX6_kicks_3 ++ dktX6_kicks_4
def dkwX6_kicks_2 : List UInt8 := [180, 0, 45, 5, 21, 4, 104, 21, 5, 96, 29, 153, 0, 9, 22, 6, 117, 167, 0, 5, 22, 6, 80]
abbrev dktX6_kicks_2 : List UInt8 := dkwX6_kicks_2 ++ dktX6_kicks_3
def dkwX6_kicks_1 : List UInt8 := [182, 1, 21, 55, 6, 28, 153, 0, 12, 22, 6, 20, 0, 203, 109, 167, 0, 5, 22, 6, 55, 6, 42]
abbrev dktX6_kicks_1 : List UInt8 := dkwX6_kicks_1 ++ dktX6_kicks_2
def dkwX6_kicks_0 : List UInt8 := [3, 54, 4, 21, 4, 6, 162, 0, 76, 3, 54, 5, 21, 5, 5, 162, 0, 61, 42, 43, 21, 4, 21, 5]
abbrev dktX6_kicks_0 : List UInt8 := dkwX6_kicks_0 ++ dktX6_kicks_1
theorem dksX6_kicks_0 : cX6_kicks.data.toList.drop 0 = dktX6_kicks_0 := by decide +kernel
theorem dksX6_kicks_1 : cX6_kicks.data.toList.drop 24 = dktX6_kicks_1 := dk_seg dksX6_kicks_0 24 rfl rfl
theorem dksX6_kicks_2 : cX6_kicks.data.toList.drop 47 = dktX6_kicks_2 := dk_seg dksX6_kicks_1 23 rfl rfl
theorem dksX6_kicks_3 : cX6_kicks.data.toList.drop 70 = dktX6_kicks_3 := dk_seg dksX6_kicks_2 23 rfl rfl
theorem dksX6_kicks_4 : cX6_kicks.data.toList.drop 94 = dktX6_kicks_4 := dk_seg dksX6_kicks_3 24 rfl rfl
theorem dksX6_kicks_5 : cX6_kicks.data.toList.drop 116 = dktX6_kicks_5 := dk_seg dksX6_kicks_4 22 rfl rfl
theorem dksX6_kicks_6 : cX6_kicks.data.toList.drop 139 = dktX6_kicks_6 := dk_seg dksX6_kicks_5 23 rfl rfl
theorem dksX6_kicks_7 : cX6_kicks.data.toList.drop 161 = dktX6_kicks_7 := dk_seg dksX6_kicks_6 22 rfl rfl
theorem dX6_kicks_0 : decode cX6_kicks 0 = .ok (.iconst 0, 1) := dk_3 (dk_at dksX6_kicks_0 0 rfl rfl)
theorem dX6_kicks_1 : decode cX6_kicks 1 = .ok (.istore 4, 2) := dk_54 4 (dk_at dksX6_kicks_0 1 rfl rfl)
theorem dX6_kicks_3 : decode cX6_kicks 3 = .ok (.iload 4, 2) := dk_21 4 (dk_at dksX6_kicks_0 3 rfl rfl)
theorem dX6_kicks_5 : decode cX6_kicks 5 = .ok (.iconst 3, 1) := dk_6 (dk_at dksX6_kicks_0 5 rfl rfl)
theorem dX6_kicks_6 : decode cX6_kicks 6 = .ok (.if_icmp .ge 76, 3) := dk_162 0 76 (dk_at dksX6_kicks_0 6 rfl rfl)
theorem dX6_kicks_9 : decode cX6_kicks 9 = .ok (.iconst 0, 1) := dk_3 (dk_at dksX6_kicks_0 9 rfl rfl)
theorem dX6_kicks_10 : decode cX6_kicks 10 = .ok (.istore 5, 2) := dk_54 5 (dk_at dksX6_kicks_0 10 rfl rfl)
theorem dX6_kicks_12 : decode cX6_kicks 12 = .ok (.iload 5, 2) := dk_21 5 (dk_at dksX6_kicks_0 12 rfl rfl)
theorem dX6_kicks_14 : decode cX6_kicks 14 = .ok (.iconst 2, 1) := dk_5 (dk_at dksX6_kicks_0 14 rfl rfl)
theorem dX6_kicks_15 : decode cX6_kicks 15 = .ok (.if_icmp .ge 61, 3) := dk_162 0 61 (dk_at dksX6_kicks_0 15 rfl rfl)
theorem dX6_kicks_18 : decode cX6_kicks 18 = .ok (.aload_n 0, 1) := dk_42 (dk_at dksX6_kicks_0 18 rfl rfl)
theorem dX6_kicks_19 : decode cX6_kicks 19 = .ok (.aload_n 1, 1) := dk_43 (dk_at dksX6_kicks_0 19 rfl rfl)
theorem dX6_kicks_20 : decode cX6_kicks 20 = .ok (.iload 4, 2) := dk_21 4 (dk_at dksX6_kicks_0 20 rfl rfl)
theorem dX6_kicks_22 : decode cX6_kicks 22 = .ok (.iload 5, 2) := dk_21 5 (dk_at dksX6_kicks_0 22 rfl rfl)
theorem dX6_kicks_24 : decode cX6_kicks 24 = .ok (.invokevirtual 277, 3) := dk_182 1 21 (dk_at dksX6_kicks_1 0 rfl rfl)
theorem dX6_kicks_27 : decode cX6_kicks 27 = .ok (.lstore 6, 2) := dk_55 6 (dk_at dksX6_kicks_1 3 rfl rfl)
theorem dX6_kicks_29 : decode cX6_kicks 29 = .ok (.iload_n 2, 1) := dk_28 (dk_at dksX6_kicks_1 5 rfl rfl)
theorem dX6_kicks_30 : decode cX6_kicks 30 = .ok (.ifCond .eq 12, 3) := dk_153 0 12 (dk_at dksX6_kicks_1 6 rfl rfl)
theorem dX6_kicks_33 : decode cX6_kicks 33 = .ok (.lload 6, 2) := dk_22 6 (dk_at dksX6_kicks_1 9 rfl rfl)
theorem dX6_kicks_35 : decode cX6_kicks 35 = .ok (.ldc2_w 203, 3) := dk_20 0 203 (dk_at dksX6_kicks_1 11 rfl rfl)
theorem dX6_kicks_38 : decode cX6_kicks 38 = .ok (.ldiv, 1) := dk_109 (dk_at dksX6_kicks_1 14 rfl rfl)
theorem dX6_kicks_39 : decode cX6_kicks 39 = .ok (.goto 5, 3) := dk_167 0 5 (dk_at dksX6_kicks_1 15 rfl rfl)
theorem dX6_kicks_42 : decode cX6_kicks 42 = .ok (.lload 6, 2) := dk_22 6 (dk_at dksX6_kicks_1 18 rfl rfl)
theorem dX6_kicks_44 : decode cX6_kicks 44 = .ok (.lstore 6, 2) := dk_55 6 (dk_at dksX6_kicks_1 20 rfl rfl)
theorem dX6_kicks_46 : decode cX6_kicks 46 = .ok (.aload_n 0, 1) := dk_42 (dk_at dksX6_kicks_1 22 rfl rfl)
theorem dX6_kicks_47 : decode cX6_kicks 47 = .ok (.getfield 45, 3) := dk_180 0 45 (dk_at dksX6_kicks_2 0 rfl rfl)
theorem dX6_kicks_50 : decode cX6_kicks 50 = .ok (.iconst 2, 1) := dk_5 (dk_at dksX6_kicks_2 3 rfl rfl)
theorem dX6_kicks_51 : decode cX6_kicks 51 = .ok (.iload 4, 2) := dk_21 4 (dk_at dksX6_kicks_2 4 rfl rfl)
theorem dX6_kicks_53 : decode cX6_kicks 53 = .ok (.imul, 1) := dk_104 (dk_at dksX6_kicks_2 6 rfl rfl)
theorem dX6_kicks_54 : decode cX6_kicks 54 = .ok (.iload 5, 2) := dk_21 5 (dk_at dksX6_kicks_2 7 rfl rfl)
theorem dX6_kicks_56 : decode cX6_kicks 56 = .ok (.iadd, 1) := dk_96 (dk_at dksX6_kicks_2 9 rfl rfl)
theorem dX6_kicks_57 : decode cX6_kicks 57 = .ok (.iload_n 3, 1) := dk_29 (dk_at dksX6_kicks_2 10 rfl rfl)
theorem dX6_kicks_58 : decode cX6_kicks 58 = .ok (.ifCond .eq 9, 3) := dk_153 0 9 (dk_at dksX6_kicks_2 11 rfl rfl)
theorem dX6_kicks_61 : decode cX6_kicks 61 = .ok (.lload 6, 2) := dk_22 6 (dk_at dksX6_kicks_2 14 rfl rfl)
theorem dX6_kicks_63 : decode cX6_kicks 63 = .ok (.lneg, 1) := dk_117 (dk_at dksX6_kicks_2 16 rfl rfl)
theorem dX6_kicks_64 : decode cX6_kicks 64 = .ok (.goto 5, 3) := dk_167 0 5 (dk_at dksX6_kicks_2 17 rfl rfl)
theorem dX6_kicks_67 : decode cX6_kicks 67 = .ok (.lload 6, 2) := dk_22 6 (dk_at dksX6_kicks_2 20 rfl rfl)
theorem dX6_kicks_69 : decode cX6_kicks 69 = .ok (.lastore, 1) := dk_80 (dk_at dksX6_kicks_2 22 rfl rfl)
theorem dX6_kicks_70 : decode cX6_kicks 70 = .ok (.iinc 5 1, 3) := dk_132 5 1 (dk_at dksX6_kicks_3 0 rfl rfl)
theorem dX6_kicks_73 : decode cX6_kicks 73 = .ok (.goto (-61), 3) := dk_167 255 195 (dk_at dksX6_kicks_3 3 rfl rfl)
theorem dX6_kicks_76 : decode cX6_kicks 76 = .ok (.iinc 4 1, 3) := dk_132 4 1 (dk_at dksX6_kicks_3 6 rfl rfl)
theorem dX6_kicks_79 : decode cX6_kicks 79 = .ok (.goto (-76), 3) := dk_167 255 180 (dk_at dksX6_kicks_3 9 rfl rfl)
theorem dX6_kicks_82 : decode cX6_kicks 82 = .ok (.iconst 0, 1) := dk_3 (dk_at dksX6_kicks_3 12 rfl rfl)
theorem dX6_kicks_83 : decode cX6_kicks 83 = .ok (.istore 4, 2) := dk_54 4 (dk_at dksX6_kicks_3 13 rfl rfl)
theorem dX6_kicks_85 : decode cX6_kicks 85 = .ok (.iload 4, 2) := dk_21 4 (dk_at dksX6_kicks_3 15 rfl rfl)
theorem dX6_kicks_87 : decode cX6_kicks 87 = .ok (.iconst 3, 1) := dk_6 (dk_at dksX6_kicks_3 17 rfl rfl)
theorem dX6_kicks_88 : decode cX6_kicks 88 = .ok (.if_icmp .ge 82, 3) := dk_162 0 82 (dk_at dksX6_kicks_3 18 rfl rfl)
theorem dX6_kicks_91 : decode cX6_kicks 91 = .ok (.iconst 0, 1) := dk_3 (dk_at dksX6_kicks_3 21 rfl rfl)
theorem dX6_kicks_92 : decode cX6_kicks 92 = .ok (.istore 5, 2) := dk_54 5 (dk_at dksX6_kicks_3 22 rfl rfl)
theorem dX6_kicks_94 : decode cX6_kicks 94 = .ok (.iload 5, 2) := dk_21 5 (dk_at dksX6_kicks_4 0 rfl rfl)
theorem dX6_kicks_96 : decode cX6_kicks 96 = .ok (.iconst 2, 1) := dk_5 (dk_at dksX6_kicks_4 2 rfl rfl)
theorem dX6_kicks_97 : decode cX6_kicks 97 = .ok (.if_icmp .ge 67, 3) := dk_162 0 67 (dk_at dksX6_kicks_4 3 rfl rfl)
theorem dX6_kicks_100 : decode cX6_kicks 100 = .ok (.aload_n 1, 1) := dk_43 (dk_at dksX6_kicks_4 6 rfl rfl)
theorem dX6_kicks_101 : decode cX6_kicks 101 = .ok (.iload 4, 2) := dk_21 4 (dk_at dksX6_kicks_4 7 rfl rfl)
theorem dX6_kicks_103 : decode cX6_kicks 103 = .ok (.invokestatic 252, 3) := dk_184 0 252 (dk_at dksX6_kicks_4 9 rfl rfl)
theorem dX6_kicks_106 : decode cX6_kicks 106 = .ok (.iconst 3, 1) := dk_6 (dk_at dksX6_kicks_4 12 rfl rfl)
theorem dX6_kicks_107 : decode cX6_kicks 107 = .ok (.iload 5, 2) := dk_21 5 (dk_at dksX6_kicks_4 13 rfl rfl)
theorem dX6_kicks_109 : decode cX6_kicks 109 = .ok (.iadd, 1) := dk_96 (dk_at dksX6_kicks_4 15 rfl rfl)
theorem dX6_kicks_110 : decode cX6_kicks 110 = .ok (.invokestatic 79, 3) := dk_184 0 79 (dk_at dksX6_kicks_4 16 rfl rfl)
theorem dX6_kicks_113 : decode cX6_kicks 113 = .ok (.dup2, 1) := dk_92 (dk_at dksX6_kicks_4 19 rfl rfl)
theorem dX6_kicks_114 : decode cX6_kicks 114 = .ok (.laload, 1) := dk_47 (dk_at dksX6_kicks_4 20 rfl rfl)
theorem dX6_kicks_115 : decode cX6_kicks 115 = .ok (.aload_n 0, 1) := dk_42 (dk_at dksX6_kicks_4 21 rfl rfl)
theorem dX6_kicks_116 : decode cX6_kicks 116 = .ok (.getfield 45, 3) := dk_180 0 45 (dk_at dksX6_kicks_5 0 rfl rfl)
theorem dX6_kicks_119 : decode cX6_kicks 119 = .ok (.iconst 2, 1) := dk_5 (dk_at dksX6_kicks_5 3 rfl rfl)
theorem dX6_kicks_120 : decode cX6_kicks 120 = .ok (.iload 4, 2) := dk_21 4 (dk_at dksX6_kicks_5 4 rfl rfl)
theorem dX6_kicks_122 : decode cX6_kicks 122 = .ok (.imul, 1) := dk_104 (dk_at dksX6_kicks_5 6 rfl rfl)
theorem dX6_kicks_123 : decode cX6_kicks 123 = .ok (.iload 5, 2) := dk_21 5 (dk_at dksX6_kicks_5 7 rfl rfl)
theorem dX6_kicks_125 : decode cX6_kicks 125 = .ok (.iadd, 1) := dk_96 (dk_at dksX6_kicks_5 9 rfl rfl)
theorem dX6_kicks_126 : decode cX6_kicks 126 = .ok (.laload, 1) := dk_47 (dk_at dksX6_kicks_5 10 rfl rfl)
theorem dX6_kicks_127 : decode cX6_kicks 127 = .ok (.ladd, 1) := dk_97 (dk_at dksX6_kicks_5 11 rfl rfl)
theorem dX6_kicks_128 : decode cX6_kicks 128 = .ok (.lastore, 1) := dk_80 (dk_at dksX6_kicks_5 12 rfl rfl)
theorem dX6_kicks_129 : decode cX6_kicks 129 = .ok (.aload_n 1, 1) := dk_43 (dk_at dksX6_kicks_5 13 rfl rfl)
theorem dX6_kicks_130 : decode cX6_kicks 130 = .ok (.iload 4, 2) := dk_21 4 (dk_at dksX6_kicks_5 14 rfl rfl)
theorem dX6_kicks_132 : decode cX6_kicks 132 = .ok (.invokestatic 255, 3) := dk_184 0 255 (dk_at dksX6_kicks_5 16 rfl rfl)
theorem dX6_kicks_135 : decode cX6_kicks 135 = .ok (.iconst 3, 1) := dk_6 (dk_at dksX6_kicks_5 19 rfl rfl)
theorem dX6_kicks_136 : decode cX6_kicks 136 = .ok (.iload 5, 2) := dk_21 5 (dk_at dksX6_kicks_5 20 rfl rfl)
theorem dX6_kicks_138 : decode cX6_kicks 138 = .ok (.iadd, 1) := dk_96 (dk_at dksX6_kicks_5 22 rfl rfl)
theorem dX6_kicks_139 : decode cX6_kicks 139 = .ok (.invokestatic 79, 3) := dk_184 0 79 (dk_at dksX6_kicks_6 0 rfl rfl)
theorem dX6_kicks_142 : decode cX6_kicks 142 = .ok (.dup2, 1) := dk_92 (dk_at dksX6_kicks_6 3 rfl rfl)
theorem dX6_kicks_143 : decode cX6_kicks 143 = .ok (.laload, 1) := dk_47 (dk_at dksX6_kicks_6 4 rfl rfl)
theorem dX6_kicks_144 : decode cX6_kicks 144 = .ok (.aload_n 0, 1) := dk_42 (dk_at dksX6_kicks_6 5 rfl rfl)
theorem dX6_kicks_145 : decode cX6_kicks 145 = .ok (.getfield 45, 3) := dk_180 0 45 (dk_at dksX6_kicks_6 6 rfl rfl)
theorem dX6_kicks_148 : decode cX6_kicks 148 = .ok (.iconst 2, 1) := dk_5 (dk_at dksX6_kicks_6 9 rfl rfl)
theorem dX6_kicks_149 : decode cX6_kicks 149 = .ok (.iload 4, 2) := dk_21 4 (dk_at dksX6_kicks_6 10 rfl rfl)
theorem dX6_kicks_151 : decode cX6_kicks 151 = .ok (.imul, 1) := dk_104 (dk_at dksX6_kicks_6 12 rfl rfl)
theorem dX6_kicks_152 : decode cX6_kicks 152 = .ok (.iload 5, 2) := dk_21 5 (dk_at dksX6_kicks_6 13 rfl rfl)
theorem dX6_kicks_154 : decode cX6_kicks 154 = .ok (.iadd, 1) := dk_96 (dk_at dksX6_kicks_6 15 rfl rfl)
theorem dX6_kicks_155 : decode cX6_kicks 155 = .ok (.laload, 1) := dk_47 (dk_at dksX6_kicks_6 16 rfl rfl)
theorem dX6_kicks_156 : decode cX6_kicks 156 = .ok (.lsub, 1) := dk_101 (dk_at dksX6_kicks_6 17 rfl rfl)
theorem dX6_kicks_157 : decode cX6_kicks 157 = .ok (.lastore, 1) := dk_80 (dk_at dksX6_kicks_6 18 rfl rfl)
theorem dX6_kicks_158 : decode cX6_kicks 158 = .ok (.iinc 5 1, 3) := dk_132 5 1 (dk_at dksX6_kicks_6 19 rfl rfl)
theorem dX6_kicks_161 : decode cX6_kicks 161 = .ok (.goto (-67), 3) := dk_167 255 189 (dk_at dksX6_kicks_7 0 rfl rfl)
theorem dX6_kicks_164 : decode cX6_kicks 164 = .ok (.iinc 4 1, 3) := dk_132 4 1 (dk_at dksX6_kicks_7 3 rfl rfl)
theorem dX6_kicks_167 : decode cX6_kicks 167 = .ok (.goto (-82), 3) := dk_167 255 174 (dk_at dksX6_kicks_7 6 rfl rfl)
theorem dX6_kicks_170 : decode cX6_kicks 170 = .ok (.return_, 1) := dk_177 (dk_at dksX6_kicks_7 9 rfl rfl)
abbrev cX6_drifts : ByteArray := prog_25_method_47_code
def yX6_drifts : MethodName := ⟨RX6, "drifts", "([JZZ)V"⟩
def dkwX6_drifts_4 : List UInt8 := [132, 5, 1, 167, 255, 171, 132, 4, 1, 167, 255, 156, 177]
abbrev dktX6_drifts_4 : List UInt8 := dkwX6_drifts_4 ++ []
def dkwX6_drifts_3 : List UInt8 := [4, 21, 5, 96, 184, 0, 79, 92, 47, 29, 153, 0, 9, 22, 6, 117, 167, 0, 5, 22, 6, 97, 80]
abbrev dktX6_drifts_3 : List UInt8 := dkwX6_drifts_3 ++ dktX6_drifts_4
def dkwX6_drifts_2 : List UInt8 := [184, 0, 79, 47, 105, 167, 0, 11, 43, 21, 4, 3, 184, 0, 79, 47, 184, 1, 18, 55, 6, 43, 21, 4]
abbrev dktX6_drifts_2 : List UInt8 := dkwX6_drifts_2 ++ dktX6_drifts_3
def dkwX6_drifts_1 : List UInt8 := [43, 21, 4, 6, 21, 5, 96, 184, 0, 79, 47, 105, 28, 153, 0, 18, 20, 0, 203, 43, 21, 4, 3]
abbrev dktX6_drifts_1 : List UInt8 := dkwX6_drifts_1 ++ dktX6_drifts_2
def dkwX6_drifts_0 : List UInt8 := [3, 54, 4, 21, 4, 6, 162, 0, 100, 3, 54, 5, 21, 5, 5, 162, 0, 85, 42, 180, 0, 28, 5, 47]
abbrev dktX6_drifts_0 : List UInt8 := dkwX6_drifts_0 ++ dktX6_drifts_1
theorem dksX6_drifts_0 : cX6_drifts.data.toList.drop 0 = dktX6_drifts_0 := by decide +kernel
theorem dksX6_drifts_1 : cX6_drifts.data.toList.drop 24 = dktX6_drifts_1 := dk_seg dksX6_drifts_0 24 rfl rfl
theorem dksX6_drifts_2 : cX6_drifts.data.toList.drop 47 = dktX6_drifts_2 := dk_seg dksX6_drifts_1 23 rfl rfl
theorem dksX6_drifts_3 : cX6_drifts.data.toList.drop 71 = dktX6_drifts_3 := dk_seg dksX6_drifts_2 24 rfl rfl
theorem dksX6_drifts_4 : cX6_drifts.data.toList.drop 94 = dktX6_drifts_4 := dk_seg dksX6_drifts_3 23 rfl rfl
theorem dX6_drifts_0 : decode cX6_drifts 0 = .ok (.iconst 0, 1) := dk_3 (dk_at dksX6_drifts_0 0 rfl rfl)
theorem dX6_drifts_1 : decode cX6_drifts 1 = .ok (.istore 4, 2) := dk_54 4 (dk_at dksX6_drifts_0 1 rfl rfl)
theorem dX6_drifts_3 : decode cX6_drifts 3 = .ok (.iload 4, 2) := dk_21 4 (dk_at dksX6_drifts_0 3 rfl rfl)
theorem dX6_drifts_5 : decode cX6_drifts 5 = .ok (.iconst 3, 1) := dk_6 (dk_at dksX6_drifts_0 5 rfl rfl)
theorem dX6_drifts_6 : decode cX6_drifts 6 = .ok (.if_icmp .ge 100, 3) := dk_162 0 100 (dk_at dksX6_drifts_0 6 rfl rfl)
theorem dX6_drifts_9 : decode cX6_drifts 9 = .ok (.iconst 0, 1) := dk_3 (dk_at dksX6_drifts_0 9 rfl rfl)
theorem dX6_drifts_10 : decode cX6_drifts 10 = .ok (.istore 5, 2) := dk_54 5 (dk_at dksX6_drifts_0 10 rfl rfl)
theorem dX6_drifts_12 : decode cX6_drifts 12 = .ok (.iload 5, 2) := dk_21 5 (dk_at dksX6_drifts_0 12 rfl rfl)
theorem dX6_drifts_14 : decode cX6_drifts 14 = .ok (.iconst 2, 1) := dk_5 (dk_at dksX6_drifts_0 14 rfl rfl)
theorem dX6_drifts_15 : decode cX6_drifts 15 = .ok (.if_icmp .ge 85, 3) := dk_162 0 85 (dk_at dksX6_drifts_0 15 rfl rfl)
theorem dX6_drifts_18 : decode cX6_drifts 18 = .ok (.aload_n 0, 1) := dk_42 (dk_at dksX6_drifts_0 18 rfl rfl)
theorem dX6_drifts_19 : decode cX6_drifts 19 = .ok (.getfield 28, 3) := dk_180 0 28 (dk_at dksX6_drifts_0 19 rfl rfl)
theorem dX6_drifts_22 : decode cX6_drifts 22 = .ok (.iconst 2, 1) := dk_5 (dk_at dksX6_drifts_0 22 rfl rfl)
theorem dX6_drifts_23 : decode cX6_drifts 23 = .ok (.laload, 1) := dk_47 (dk_at dksX6_drifts_0 23 rfl rfl)
theorem dX6_drifts_24 : decode cX6_drifts 24 = .ok (.aload_n 1, 1) := dk_43 (dk_at dksX6_drifts_1 0 rfl rfl)
theorem dX6_drifts_25 : decode cX6_drifts 25 = .ok (.iload 4, 2) := dk_21 4 (dk_at dksX6_drifts_1 1 rfl rfl)
theorem dX6_drifts_27 : decode cX6_drifts 27 = .ok (.iconst 3, 1) := dk_6 (dk_at dksX6_drifts_1 3 rfl rfl)
theorem dX6_drifts_28 : decode cX6_drifts 28 = .ok (.iload 5, 2) := dk_21 5 (dk_at dksX6_drifts_1 4 rfl rfl)
theorem dX6_drifts_30 : decode cX6_drifts 30 = .ok (.iadd, 1) := dk_96 (dk_at dksX6_drifts_1 6 rfl rfl)
theorem dX6_drifts_31 : decode cX6_drifts 31 = .ok (.invokestatic 79, 3) := dk_184 0 79 (dk_at dksX6_drifts_1 7 rfl rfl)
theorem dX6_drifts_34 : decode cX6_drifts 34 = .ok (.laload, 1) := dk_47 (dk_at dksX6_drifts_1 10 rfl rfl)
theorem dX6_drifts_35 : decode cX6_drifts 35 = .ok (.lmul, 1) := dk_105 (dk_at dksX6_drifts_1 11 rfl rfl)
theorem dX6_drifts_36 : decode cX6_drifts 36 = .ok (.iload_n 2, 1) := dk_28 (dk_at dksX6_drifts_1 12 rfl rfl)
theorem dX6_drifts_37 : decode cX6_drifts 37 = .ok (.ifCond .eq 18, 3) := dk_153 0 18 (dk_at dksX6_drifts_1 13 rfl rfl)
theorem dX6_drifts_40 : decode cX6_drifts 40 = .ok (.ldc2_w 203, 3) := dk_20 0 203 (dk_at dksX6_drifts_1 16 rfl rfl)
theorem dX6_drifts_43 : decode cX6_drifts 43 = .ok (.aload_n 1, 1) := dk_43 (dk_at dksX6_drifts_1 19 rfl rfl)
theorem dX6_drifts_44 : decode cX6_drifts 44 = .ok (.iload 4, 2) := dk_21 4 (dk_at dksX6_drifts_1 20 rfl rfl)
theorem dX6_drifts_46 : decode cX6_drifts 46 = .ok (.iconst 0, 1) := dk_3 (dk_at dksX6_drifts_1 22 rfl rfl)
theorem dX6_drifts_47 : decode cX6_drifts 47 = .ok (.invokestatic 79, 3) := dk_184 0 79 (dk_at dksX6_drifts_2 0 rfl rfl)
theorem dX6_drifts_50 : decode cX6_drifts 50 = .ok (.laload, 1) := dk_47 (dk_at dksX6_drifts_2 3 rfl rfl)
theorem dX6_drifts_51 : decode cX6_drifts 51 = .ok (.lmul, 1) := dk_105 (dk_at dksX6_drifts_2 4 rfl rfl)
theorem dX6_drifts_52 : decode cX6_drifts 52 = .ok (.goto 11, 3) := dk_167 0 11 (dk_at dksX6_drifts_2 5 rfl rfl)
theorem dX6_drifts_55 : decode cX6_drifts 55 = .ok (.aload_n 1, 1) := dk_43 (dk_at dksX6_drifts_2 8 rfl rfl)
theorem dX6_drifts_56 : decode cX6_drifts 56 = .ok (.iload 4, 2) := dk_21 4 (dk_at dksX6_drifts_2 9 rfl rfl)
theorem dX6_drifts_58 : decode cX6_drifts 58 = .ok (.iconst 0, 1) := dk_3 (dk_at dksX6_drifts_2 11 rfl rfl)
theorem dX6_drifts_59 : decode cX6_drifts 59 = .ok (.invokestatic 79, 3) := dk_184 0 79 (dk_at dksX6_drifts_2 12 rfl rfl)
theorem dX6_drifts_62 : decode cX6_drifts 62 = .ok (.laload, 1) := dk_47 (dk_at dksX6_drifts_2 15 rfl rfl)
theorem dX6_drifts_63 : decode cX6_drifts 63 = .ok (.invokestatic 274, 3) := dk_184 1 18 (dk_at dksX6_drifts_2 16 rfl rfl)
theorem dX6_drifts_66 : decode cX6_drifts 66 = .ok (.lstore 6, 2) := dk_55 6 (dk_at dksX6_drifts_2 19 rfl rfl)
theorem dX6_drifts_68 : decode cX6_drifts 68 = .ok (.aload_n 1, 1) := dk_43 (dk_at dksX6_drifts_2 21 rfl rfl)
theorem dX6_drifts_69 : decode cX6_drifts 69 = .ok (.iload 4, 2) := dk_21 4 (dk_at dksX6_drifts_2 22 rfl rfl)
theorem dX6_drifts_71 : decode cX6_drifts 71 = .ok (.iconst 1, 1) := dk_4 (dk_at dksX6_drifts_3 0 rfl rfl)
theorem dX6_drifts_72 : decode cX6_drifts 72 = .ok (.iload 5, 2) := dk_21 5 (dk_at dksX6_drifts_3 1 rfl rfl)
theorem dX6_drifts_74 : decode cX6_drifts 74 = .ok (.iadd, 1) := dk_96 (dk_at dksX6_drifts_3 3 rfl rfl)
theorem dX6_drifts_75 : decode cX6_drifts 75 = .ok (.invokestatic 79, 3) := dk_184 0 79 (dk_at dksX6_drifts_3 4 rfl rfl)
theorem dX6_drifts_78 : decode cX6_drifts 78 = .ok (.dup2, 1) := dk_92 (dk_at dksX6_drifts_3 7 rfl rfl)
theorem dX6_drifts_79 : decode cX6_drifts 79 = .ok (.laload, 1) := dk_47 (dk_at dksX6_drifts_3 8 rfl rfl)
theorem dX6_drifts_80 : decode cX6_drifts 80 = .ok (.iload_n 3, 1) := dk_29 (dk_at dksX6_drifts_3 9 rfl rfl)
theorem dX6_drifts_81 : decode cX6_drifts 81 = .ok (.ifCond .eq 9, 3) := dk_153 0 9 (dk_at dksX6_drifts_3 10 rfl rfl)
theorem dX6_drifts_84 : decode cX6_drifts 84 = .ok (.lload 6, 2) := dk_22 6 (dk_at dksX6_drifts_3 13 rfl rfl)
theorem dX6_drifts_86 : decode cX6_drifts 86 = .ok (.lneg, 1) := dk_117 (dk_at dksX6_drifts_3 15 rfl rfl)
theorem dX6_drifts_87 : decode cX6_drifts 87 = .ok (.goto 5, 3) := dk_167 0 5 (dk_at dksX6_drifts_3 16 rfl rfl)
theorem dX6_drifts_90 : decode cX6_drifts 90 = .ok (.lload 6, 2) := dk_22 6 (dk_at dksX6_drifts_3 19 rfl rfl)
theorem dX6_drifts_92 : decode cX6_drifts 92 = .ok (.ladd, 1) := dk_97 (dk_at dksX6_drifts_3 21 rfl rfl)
theorem dX6_drifts_93 : decode cX6_drifts 93 = .ok (.lastore, 1) := dk_80 (dk_at dksX6_drifts_3 22 rfl rfl)
theorem dX6_drifts_94 : decode cX6_drifts 94 = .ok (.iinc 5 1, 3) := dk_132 5 1 (dk_at dksX6_drifts_4 0 rfl rfl)
theorem dX6_drifts_97 : decode cX6_drifts 97 = .ok (.goto (-85), 3) := dk_167 255 171 (dk_at dksX6_drifts_4 3 rfl rfl)
theorem dX6_drifts_100 : decode cX6_drifts 100 = .ok (.iinc 4 1, 3) := dk_132 4 1 (dk_at dksX6_drifts_4 6 rfl rfl)
theorem dX6_drifts_103 : decode cX6_drifts 103 = .ok (.goto (-100), 3) := dk_167 255 156 (dk_at dksX6_drifts_4 9 rfl rfl)
theorem dX6_drifts_106 : decode cX6_drifts 106 = .ok (.return_, 1) := dk_177 (dk_at dksX6_drifts_4 12 rfl rfl)
abbrev cX6_isIn : ByteArray := prog_25_method_48_code
def yX6_isIn : MethodName := ⟨RX6, "isIn", "([J)Z"⟩
def dkwX6_isIn_3 : List UInt8 := [172]
abbrev dktX6_isIn_3 : List UInt8 := dkwX6_isIn_3 ++ []
def dkwX6_isIn_2 : List UInt8 := [20, 0, 153, 184, 0, 183, 154, 0, 5, 3, 172, 132, 2, 1, 167, 255, 204, 132, 1, 1, 167, 255, 191, 4]
abbrev dktX6_isIn_2 : List UInt8 := dkwX6_isIn_2 ++ dktX6_isIn_3
def dkwX6_isIn_1 : List UInt8 := [20, 1, 25, 20, 0, 230, 184, 0, 183, 153, 0, 24, 42, 27, 6, 28, 96, 184, 0, 79, 47, 20, 1, 27]
abbrev dktX6_isIn_1 : List UInt8 := dkwX6_isIn_1 ++ dktX6_isIn_2
def dkwX6_isIn_0 : List UInt8 := [3, 60, 27, 6, 162, 0, 66, 3, 61, 28, 5, 162, 0, 53, 42, 27, 4, 28, 96, 184, 0, 79, 47]
abbrev dktX6_isIn_0 : List UInt8 := dkwX6_isIn_0 ++ dktX6_isIn_1
theorem dksX6_isIn_0 : cX6_isIn.data.toList.drop 0 = dktX6_isIn_0 := by decide +kernel
theorem dksX6_isIn_1 : cX6_isIn.data.toList.drop 23 = dktX6_isIn_1 := dk_seg dksX6_isIn_0 23 rfl rfl
theorem dksX6_isIn_2 : cX6_isIn.data.toList.drop 47 = dktX6_isIn_2 := dk_seg dksX6_isIn_1 24 rfl rfl
theorem dksX6_isIn_3 : cX6_isIn.data.toList.drop 71 = dktX6_isIn_3 := dk_seg dksX6_isIn_2 24 rfl rfl
theorem dX6_isIn_0 : decode cX6_isIn 0 = .ok (.iconst 0, 1) := dk_3 (dk_at dksX6_isIn_0 0 rfl rfl)
theorem dX6_isIn_1 : decode cX6_isIn 1 = .ok (.istore_n 1, 1) := dk_60 (dk_at dksX6_isIn_0 1 rfl rfl)
theorem dX6_isIn_2 : decode cX6_isIn 2 = .ok (.iload_n 1, 1) := dk_27 (dk_at dksX6_isIn_0 2 rfl rfl)
theorem dX6_isIn_3 : decode cX6_isIn 3 = .ok (.iconst 3, 1) := dk_6 (dk_at dksX6_isIn_0 3 rfl rfl)
theorem dX6_isIn_4 : decode cX6_isIn 4 = .ok (.if_icmp .ge 66, 3) := dk_162 0 66 (dk_at dksX6_isIn_0 4 rfl rfl)
theorem dX6_isIn_7 : decode cX6_isIn 7 = .ok (.iconst 0, 1) := dk_3 (dk_at dksX6_isIn_0 7 rfl rfl)
theorem dX6_isIn_8 : decode cX6_isIn 8 = .ok (.istore_n 2, 1) := dk_61 (dk_at dksX6_isIn_0 8 rfl rfl)
theorem dX6_isIn_9 : decode cX6_isIn 9 = .ok (.iload_n 2, 1) := dk_28 (dk_at dksX6_isIn_0 9 rfl rfl)
theorem dX6_isIn_10 : decode cX6_isIn 10 = .ok (.iconst 2, 1) := dk_5 (dk_at dksX6_isIn_0 10 rfl rfl)
theorem dX6_isIn_11 : decode cX6_isIn 11 = .ok (.if_icmp .ge 53, 3) := dk_162 0 53 (dk_at dksX6_isIn_0 11 rfl rfl)
theorem dX6_isIn_14 : decode cX6_isIn 14 = .ok (.aload_n 0, 1) := dk_42 (dk_at dksX6_isIn_0 14 rfl rfl)
theorem dX6_isIn_15 : decode cX6_isIn 15 = .ok (.iload_n 1, 1) := dk_27 (dk_at dksX6_isIn_0 15 rfl rfl)
theorem dX6_isIn_16 : decode cX6_isIn 16 = .ok (.iconst 1, 1) := dk_4 (dk_at dksX6_isIn_0 16 rfl rfl)
theorem dX6_isIn_17 : decode cX6_isIn 17 = .ok (.iload_n 2, 1) := dk_28 (dk_at dksX6_isIn_0 17 rfl rfl)
theorem dX6_isIn_18 : decode cX6_isIn 18 = .ok (.iadd, 1) := dk_96 (dk_at dksX6_isIn_0 18 rfl rfl)
theorem dX6_isIn_19 : decode cX6_isIn 19 = .ok (.invokestatic 79, 3) := dk_184 0 79 (dk_at dksX6_isIn_0 19 rfl rfl)
theorem dX6_isIn_22 : decode cX6_isIn 22 = .ok (.laload, 1) := dk_47 (dk_at dksX6_isIn_0 22 rfl rfl)
theorem dX6_isIn_23 : decode cX6_isIn 23 = .ok (.ldc2_w 281, 3) := dk_20 1 25 (dk_at dksX6_isIn_1 0 rfl rfl)
theorem dX6_isIn_26 : decode cX6_isIn 26 = .ok (.ldc2_w 230, 3) := dk_20 0 230 (dk_at dksX6_isIn_1 3 rfl rfl)
theorem dX6_isIn_29 : decode cX6_isIn 29 = .ok (.invokestatic 183, 3) := dk_184 0 183 (dk_at dksX6_isIn_1 6 rfl rfl)
theorem dX6_isIn_32 : decode cX6_isIn 32 = .ok (.ifCond .eq 24, 3) := dk_153 0 24 (dk_at dksX6_isIn_1 9 rfl rfl)
theorem dX6_isIn_35 : decode cX6_isIn 35 = .ok (.aload_n 0, 1) := dk_42 (dk_at dksX6_isIn_1 12 rfl rfl)
theorem dX6_isIn_36 : decode cX6_isIn 36 = .ok (.iload_n 1, 1) := dk_27 (dk_at dksX6_isIn_1 13 rfl rfl)
theorem dX6_isIn_37 : decode cX6_isIn 37 = .ok (.iconst 3, 1) := dk_6 (dk_at dksX6_isIn_1 14 rfl rfl)
theorem dX6_isIn_38 : decode cX6_isIn 38 = .ok (.iload_n 2, 1) := dk_28 (dk_at dksX6_isIn_1 15 rfl rfl)
theorem dX6_isIn_39 : decode cX6_isIn 39 = .ok (.iadd, 1) := dk_96 (dk_at dksX6_isIn_1 16 rfl rfl)
theorem dX6_isIn_40 : decode cX6_isIn 40 = .ok (.invokestatic 79, 3) := dk_184 0 79 (dk_at dksX6_isIn_1 17 rfl rfl)
theorem dX6_isIn_43 : decode cX6_isIn 43 = .ok (.laload, 1) := dk_47 (dk_at dksX6_isIn_1 20 rfl rfl)
theorem dX6_isIn_44 : decode cX6_isIn 44 = .ok (.ldc2_w 283, 3) := dk_20 1 27 (dk_at dksX6_isIn_1 21 rfl rfl)
theorem dX6_isIn_47 : decode cX6_isIn 47 = .ok (.ldc2_w 153, 3) := dk_20 0 153 (dk_at dksX6_isIn_2 0 rfl rfl)
theorem dX6_isIn_50 : decode cX6_isIn 50 = .ok (.invokestatic 183, 3) := dk_184 0 183 (dk_at dksX6_isIn_2 3 rfl rfl)
theorem dX6_isIn_53 : decode cX6_isIn 53 = .ok (.ifCond .ne 5, 3) := dk_154 0 5 (dk_at dksX6_isIn_2 6 rfl rfl)
theorem dX6_isIn_56 : decode cX6_isIn 56 = .ok (.iconst 0, 1) := dk_3 (dk_at dksX6_isIn_2 9 rfl rfl)
theorem dX6_isIn_57 : decode cX6_isIn 57 = .ok (.ireturn, 1) := dk_172 (dk_at dksX6_isIn_2 10 rfl rfl)
theorem dX6_isIn_58 : decode cX6_isIn 58 = .ok (.iinc 2 1, 3) := dk_132 2 1 (dk_at dksX6_isIn_2 11 rfl rfl)
theorem dX6_isIn_61 : decode cX6_isIn 61 = .ok (.goto (-52), 3) := dk_167 255 204 (dk_at dksX6_isIn_2 14 rfl rfl)
theorem dX6_isIn_64 : decode cX6_isIn 64 = .ok (.iinc 1 1, 3) := dk_132 1 1 (dk_at dksX6_isIn_2 17 rfl rfl)
theorem dX6_isIn_67 : decode cX6_isIn 67 = .ok (.goto (-65), 3) := dk_167 255 191 (dk_at dksX6_isIn_2 20 rfl rfl)
theorem dX6_isIn_70 : decode cX6_isIn 70 = .ok (.iconst 1, 1) := dk_4 (dk_at dksX6_isIn_2 23 rfl rfl)
theorem dX6_isIn_71 : decode cX6_isIn 71 = .ok (.ireturn, 1) := dk_172 (dk_at dksX6_isIn_3 0 rfl rfl)
abbrev cX6_looks : ByteArray := prog_25_method_53_code
def yX6_looks : MethodName := ⟨RX6, "looks", "()V"⟩
def dkwX6_looks_3 : List UInt8 := [182, 1, 52, 132, 1, 1, 167, 255, 182, 42, 182, 1, 56, 177]
abbrev dktX6_looks_3 : List UInt8 := dkwX6_looks_3 ++ []
def dkwX6_looks_2 : List UInt8 := [32, 42, 180, 0, 28, 6, 47, 148, 157, 0, 17, 42, 42, 180, 0, 7, 3, 47, 10, 101, 27, 32]
abbrev dktX6_looks_2 : List UInt8 := dkwX6_looks_2 ++ dktX6_looks_3
def dkwX6_looks_1 : List UInt8 := [32, 42, 180, 0, 34, 27, 47, 148, 156, 0, 41, 32, 42, 180, 0, 7, 27, 184, 1, 5, 148, 157, 0, 28]
abbrev dktX6_looks_1 : List UInt8 := dkwX6_looks_1 ++ dktX6_looks_2
def dkwX6_looks_0 : List UInt8 := [3, 60, 27, 6, 162, 0, 75, 42, 180, 0, 110, 5, 160, 0, 67, 42, 180, 0, 34, 6, 27, 96, 47, 65]
abbrev dktX6_looks_0 : List UInt8 := dkwX6_looks_0 ++ dktX6_looks_1
theorem dksX6_looks_0 : cX6_looks.data.toList.drop 0 = dktX6_looks_0 := by decide +kernel
theorem dksX6_looks_1 : cX6_looks.data.toList.drop 24 = dktX6_looks_1 := dk_seg dksX6_looks_0 24 rfl rfl
theorem dksX6_looks_2 : cX6_looks.data.toList.drop 48 = dktX6_looks_2 := dk_seg dksX6_looks_1 24 rfl rfl
theorem dksX6_looks_3 : cX6_looks.data.toList.drop 70 = dktX6_looks_3 := dk_seg dksX6_looks_2 22 rfl rfl
theorem dX6_looks_0 : decode cX6_looks 0 = .ok (.iconst 0, 1) := dk_3 (dk_at dksX6_looks_0 0 rfl rfl)
theorem dX6_looks_1 : decode cX6_looks 1 = .ok (.istore_n 1, 1) := dk_60 (dk_at dksX6_looks_0 1 rfl rfl)
theorem dX6_looks_2 : decode cX6_looks 2 = .ok (.iload_n 1, 1) := dk_27 (dk_at dksX6_looks_0 2 rfl rfl)
theorem dX6_looks_3 : decode cX6_looks 3 = .ok (.iconst 3, 1) := dk_6 (dk_at dksX6_looks_0 3 rfl rfl)
theorem dX6_looks_4 : decode cX6_looks 4 = .ok (.if_icmp .ge 75, 3) := dk_162 0 75 (dk_at dksX6_looks_0 4 rfl rfl)
theorem dX6_looks_7 : decode cX6_looks 7 = .ok (.aload_n 0, 1) := dk_42 (dk_at dksX6_looks_0 7 rfl rfl)
theorem dX6_looks_8 : decode cX6_looks 8 = .ok (.getfield 110, 3) := dk_180 0 110 (dk_at dksX6_looks_0 8 rfl rfl)
theorem dX6_looks_11 : decode cX6_looks 11 = .ok (.iconst 2, 1) := dk_5 (dk_at dksX6_looks_0 11 rfl rfl)
theorem dX6_looks_12 : decode cX6_looks 12 = .ok (.if_icmp .ne 67, 3) := dk_160 0 67 (dk_at dksX6_looks_0 12 rfl rfl)
theorem dX6_looks_15 : decode cX6_looks 15 = .ok (.aload_n 0, 1) := dk_42 (dk_at dksX6_looks_0 15 rfl rfl)
theorem dX6_looks_16 : decode cX6_looks 16 = .ok (.getfield 34, 3) := dk_180 0 34 (dk_at dksX6_looks_0 16 rfl rfl)
theorem dX6_looks_19 : decode cX6_looks 19 = .ok (.iconst 3, 1) := dk_6 (dk_at dksX6_looks_0 19 rfl rfl)
theorem dX6_looks_20 : decode cX6_looks 20 = .ok (.iload_n 1, 1) := dk_27 (dk_at dksX6_looks_0 20 rfl rfl)
theorem dX6_looks_21 : decode cX6_looks 21 = .ok (.iadd, 1) := dk_96 (dk_at dksX6_looks_0 21 rfl rfl)
theorem dX6_looks_22 : decode cX6_looks 22 = .ok (.laload, 1) := dk_47 (dk_at dksX6_looks_0 22 rfl rfl)
theorem dX6_looks_23 : decode cX6_looks 23 = .ok (.lstore_n 2, 1) := dk_65 (dk_at dksX6_looks_0 23 rfl rfl)
theorem dX6_looks_24 : decode cX6_looks 24 = .ok (.lload_n 2, 1) := dk_32 (dk_at dksX6_looks_1 0 rfl rfl)
theorem dX6_looks_25 : decode cX6_looks 25 = .ok (.aload_n 0, 1) := dk_42 (dk_at dksX6_looks_1 1 rfl rfl)
theorem dX6_looks_26 : decode cX6_looks 26 = .ok (.getfield 34, 3) := dk_180 0 34 (dk_at dksX6_looks_1 2 rfl rfl)
theorem dX6_looks_29 : decode cX6_looks 29 = .ok (.iload_n 1, 1) := dk_27 (dk_at dksX6_looks_1 5 rfl rfl)
theorem dX6_looks_30 : decode cX6_looks 30 = .ok (.laload, 1) := dk_47 (dk_at dksX6_looks_1 6 rfl rfl)
theorem dX6_looks_31 : decode cX6_looks 31 = .ok (.lcmp, 1) := dk_148 (dk_at dksX6_looks_1 7 rfl rfl)
theorem dX6_looks_32 : decode cX6_looks 32 = .ok (.ifCond .ge 41, 3) := dk_156 0 41 (dk_at dksX6_looks_1 8 rfl rfl)
theorem dX6_looks_35 : decode cX6_looks 35 = .ok (.lload_n 2, 1) := dk_32 (dk_at dksX6_looks_1 11 rfl rfl)
theorem dX6_looks_36 : decode cX6_looks 36 = .ok (.aload_n 0, 1) := dk_42 (dk_at dksX6_looks_1 12 rfl rfl)
theorem dX6_looks_37 : decode cX6_looks 37 = .ok (.getfield 7, 3) := dk_180 0 7 (dk_at dksX6_looks_1 13 rfl rfl)
theorem dX6_looks_40 : decode cX6_looks 40 = .ok (.iload_n 1, 1) := dk_27 (dk_at dksX6_looks_1 16 rfl rfl)
theorem dX6_looks_41 : decode cX6_looks 41 = .ok (.invokestatic 261, 3) := dk_184 1 5 (dk_at dksX6_looks_1 17 rfl rfl)
theorem dX6_looks_44 : decode cX6_looks 44 = .ok (.lcmp, 1) := dk_148 (dk_at dksX6_looks_1 20 rfl rfl)
theorem dX6_looks_45 : decode cX6_looks 45 = .ok (.ifCond .gt 28, 3) := dk_157 0 28 (dk_at dksX6_looks_1 21 rfl rfl)
theorem dX6_looks_48 : decode cX6_looks 48 = .ok (.lload_n 2, 1) := dk_32 (dk_at dksX6_looks_2 0 rfl rfl)
theorem dX6_looks_49 : decode cX6_looks 49 = .ok (.aload_n 0, 1) := dk_42 (dk_at dksX6_looks_2 1 rfl rfl)
theorem dX6_looks_50 : decode cX6_looks 50 = .ok (.getfield 28, 3) := dk_180 0 28 (dk_at dksX6_looks_2 2 rfl rfl)
theorem dX6_looks_53 : decode cX6_looks 53 = .ok (.iconst 3, 1) := dk_6 (dk_at dksX6_looks_2 5 rfl rfl)
theorem dX6_looks_54 : decode cX6_looks 54 = .ok (.laload, 1) := dk_47 (dk_at dksX6_looks_2 6 rfl rfl)
theorem dX6_looks_55 : decode cX6_looks 55 = .ok (.lcmp, 1) := dk_148 (dk_at dksX6_looks_2 7 rfl rfl)
theorem dX6_looks_56 : decode cX6_looks 56 = .ok (.ifCond .gt 17, 3) := dk_157 0 17 (dk_at dksX6_looks_2 8 rfl rfl)
theorem dX6_looks_59 : decode cX6_looks 59 = .ok (.aload_n 0, 1) := dk_42 (dk_at dksX6_looks_2 11 rfl rfl)
theorem dX6_looks_60 : decode cX6_looks 60 = .ok (.aload_n 0, 1) := dk_42 (dk_at dksX6_looks_2 12 rfl rfl)
theorem dX6_looks_61 : decode cX6_looks 61 = .ok (.getfield 7, 3) := dk_180 0 7 (dk_at dksX6_looks_2 13 rfl rfl)
theorem dX6_looks_64 : decode cX6_looks 64 = .ok (.iconst 0, 1) := dk_3 (dk_at dksX6_looks_2 16 rfl rfl)
theorem dX6_looks_65 : decode cX6_looks 65 = .ok (.laload, 1) := dk_47 (dk_at dksX6_looks_2 17 rfl rfl)
theorem dX6_looks_66 : decode cX6_looks 66 = .ok (.lconst 1, 1) := dk_10 (dk_at dksX6_looks_2 18 rfl rfl)
theorem dX6_looks_67 : decode cX6_looks 67 = .ok (.lsub, 1) := dk_101 (dk_at dksX6_looks_2 19 rfl rfl)
theorem dX6_looks_68 : decode cX6_looks 68 = .ok (.iload_n 1, 1) := dk_27 (dk_at dksX6_looks_2 20 rfl rfl)
theorem dX6_looks_69 : decode cX6_looks 69 = .ok (.lload_n 2, 1) := dk_32 (dk_at dksX6_looks_2 21 rfl rfl)
theorem dX6_looks_70 : decode cX6_looks 70 = .ok (.invokevirtual 308, 3) := dk_182 1 52 (dk_at dksX6_looks_3 0 rfl rfl)
theorem dX6_looks_73 : decode cX6_looks 73 = .ok (.iinc 1 1, 3) := dk_132 1 1 (dk_at dksX6_looks_3 3 rfl rfl)
theorem dX6_looks_76 : decode cX6_looks 76 = .ok (.goto (-74), 3) := dk_167 255 182 (dk_at dksX6_looks_3 6 rfl rfl)
theorem dX6_looks_79 : decode cX6_looks 79 = .ok (.aload_n 0, 1) := dk_42 (dk_at dksX6_looks_3 9 rfl rfl)
theorem dX6_looks_80 : decode cX6_looks 80 = .ok (.invokevirtual 312, 3) := dk_182 1 56 (dk_at dksX6_looks_3 10 rfl rfl)
theorem dX6_looks_83 : decode cX6_looks 83 = .ok (.return_, 1) := dk_177 (dk_at dksX6_looks_3 13 rfl rfl)
abbrev cX6_keepsApproach : ByteArray := prog_25_method_52_code
def yX6_keepsApproach : MethodName := ⟨RX6, "keepsApproach", "(JIJ)V"⟩
def dkwX6_keepsApproach_4 : List UInt8 := [5, 96, 22, 4, 80, 42, 180, 0, 7, 8, 92, 47, 10, 97, 80, 177]
abbrev dktX6_keepsApproach_4 : List UInt8 := dkwX6_keepsApproach_4 ++ []
def dkwX6_keepsApproach_3 : List UInt8 := [180, 0, 7, 21, 6, 31, 80, 42, 180, 0, 7, 21, 6, 4, 96, 29, 133, 80, 42, 180, 0, 7, 21, 6]
abbrev dktX6_keepsApproach_3 : List UInt8 := dkwX6_keepsApproach_3 ++ dktX6_keepsApproach_4
def dkwX6_keepsApproach_2 : List UInt8 := [180, 0, 7, 8, 92, 47, 10, 101, 80, 16, 21, 6, 42, 180, 0, 7, 8, 47, 136, 104, 96, 54, 6, 42]
abbrev dktX6_keepsApproach_2 : List UInt8 := dkwX6_keepsApproach_2 ++ dktX6_keepsApproach_3
def dkwX6_keepsApproach_1 : List UInt8 := [42, 180, 0, 7, 21, 6, 6, 100, 42, 180, 0, 7, 21, 6, 47, 80, 132, 6, 1, 167, 255, 230, 42]
abbrev dktX6_keepsApproach_1 : List UInt8 := dkwX6_keepsApproach_1 ++ dktX6_keepsApproach_2
def dkwX6_keepsApproach_0 : List UInt8 := [42, 180, 0, 7, 8, 47, 20, 1, 50, 148, 154, 0, 46, 16, 24, 54, 6, 21, 6, 16, 111, 162, 0, 25]
abbrev dktX6_keepsApproach_0 : List UInt8 := dkwX6_keepsApproach_0 ++ dktX6_keepsApproach_1
theorem dksX6_keepsApproach_0 : cX6_keepsApproach.data.toList.drop 0 = dktX6_keepsApproach_0 := by decide +kernel
theorem dksX6_keepsApproach_1 : cX6_keepsApproach.data.toList.drop 24 = dktX6_keepsApproach_1 := dk_seg dksX6_keepsApproach_0 24 rfl rfl
theorem dksX6_keepsApproach_2 : cX6_keepsApproach.data.toList.drop 47 = dktX6_keepsApproach_2 := dk_seg dksX6_keepsApproach_1 23 rfl rfl
theorem dksX6_keepsApproach_3 : cX6_keepsApproach.data.toList.drop 71 = dktX6_keepsApproach_3 := dk_seg dksX6_keepsApproach_2 24 rfl rfl
theorem dksX6_keepsApproach_4 : cX6_keepsApproach.data.toList.drop 95 = dktX6_keepsApproach_4 := dk_seg dksX6_keepsApproach_3 24 rfl rfl
theorem dX6_keepsApproach_0 : decode cX6_keepsApproach 0 = .ok (.aload_n 0, 1) := dk_42 (dk_at dksX6_keepsApproach_0 0 rfl rfl)
theorem dX6_keepsApproach_1 : decode cX6_keepsApproach 1 = .ok (.getfield 7, 3) := dk_180 0 7 (dk_at dksX6_keepsApproach_0 1 rfl rfl)
theorem dX6_keepsApproach_4 : decode cX6_keepsApproach 4 = .ok (.iconst 5, 1) := dk_8 (dk_at dksX6_keepsApproach_0 4 rfl rfl)
theorem dX6_keepsApproach_5 : decode cX6_keepsApproach 5 = .ok (.laload, 1) := dk_47 (dk_at dksX6_keepsApproach_0 5 rfl rfl)
theorem dX6_keepsApproach_6 : decode cX6_keepsApproach 6 = .ok (.ldc2_w 306, 3) := dk_20 1 50 (dk_at dksX6_keepsApproach_0 6 rfl rfl)
theorem dX6_keepsApproach_9 : decode cX6_keepsApproach 9 = .ok (.lcmp, 1) := dk_148 (dk_at dksX6_keepsApproach_0 9 rfl rfl)
theorem dX6_keepsApproach_10 : decode cX6_keepsApproach 10 = .ok (.ifCond .ne 46, 3) := dk_154 0 46 (dk_at dksX6_keepsApproach_0 10 rfl rfl)
theorem dX6_keepsApproach_13 : decode cX6_keepsApproach 13 = .ok (.bipush 24, 2) := dk_16 24 (dk_at dksX6_keepsApproach_0 13 rfl rfl)
theorem dX6_keepsApproach_15 : decode cX6_keepsApproach 15 = .ok (.istore 6, 2) := dk_54 6 (dk_at dksX6_keepsApproach_0 15 rfl rfl)
theorem dX6_keepsApproach_17 : decode cX6_keepsApproach 17 = .ok (.iload 6, 2) := dk_21 6 (dk_at dksX6_keepsApproach_0 17 rfl rfl)
theorem dX6_keepsApproach_19 : decode cX6_keepsApproach 19 = .ok (.bipush 111, 2) := dk_16 111 (dk_at dksX6_keepsApproach_0 19 rfl rfl)
theorem dX6_keepsApproach_21 : decode cX6_keepsApproach 21 = .ok (.if_icmp .ge 25, 3) := dk_162 0 25 (dk_at dksX6_keepsApproach_0 21 rfl rfl)
theorem dX6_keepsApproach_24 : decode cX6_keepsApproach 24 = .ok (.aload_n 0, 1) := dk_42 (dk_at dksX6_keepsApproach_1 0 rfl rfl)
theorem dX6_keepsApproach_25 : decode cX6_keepsApproach 25 = .ok (.getfield 7, 3) := dk_180 0 7 (dk_at dksX6_keepsApproach_1 1 rfl rfl)
theorem dX6_keepsApproach_28 : decode cX6_keepsApproach 28 = .ok (.iload 6, 2) := dk_21 6 (dk_at dksX6_keepsApproach_1 4 rfl rfl)
theorem dX6_keepsApproach_30 : decode cX6_keepsApproach 30 = .ok (.iconst 3, 1) := dk_6 (dk_at dksX6_keepsApproach_1 6 rfl rfl)
theorem dX6_keepsApproach_31 : decode cX6_keepsApproach 31 = .ok (.isub, 1) := dk_100 (dk_at dksX6_keepsApproach_1 7 rfl rfl)
theorem dX6_keepsApproach_32 : decode cX6_keepsApproach 32 = .ok (.aload_n 0, 1) := dk_42 (dk_at dksX6_keepsApproach_1 8 rfl rfl)
theorem dX6_keepsApproach_33 : decode cX6_keepsApproach 33 = .ok (.getfield 7, 3) := dk_180 0 7 (dk_at dksX6_keepsApproach_1 9 rfl rfl)
theorem dX6_keepsApproach_36 : decode cX6_keepsApproach 36 = .ok (.iload 6, 2) := dk_21 6 (dk_at dksX6_keepsApproach_1 12 rfl rfl)
theorem dX6_keepsApproach_38 : decode cX6_keepsApproach 38 = .ok (.laload, 1) := dk_47 (dk_at dksX6_keepsApproach_1 14 rfl rfl)
theorem dX6_keepsApproach_39 : decode cX6_keepsApproach 39 = .ok (.lastore, 1) := dk_80 (dk_at dksX6_keepsApproach_1 15 rfl rfl)
theorem dX6_keepsApproach_40 : decode cX6_keepsApproach 40 = .ok (.iinc 6 1, 3) := dk_132 6 1 (dk_at dksX6_keepsApproach_1 16 rfl rfl)
theorem dX6_keepsApproach_43 : decode cX6_keepsApproach 43 = .ok (.goto (-26), 3) := dk_167 255 230 (dk_at dksX6_keepsApproach_1 19 rfl rfl)
theorem dX6_keepsApproach_46 : decode cX6_keepsApproach 46 = .ok (.aload_n 0, 1) := dk_42 (dk_at dksX6_keepsApproach_1 22 rfl rfl)
theorem dX6_keepsApproach_47 : decode cX6_keepsApproach 47 = .ok (.getfield 7, 3) := dk_180 0 7 (dk_at dksX6_keepsApproach_2 0 rfl rfl)
theorem dX6_keepsApproach_50 : decode cX6_keepsApproach 50 = .ok (.iconst 5, 1) := dk_8 (dk_at dksX6_keepsApproach_2 3 rfl rfl)
theorem dX6_keepsApproach_51 : decode cX6_keepsApproach 51 = .ok (.dup2, 1) := dk_92 (dk_at dksX6_keepsApproach_2 4 rfl rfl)
theorem dX6_keepsApproach_52 : decode cX6_keepsApproach 52 = .ok (.laload, 1) := dk_47 (dk_at dksX6_keepsApproach_2 5 rfl rfl)
theorem dX6_keepsApproach_53 : decode cX6_keepsApproach 53 = .ok (.lconst 1, 1) := dk_10 (dk_at dksX6_keepsApproach_2 6 rfl rfl)
theorem dX6_keepsApproach_54 : decode cX6_keepsApproach 54 = .ok (.lsub, 1) := dk_101 (dk_at dksX6_keepsApproach_2 7 rfl rfl)
theorem dX6_keepsApproach_55 : decode cX6_keepsApproach 55 = .ok (.lastore, 1) := dk_80 (dk_at dksX6_keepsApproach_2 8 rfl rfl)
theorem dX6_keepsApproach_56 : decode cX6_keepsApproach 56 = .ok (.bipush 21, 2) := dk_16 21 (dk_at dksX6_keepsApproach_2 9 rfl rfl)
theorem dX6_keepsApproach_58 : decode cX6_keepsApproach 58 = .ok (.iconst 3, 1) := dk_6 (dk_at dksX6_keepsApproach_2 11 rfl rfl)
theorem dX6_keepsApproach_59 : decode cX6_keepsApproach 59 = .ok (.aload_n 0, 1) := dk_42 (dk_at dksX6_keepsApproach_2 12 rfl rfl)
theorem dX6_keepsApproach_60 : decode cX6_keepsApproach 60 = .ok (.getfield 7, 3) := dk_180 0 7 (dk_at dksX6_keepsApproach_2 13 rfl rfl)
theorem dX6_keepsApproach_63 : decode cX6_keepsApproach 63 = .ok (.iconst 5, 1) := dk_8 (dk_at dksX6_keepsApproach_2 16 rfl rfl)
theorem dX6_keepsApproach_64 : decode cX6_keepsApproach 64 = .ok (.laload, 1) := dk_47 (dk_at dksX6_keepsApproach_2 17 rfl rfl)
theorem dX6_keepsApproach_65 : decode cX6_keepsApproach 65 = .ok (.l2i, 1) := dk_136 (dk_at dksX6_keepsApproach_2 18 rfl rfl)
theorem dX6_keepsApproach_66 : decode cX6_keepsApproach 66 = .ok (.imul, 1) := dk_104 (dk_at dksX6_keepsApproach_2 19 rfl rfl)
theorem dX6_keepsApproach_67 : decode cX6_keepsApproach 67 = .ok (.iadd, 1) := dk_96 (dk_at dksX6_keepsApproach_2 20 rfl rfl)
theorem dX6_keepsApproach_68 : decode cX6_keepsApproach 68 = .ok (.istore 6, 2) := dk_54 6 (dk_at dksX6_keepsApproach_2 21 rfl rfl)
theorem dX6_keepsApproach_70 : decode cX6_keepsApproach 70 = .ok (.aload_n 0, 1) := dk_42 (dk_at dksX6_keepsApproach_2 23 rfl rfl)
theorem dX6_keepsApproach_71 : decode cX6_keepsApproach 71 = .ok (.getfield 7, 3) := dk_180 0 7 (dk_at dksX6_keepsApproach_3 0 rfl rfl)
theorem dX6_keepsApproach_74 : decode cX6_keepsApproach 74 = .ok (.iload 6, 2) := dk_21 6 (dk_at dksX6_keepsApproach_3 3 rfl rfl)
theorem dX6_keepsApproach_76 : decode cX6_keepsApproach 76 = .ok (.lload_n 1, 1) := dk_31 (dk_at dksX6_keepsApproach_3 5 rfl rfl)
theorem dX6_keepsApproach_77 : decode cX6_keepsApproach 77 = .ok (.lastore, 1) := dk_80 (dk_at dksX6_keepsApproach_3 6 rfl rfl)
theorem dX6_keepsApproach_78 : decode cX6_keepsApproach 78 = .ok (.aload_n 0, 1) := dk_42 (dk_at dksX6_keepsApproach_3 7 rfl rfl)
theorem dX6_keepsApproach_79 : decode cX6_keepsApproach 79 = .ok (.getfield 7, 3) := dk_180 0 7 (dk_at dksX6_keepsApproach_3 8 rfl rfl)
theorem dX6_keepsApproach_82 : decode cX6_keepsApproach 82 = .ok (.iload 6, 2) := dk_21 6 (dk_at dksX6_keepsApproach_3 11 rfl rfl)
theorem dX6_keepsApproach_84 : decode cX6_keepsApproach 84 = .ok (.iconst 1, 1) := dk_4 (dk_at dksX6_keepsApproach_3 13 rfl rfl)
theorem dX6_keepsApproach_85 : decode cX6_keepsApproach 85 = .ok (.iadd, 1) := dk_96 (dk_at dksX6_keepsApproach_3 14 rfl rfl)
theorem dX6_keepsApproach_86 : decode cX6_keepsApproach 86 = .ok (.iload_n 3, 1) := dk_29 (dk_at dksX6_keepsApproach_3 15 rfl rfl)
theorem dX6_keepsApproach_87 : decode cX6_keepsApproach 87 = .ok (.i2l, 1) := dk_133 (dk_at dksX6_keepsApproach_3 16 rfl rfl)
theorem dX6_keepsApproach_88 : decode cX6_keepsApproach 88 = .ok (.lastore, 1) := dk_80 (dk_at dksX6_keepsApproach_3 17 rfl rfl)
theorem dX6_keepsApproach_89 : decode cX6_keepsApproach 89 = .ok (.aload_n 0, 1) := dk_42 (dk_at dksX6_keepsApproach_3 18 rfl rfl)
theorem dX6_keepsApproach_90 : decode cX6_keepsApproach 90 = .ok (.getfield 7, 3) := dk_180 0 7 (dk_at dksX6_keepsApproach_3 19 rfl rfl)
theorem dX6_keepsApproach_93 : decode cX6_keepsApproach 93 = .ok (.iload 6, 2) := dk_21 6 (dk_at dksX6_keepsApproach_3 22 rfl rfl)
theorem dX6_keepsApproach_95 : decode cX6_keepsApproach 95 = .ok (.iconst 2, 1) := dk_5 (dk_at dksX6_keepsApproach_4 0 rfl rfl)
theorem dX6_keepsApproach_96 : decode cX6_keepsApproach 96 = .ok (.iadd, 1) := dk_96 (dk_at dksX6_keepsApproach_4 1 rfl rfl)
theorem dX6_keepsApproach_97 : decode cX6_keepsApproach 97 = .ok (.lload 4, 2) := dk_22 4 (dk_at dksX6_keepsApproach_4 2 rfl rfl)
theorem dX6_keepsApproach_99 : decode cX6_keepsApproach 99 = .ok (.lastore, 1) := dk_80 (dk_at dksX6_keepsApproach_4 4 rfl rfl)
theorem dX6_keepsApproach_100 : decode cX6_keepsApproach 100 = .ok (.aload_n 0, 1) := dk_42 (dk_at dksX6_keepsApproach_4 5 rfl rfl)
theorem dX6_keepsApproach_101 : decode cX6_keepsApproach 101 = .ok (.getfield 7, 3) := dk_180 0 7 (dk_at dksX6_keepsApproach_4 6 rfl rfl)
theorem dX6_keepsApproach_104 : decode cX6_keepsApproach 104 = .ok (.iconst 5, 1) := dk_8 (dk_at dksX6_keepsApproach_4 9 rfl rfl)
theorem dX6_keepsApproach_105 : decode cX6_keepsApproach 105 = .ok (.dup2, 1) := dk_92 (dk_at dksX6_keepsApproach_4 10 rfl rfl)
theorem dX6_keepsApproach_106 : decode cX6_keepsApproach 106 = .ok (.laload, 1) := dk_47 (dk_at dksX6_keepsApproach_4 11 rfl rfl)
theorem dX6_keepsApproach_107 : decode cX6_keepsApproach 107 = .ok (.lconst 1, 1) := dk_10 (dk_at dksX6_keepsApproach_4 12 rfl rfl)
theorem dX6_keepsApproach_108 : decode cX6_keepsApproach 108 = .ok (.ladd, 1) := dk_97 (dk_at dksX6_keepsApproach_4 13 rfl rfl)
theorem dX6_keepsApproach_109 : decode cX6_keepsApproach 109 = .ok (.lastore, 1) := dk_80 (dk_at dksX6_keepsApproach_4 14 rfl rfl)
theorem dX6_keepsApproach_110 : decode cX6_keepsApproach 110 = .ok (.return_, 1) := dk_177 (dk_at dksX6_keepsApproach_4 15 rfl rfl)
abbrev cX6_back : ByteArray := prog_25_method_73_code
def yX6_back : MethodName := ⟨RX6, "back", "(I)I"⟩
def dkwX6_back_2 : List UInt8 := [132, 2, 1, 167, 255, 236, 28, 172]
abbrev dktX6_back_2 : List UInt8 := dkwX6_back_2 ++ []
def dkwX6_back_1 : List UInt8 := [42, 182, 1, 84, 3, 61, 28, 27, 162, 0, 21, 42, 42, 180, 0, 7, 4, 182, 1, 62, 153, 0, 9]
abbrev dktX6_back_1 : List UInt8 := dkwX6_back_1 ++ dktX6_back_2
def dkwX6_back_0 : List UInt8 := [42, 3, 181, 0, 88, 42, 27, 133, 9, 20, 1, 79, 184, 0, 183, 4, 182, 0, 236, 153, 0, 5, 3, 172]
abbrev dktX6_back_0 : List UInt8 := dkwX6_back_0 ++ dktX6_back_1
theorem dksX6_back_0 : cX6_back.data.toList.drop 0 = dktX6_back_0 := by decide +kernel
theorem dksX6_back_1 : cX6_back.data.toList.drop 24 = dktX6_back_1 := dk_seg dksX6_back_0 24 rfl rfl
theorem dksX6_back_2 : cX6_back.data.toList.drop 47 = dktX6_back_2 := dk_seg dksX6_back_1 23 rfl rfl
theorem dX6_back_0 : decode cX6_back 0 = .ok (.aload_n 0, 1) := dk_42 (dk_at dksX6_back_0 0 rfl rfl)
theorem dX6_back_1 : decode cX6_back 1 = .ok (.iconst 0, 1) := dk_3 (dk_at dksX6_back_0 1 rfl rfl)
theorem dX6_back_2 : decode cX6_back 2 = .ok (.putfield 88, 3) := dk_181 0 88 (dk_at dksX6_back_0 2 rfl rfl)
theorem dX6_back_5 : decode cX6_back 5 = .ok (.aload_n 0, 1) := dk_42 (dk_at dksX6_back_0 5 rfl rfl)
theorem dX6_back_6 : decode cX6_back 6 = .ok (.iload_n 1, 1) := dk_27 (dk_at dksX6_back_0 6 rfl rfl)
theorem dX6_back_7 : decode cX6_back 7 = .ok (.i2l, 1) := dk_133 (dk_at dksX6_back_0 7 rfl rfl)
theorem dX6_back_8 : decode cX6_back 8 = .ok (.lconst 0, 1) := dk_9 (dk_at dksX6_back_0 8 rfl rfl)
theorem dX6_back_9 : decode cX6_back 9 = .ok (.ldc2_w 335, 3) := dk_20 1 79 (dk_at dksX6_back_0 9 rfl rfl)
theorem dX6_back_12 : decode cX6_back 12 = .ok (.invokestatic 183, 3) := dk_184 0 183 (dk_at dksX6_back_0 12 rfl rfl)
theorem dX6_back_15 : decode cX6_back 15 = .ok (.iconst 1, 1) := dk_4 (dk_at dksX6_back_0 15 rfl rfl)
theorem dX6_back_16 : decode cX6_back 16 = .ok (.invokevirtual 236, 3) := dk_182 0 236 (dk_at dksX6_back_0 16 rfl rfl)
theorem dX6_back_19 : decode cX6_back 19 = .ok (.ifCond .eq 5, 3) := dk_153 0 5 (dk_at dksX6_back_0 19 rfl rfl)
theorem dX6_back_22 : decode cX6_back 22 = .ok (.iconst 0, 1) := dk_3 (dk_at dksX6_back_0 22 rfl rfl)
theorem dX6_back_23 : decode cX6_back 23 = .ok (.ireturn, 1) := dk_172 (dk_at dksX6_back_0 23 rfl rfl)
theorem dX6_back_24 : decode cX6_back 24 = .ok (.aload_n 0, 1) := dk_42 (dk_at dksX6_back_1 0 rfl rfl)
theorem dX6_back_25 : decode cX6_back 25 = .ok (.invokevirtual 340, 3) := dk_182 1 84 (dk_at dksX6_back_1 1 rfl rfl)
theorem dX6_back_28 : decode cX6_back 28 = .ok (.iconst 0, 1) := dk_3 (dk_at dksX6_back_1 4 rfl rfl)
theorem dX6_back_29 : decode cX6_back 29 = .ok (.istore_n 2, 1) := dk_61 (dk_at dksX6_back_1 5 rfl rfl)
theorem dX6_back_30 : decode cX6_back 30 = .ok (.iload_n 2, 1) := dk_28 (dk_at dksX6_back_1 6 rfl rfl)
theorem dX6_back_31 : decode cX6_back 31 = .ok (.iload_n 1, 1) := dk_27 (dk_at dksX6_back_1 7 rfl rfl)
theorem dX6_back_32 : decode cX6_back 32 = .ok (.if_icmp .ge 21, 3) := dk_162 0 21 (dk_at dksX6_back_1 8 rfl rfl)
theorem dX6_back_35 : decode cX6_back 35 = .ok (.aload_n 0, 1) := dk_42 (dk_at dksX6_back_1 11 rfl rfl)
theorem dX6_back_36 : decode cX6_back 36 = .ok (.aload_n 0, 1) := dk_42 (dk_at dksX6_back_1 12 rfl rfl)
theorem dX6_back_37 : decode cX6_back 37 = .ok (.getfield 7, 3) := dk_180 0 7 (dk_at dksX6_back_1 13 rfl rfl)
theorem dX6_back_40 : decode cX6_back 40 = .ok (.iconst 1, 1) := dk_4 (dk_at dksX6_back_1 16 rfl rfl)
theorem dX6_back_41 : decode cX6_back 41 = .ok (.invokevirtual 318, 3) := dk_182 1 62 (dk_at dksX6_back_1 17 rfl rfl)
theorem dX6_back_44 : decode cX6_back 44 = .ok (.ifCond .eq 9, 3) := dk_153 0 9 (dk_at dksX6_back_1 20 rfl rfl)
theorem dX6_back_47 : decode cX6_back 47 = .ok (.iinc 2 1, 3) := dk_132 2 1 (dk_at dksX6_back_2 0 rfl rfl)
theorem dX6_back_50 : decode cX6_back 50 = .ok (.goto (-20), 3) := dk_167 255 236 (dk_at dksX6_back_2 3 rfl rfl)
theorem dX6_back_53 : decode cX6_back 53 = .ok (.iload_n 2, 1) := dk_28 (dk_at dksX6_back_2 6 rfl rfl)
theorem dX6_back_54 : decode cX6_back 54 = .ok (.ireturn, 1) := dk_172 (dk_at dksX6_back_2 7 rfl rfl)
abbrev cX6_begins : ByteArray := prog_25_method_71_code
def yX6_begins : MethodName := ⟨RX6, "begins", "()V"⟩
def dkwX6_begins_0 : List UInt8 := [42, 182, 1, 76, 42, 3, 181, 0, 110, 177]
abbrev dktX6_begins_0 : List UInt8 := dkwX6_begins_0 ++ []
theorem dksX6_begins_0 : cX6_begins.data.toList.drop 0 = dktX6_begins_0 := by decide +kernel
theorem dX6_begins_0 : decode cX6_begins 0 = .ok (.aload_n 0, 1) := dk_42 (dk_at dksX6_begins_0 0 rfl rfl)
theorem dX6_begins_1 : decode cX6_begins 1 = .ok (.invokevirtual 332, 3) := dk_182 1 76 (dk_at dksX6_begins_0 1 rfl rfl)
theorem dX6_begins_4 : decode cX6_begins 4 = .ok (.aload_n 0, 1) := dk_42 (dk_at dksX6_begins_0 4 rfl rfl)
theorem dX6_begins_5 : decode cX6_begins 5 = .ok (.iconst 0, 1) := dk_3 (dk_at dksX6_begins_0 5 rfl rfl)
theorem dX6_begins_6 : decode cX6_begins 6 = .ok (.putfield 110, 3) := dk_181 0 110 (dk_at dksX6_begins_0 6 rfl rfl)
theorem dX6_begins_9 : decode cX6_begins 9 = .ok (.return_, 1) := dk_177 (dk_at dksX6_begins_0 9 rfl rfl)
abbrev cX6_push : ByteArray := prog_25_method_74_code
def yX6_push : MethodName := ⟨RX6, "push", "(III)I"⟩
def dkwX6_push_4 : List UInt8 := [7, 184, 0, 79, 22, 6, 80, 4, 172]
abbrev dktX6_push_4 : List UInt8 := dkwX6_push_4 ++ []
def dkwX6_push_3 : List UInt8 := [16, 254, 172, 42, 182, 1, 84, 42, 180, 0, 7, 27, 6, 184, 0, 79, 22, 4, 80, 42, 180, 0, 7, 27]
abbrev dktX6_push_3 : List UInt8 := dkwX6_push_3 ++ dktX6_push_4
def dkwX6_push_2 : List UInt8 := [20, 0, 153, 184, 0, 183, 153, 0, 17, 22, 6, 20, 1, 27, 20, 0, 153, 184, 0, 183, 154, 0, 6]
abbrev dktX6_push_2 : List UInt8 := dkwX6_push_2 ++ dktX6_push_3
def dkwX6_push_1 : List UInt8 := [55, 4, 42, 180, 0, 7, 27, 7, 184, 0, 79, 47, 29, 133, 97, 55, 6, 22, 4, 20, 1, 27]
abbrev dktX6_push_1 : List UInt8 := dkwX6_push_1 ++ dktX6_push_2
def dkwX6_push_0 : List UInt8 := [42, 27, 182, 1, 69, 153, 0, 5, 3, 172, 42, 180, 0, 7, 27, 6, 184, 0, 79, 47, 28, 133, 97]
abbrev dktX6_push_0 : List UInt8 := dkwX6_push_0 ++ dktX6_push_1
theorem dksX6_push_0 : cX6_push.data.toList.drop 0 = dktX6_push_0 := by decide +kernel
theorem dksX6_push_1 : cX6_push.data.toList.drop 23 = dktX6_push_1 := dk_seg dksX6_push_0 23 rfl rfl
theorem dksX6_push_2 : cX6_push.data.toList.drop 45 = dktX6_push_2 := dk_seg dksX6_push_1 22 rfl rfl
theorem dksX6_push_3 : cX6_push.data.toList.drop 68 = dktX6_push_3 := dk_seg dksX6_push_2 23 rfl rfl
theorem dksX6_push_4 : cX6_push.data.toList.drop 92 = dktX6_push_4 := dk_seg dksX6_push_3 24 rfl rfl
theorem dX6_push_0 : decode cX6_push 0 = .ok (.aload_n 0, 1) := dk_42 (dk_at dksX6_push_0 0 rfl rfl)
theorem dX6_push_1 : decode cX6_push 1 = .ok (.iload_n 1, 1) := dk_27 (dk_at dksX6_push_0 1 rfl rfl)
theorem dX6_push_2 : decode cX6_push 2 = .ok (.invokevirtual 325, 3) := dk_182 1 69 (dk_at dksX6_push_0 2 rfl rfl)
theorem dX6_push_5 : decode cX6_push 5 = .ok (.ifCond .eq 5, 3) := dk_153 0 5 (dk_at dksX6_push_0 5 rfl rfl)
theorem dX6_push_8 : decode cX6_push 8 = .ok (.iconst 0, 1) := dk_3 (dk_at dksX6_push_0 8 rfl rfl)
theorem dX6_push_9 : decode cX6_push 9 = .ok (.ireturn, 1) := dk_172 (dk_at dksX6_push_0 9 rfl rfl)
theorem dX6_push_10 : decode cX6_push 10 = .ok (.aload_n 0, 1) := dk_42 (dk_at dksX6_push_0 10 rfl rfl)
theorem dX6_push_11 : decode cX6_push 11 = .ok (.getfield 7, 3) := dk_180 0 7 (dk_at dksX6_push_0 11 rfl rfl)
theorem dX6_push_14 : decode cX6_push 14 = .ok (.iload_n 1, 1) := dk_27 (dk_at dksX6_push_0 14 rfl rfl)
theorem dX6_push_15 : decode cX6_push 15 = .ok (.iconst 3, 1) := dk_6 (dk_at dksX6_push_0 15 rfl rfl)
theorem dX6_push_16 : decode cX6_push 16 = .ok (.invokestatic 79, 3) := dk_184 0 79 (dk_at dksX6_push_0 16 rfl rfl)
theorem dX6_push_19 : decode cX6_push 19 = .ok (.laload, 1) := dk_47 (dk_at dksX6_push_0 19 rfl rfl)
theorem dX6_push_20 : decode cX6_push 20 = .ok (.iload_n 2, 1) := dk_28 (dk_at dksX6_push_0 20 rfl rfl)
theorem dX6_push_21 : decode cX6_push 21 = .ok (.i2l, 1) := dk_133 (dk_at dksX6_push_0 21 rfl rfl)
theorem dX6_push_22 : decode cX6_push 22 = .ok (.ladd, 1) := dk_97 (dk_at dksX6_push_0 22 rfl rfl)
theorem dX6_push_23 : decode cX6_push 23 = .ok (.lstore 4, 2) := dk_55 4 (dk_at dksX6_push_1 0 rfl rfl)
theorem dX6_push_25 : decode cX6_push 25 = .ok (.aload_n 0, 1) := dk_42 (dk_at dksX6_push_1 2 rfl rfl)
theorem dX6_push_26 : decode cX6_push 26 = .ok (.getfield 7, 3) := dk_180 0 7 (dk_at dksX6_push_1 3 rfl rfl)
theorem dX6_push_29 : decode cX6_push 29 = .ok (.iload_n 1, 1) := dk_27 (dk_at dksX6_push_1 6 rfl rfl)
theorem dX6_push_30 : decode cX6_push 30 = .ok (.iconst 4, 1) := dk_7 (dk_at dksX6_push_1 7 rfl rfl)
theorem dX6_push_31 : decode cX6_push 31 = .ok (.invokestatic 79, 3) := dk_184 0 79 (dk_at dksX6_push_1 8 rfl rfl)
theorem dX6_push_34 : decode cX6_push 34 = .ok (.laload, 1) := dk_47 (dk_at dksX6_push_1 11 rfl rfl)
theorem dX6_push_35 : decode cX6_push 35 = .ok (.iload_n 3, 1) := dk_29 (dk_at dksX6_push_1 12 rfl rfl)
theorem dX6_push_36 : decode cX6_push 36 = .ok (.i2l, 1) := dk_133 (dk_at dksX6_push_1 13 rfl rfl)
theorem dX6_push_37 : decode cX6_push 37 = .ok (.ladd, 1) := dk_97 (dk_at dksX6_push_1 14 rfl rfl)
theorem dX6_push_38 : decode cX6_push 38 = .ok (.lstore 6, 2) := dk_55 6 (dk_at dksX6_push_1 15 rfl rfl)
theorem dX6_push_40 : decode cX6_push 40 = .ok (.lload 4, 2) := dk_22 4 (dk_at dksX6_push_1 17 rfl rfl)
theorem dX6_push_42 : decode cX6_push 42 = .ok (.ldc2_w 283, 3) := dk_20 1 27 (dk_at dksX6_push_1 19 rfl rfl)
theorem dX6_push_45 : decode cX6_push 45 = .ok (.ldc2_w 153, 3) := dk_20 0 153 (dk_at dksX6_push_2 0 rfl rfl)
theorem dX6_push_48 : decode cX6_push 48 = .ok (.invokestatic 183, 3) := dk_184 0 183 (dk_at dksX6_push_2 3 rfl rfl)
theorem dX6_push_51 : decode cX6_push 51 = .ok (.ifCond .eq 17, 3) := dk_153 0 17 (dk_at dksX6_push_2 6 rfl rfl)
theorem dX6_push_54 : decode cX6_push 54 = .ok (.lload 6, 2) := dk_22 6 (dk_at dksX6_push_2 9 rfl rfl)
theorem dX6_push_56 : decode cX6_push 56 = .ok (.ldc2_w 283, 3) := dk_20 1 27 (dk_at dksX6_push_2 11 rfl rfl)
theorem dX6_push_59 : decode cX6_push 59 = .ok (.ldc2_w 153, 3) := dk_20 0 153 (dk_at dksX6_push_2 14 rfl rfl)
theorem dX6_push_62 : decode cX6_push 62 = .ok (.invokestatic 183, 3) := dk_184 0 183 (dk_at dksX6_push_2 17 rfl rfl)
theorem dX6_push_65 : decode cX6_push 65 = .ok (.ifCond .ne 6, 3) := dk_154 0 6 (dk_at dksX6_push_2 20 rfl rfl)
theorem dX6_push_68 : decode cX6_push 68 = .ok (.bipush (-2), 2) := dk_16 254 (dk_at dksX6_push_3 0 rfl rfl)
theorem dX6_push_70 : decode cX6_push 70 = .ok (.ireturn, 1) := dk_172 (dk_at dksX6_push_3 2 rfl rfl)
theorem dX6_push_71 : decode cX6_push 71 = .ok (.aload_n 0, 1) := dk_42 (dk_at dksX6_push_3 3 rfl rfl)
theorem dX6_push_72 : decode cX6_push 72 = .ok (.invokevirtual 340, 3) := dk_182 1 84 (dk_at dksX6_push_3 4 rfl rfl)
theorem dX6_push_75 : decode cX6_push 75 = .ok (.aload_n 0, 1) := dk_42 (dk_at dksX6_push_3 7 rfl rfl)
theorem dX6_push_76 : decode cX6_push 76 = .ok (.getfield 7, 3) := dk_180 0 7 (dk_at dksX6_push_3 8 rfl rfl)
theorem dX6_push_79 : decode cX6_push 79 = .ok (.iload_n 1, 1) := dk_27 (dk_at dksX6_push_3 11 rfl rfl)
theorem dX6_push_80 : decode cX6_push 80 = .ok (.iconst 3, 1) := dk_6 (dk_at dksX6_push_3 12 rfl rfl)
theorem dX6_push_81 : decode cX6_push 81 = .ok (.invokestatic 79, 3) := dk_184 0 79 (dk_at dksX6_push_3 13 rfl rfl)
theorem dX6_push_84 : decode cX6_push 84 = .ok (.lload 4, 2) := dk_22 4 (dk_at dksX6_push_3 16 rfl rfl)
theorem dX6_push_86 : decode cX6_push 86 = .ok (.lastore, 1) := dk_80 (dk_at dksX6_push_3 18 rfl rfl)
theorem dX6_push_87 : decode cX6_push 87 = .ok (.aload_n 0, 1) := dk_42 (dk_at dksX6_push_3 19 rfl rfl)
theorem dX6_push_88 : decode cX6_push 88 = .ok (.getfield 7, 3) := dk_180 0 7 (dk_at dksX6_push_3 20 rfl rfl)
theorem dX6_push_91 : decode cX6_push 91 = .ok (.iload_n 1, 1) := dk_27 (dk_at dksX6_push_3 23 rfl rfl)
theorem dX6_push_92 : decode cX6_push 92 = .ok (.iconst 4, 1) := dk_7 (dk_at dksX6_push_4 0 rfl rfl)
theorem dX6_push_93 : decode cX6_push 93 = .ok (.invokestatic 79, 3) := dk_184 0 79 (dk_at dksX6_push_4 1 rfl rfl)
theorem dX6_push_96 : decode cX6_push 96 = .ok (.lload 6, 2) := dk_22 6 (dk_at dksX6_push_4 4 rfl rfl)
theorem dX6_push_98 : decode cX6_push 98 = .ok (.lastore, 1) := dk_80 (dk_at dksX6_push_4 6 rfl rfl)
theorem dX6_push_99 : decode cX6_push 99 = .ok (.iconst 1, 1) := dk_4 (dk_at dksX6_push_4 7 rfl rfl)
theorem dX6_push_100 : decode cX6_push 100 = .ok (.ireturn, 1) := dk_172 (dk_at dksX6_push_4 8 rfl rfl)
abbrev cX6_place : ByteArray := prog_25_method_75_code
def yX6_place : MethodName := ⟨RX6, "place", "(III)I"⟩
def dkwX6_place_5 : List UInt8 := [180, 0, 7, 27, 5, 184, 0, 79, 29, 133, 80, 22, 4, 136, 172]
abbrev dktX6_place_5 : List UInt8 := dkwX6_place_5 ++ []
def dkwX6_place_4 : List UInt8 := [5, 184, 0, 79, 47, 101, 184, 1, 2, 55, 4, 42, 180, 0, 7, 27, 4, 184, 0, 79, 28, 133, 80, 42]
abbrev dktX6_place_4 : List UInt8 := dkwX6_place_4 ++ dktX6_place_5
def dkwX6_place_3 : List UInt8 := [42, 182, 1, 84, 28, 133, 42, 180, 0, 7, 27, 4, 184, 0, 79, 47, 101, 29, 133, 42, 180, 0, 7, 27]
abbrev dktX6_place_3 : List UInt8 := dkwX6_place_3 ++ dktX6_place_4
def dkwX6_place_2 : List UInt8 := [153, 0, 5, 3, 172, 42, 42, 180, 0, 7, 27, 28, 133, 29, 133, 182, 1, 87, 153, 0, 6, 16, 253, 172]
abbrev dktX6_place_2 : List UInt8 := dkwX6_place_2 ++ dktX6_place_3
def dkwX6_place_1 : List UInt8 := [133, 20, 1, 25, 20, 0, 230, 184, 0, 183, 153, 0, 7, 4, 167, 0, 4, 3, 5, 182, 0, 236]
abbrev dktX6_place_1 : List UInt8 := dkwX6_place_1 ++ dktX6_place_2
def dkwX6_place_0 : List UInt8 := [42, 27, 182, 1, 69, 154, 0, 44, 42, 28, 133, 20, 1, 25, 20, 0, 230, 184, 0, 183, 153, 0, 21, 29]
abbrev dktX6_place_0 : List UInt8 := dkwX6_place_0 ++ dktX6_place_1
theorem dksX6_place_0 : cX6_place.data.toList.drop 0 = dktX6_place_0 := by decide +kernel
theorem dksX6_place_1 : cX6_place.data.toList.drop 24 = dktX6_place_1 := dk_seg dksX6_place_0 24 rfl rfl
theorem dksX6_place_2 : cX6_place.data.toList.drop 46 = dktX6_place_2 := dk_seg dksX6_place_1 22 rfl rfl
theorem dksX6_place_3 : cX6_place.data.toList.drop 70 = dktX6_place_3 := dk_seg dksX6_place_2 24 rfl rfl
theorem dksX6_place_4 : cX6_place.data.toList.drop 94 = dktX6_place_4 := dk_seg dksX6_place_3 24 rfl rfl
theorem dksX6_place_5 : cX6_place.data.toList.drop 118 = dktX6_place_5 := dk_seg dksX6_place_4 24 rfl rfl
theorem dX6_place_0 : decode cX6_place 0 = .ok (.aload_n 0, 1) := dk_42 (dk_at dksX6_place_0 0 rfl rfl)
theorem dX6_place_1 : decode cX6_place 1 = .ok (.iload_n 1, 1) := dk_27 (dk_at dksX6_place_0 1 rfl rfl)
theorem dX6_place_2 : decode cX6_place 2 = .ok (.invokevirtual 325, 3) := dk_182 1 69 (dk_at dksX6_place_0 2 rfl rfl)
theorem dX6_place_5 : decode cX6_place 5 = .ok (.ifCond .ne 44, 3) := dk_154 0 44 (dk_at dksX6_place_0 5 rfl rfl)
theorem dX6_place_8 : decode cX6_place 8 = .ok (.aload_n 0, 1) := dk_42 (dk_at dksX6_place_0 8 rfl rfl)
theorem dX6_place_9 : decode cX6_place 9 = .ok (.iload_n 2, 1) := dk_28 (dk_at dksX6_place_0 9 rfl rfl)
theorem dX6_place_10 : decode cX6_place 10 = .ok (.i2l, 1) := dk_133 (dk_at dksX6_place_0 10 rfl rfl)
theorem dX6_place_11 : decode cX6_place 11 = .ok (.ldc2_w 281, 3) := dk_20 1 25 (dk_at dksX6_place_0 11 rfl rfl)
theorem dX6_place_14 : decode cX6_place 14 = .ok (.ldc2_w 230, 3) := dk_20 0 230 (dk_at dksX6_place_0 14 rfl rfl)
theorem dX6_place_17 : decode cX6_place 17 = .ok (.invokestatic 183, 3) := dk_184 0 183 (dk_at dksX6_place_0 17 rfl rfl)
theorem dX6_place_20 : decode cX6_place 20 = .ok (.ifCond .eq 21, 3) := dk_153 0 21 (dk_at dksX6_place_0 20 rfl rfl)
theorem dX6_place_23 : decode cX6_place 23 = .ok (.iload_n 3, 1) := dk_29 (dk_at dksX6_place_0 23 rfl rfl)
theorem dX6_place_24 : decode cX6_place 24 = .ok (.i2l, 1) := dk_133 (dk_at dksX6_place_1 0 rfl rfl)
theorem dX6_place_25 : decode cX6_place 25 = .ok (.ldc2_w 281, 3) := dk_20 1 25 (dk_at dksX6_place_1 1 rfl rfl)
theorem dX6_place_28 : decode cX6_place 28 = .ok (.ldc2_w 230, 3) := dk_20 0 230 (dk_at dksX6_place_1 4 rfl rfl)
theorem dX6_place_31 : decode cX6_place 31 = .ok (.invokestatic 183, 3) := dk_184 0 183 (dk_at dksX6_place_1 7 rfl rfl)
theorem dX6_place_34 : decode cX6_place 34 = .ok (.ifCond .eq 7, 3) := dk_153 0 7 (dk_at dksX6_place_1 10 rfl rfl)
theorem dX6_place_37 : decode cX6_place 37 = .ok (.iconst 1, 1) := dk_4 (dk_at dksX6_place_1 13 rfl rfl)
theorem dX6_place_38 : decode cX6_place 38 = .ok (.goto 4, 3) := dk_167 0 4 (dk_at dksX6_place_1 14 rfl rfl)
theorem dX6_place_41 : decode cX6_place 41 = .ok (.iconst 0, 1) := dk_3 (dk_at dksX6_place_1 17 rfl rfl)
theorem dX6_place_42 : decode cX6_place 42 = .ok (.iconst 2, 1) := dk_5 (dk_at dksX6_place_1 18 rfl rfl)
theorem dX6_place_43 : decode cX6_place 43 = .ok (.invokevirtual 236, 3) := dk_182 0 236 (dk_at dksX6_place_1 19 rfl rfl)
theorem dX6_place_46 : decode cX6_place 46 = .ok (.ifCond .eq 5, 3) := dk_153 0 5 (dk_at dksX6_place_2 0 rfl rfl)
theorem dX6_place_49 : decode cX6_place 49 = .ok (.iconst 0, 1) := dk_3 (dk_at dksX6_place_2 3 rfl rfl)
theorem dX6_place_50 : decode cX6_place 50 = .ok (.ireturn, 1) := dk_172 (dk_at dksX6_place_2 4 rfl rfl)
theorem dX6_place_51 : decode cX6_place 51 = .ok (.aload_n 0, 1) := dk_42 (dk_at dksX6_place_2 5 rfl rfl)
theorem dX6_place_52 : decode cX6_place 52 = .ok (.aload_n 0, 1) := dk_42 (dk_at dksX6_place_2 6 rfl rfl)
theorem dX6_place_53 : decode cX6_place 53 = .ok (.getfield 7, 3) := dk_180 0 7 (dk_at dksX6_place_2 7 rfl rfl)
theorem dX6_place_56 : decode cX6_place 56 = .ok (.iload_n 1, 1) := dk_27 (dk_at dksX6_place_2 10 rfl rfl)
theorem dX6_place_57 : decode cX6_place 57 = .ok (.iload_n 2, 1) := dk_28 (dk_at dksX6_place_2 11 rfl rfl)
theorem dX6_place_58 : decode cX6_place 58 = .ok (.i2l, 1) := dk_133 (dk_at dksX6_place_2 12 rfl rfl)
theorem dX6_place_59 : decode cX6_place 59 = .ok (.iload_n 3, 1) := dk_29 (dk_at dksX6_place_2 13 rfl rfl)
theorem dX6_place_60 : decode cX6_place 60 = .ok (.i2l, 1) := dk_133 (dk_at dksX6_place_2 14 rfl rfl)
theorem dX6_place_61 : decode cX6_place 61 = .ok (.invokevirtual 343, 3) := dk_182 1 87 (dk_at dksX6_place_2 15 rfl rfl)
theorem dX6_place_64 : decode cX6_place 64 = .ok (.ifCond .eq 6, 3) := dk_153 0 6 (dk_at dksX6_place_2 18 rfl rfl)
theorem dX6_place_67 : decode cX6_place 67 = .ok (.bipush (-3), 2) := dk_16 253 (dk_at dksX6_place_2 21 rfl rfl)
theorem dX6_place_69 : decode cX6_place 69 = .ok (.ireturn, 1) := dk_172 (dk_at dksX6_place_2 23 rfl rfl)
theorem dX6_place_70 : decode cX6_place 70 = .ok (.aload_n 0, 1) := dk_42 (dk_at dksX6_place_3 0 rfl rfl)
theorem dX6_place_71 : decode cX6_place 71 = .ok (.invokevirtual 340, 3) := dk_182 1 84 (dk_at dksX6_place_3 1 rfl rfl)
theorem dX6_place_74 : decode cX6_place 74 = .ok (.iload_n 2, 1) := dk_28 (dk_at dksX6_place_3 4 rfl rfl)
theorem dX6_place_75 : decode cX6_place 75 = .ok (.i2l, 1) := dk_133 (dk_at dksX6_place_3 5 rfl rfl)
theorem dX6_place_76 : decode cX6_place 76 = .ok (.aload_n 0, 1) := dk_42 (dk_at dksX6_place_3 6 rfl rfl)
theorem dX6_place_77 : decode cX6_place 77 = .ok (.getfield 7, 3) := dk_180 0 7 (dk_at dksX6_place_3 7 rfl rfl)
theorem dX6_place_80 : decode cX6_place 80 = .ok (.iload_n 1, 1) := dk_27 (dk_at dksX6_place_3 10 rfl rfl)
theorem dX6_place_81 : decode cX6_place 81 = .ok (.iconst 1, 1) := dk_4 (dk_at dksX6_place_3 11 rfl rfl)
theorem dX6_place_82 : decode cX6_place 82 = .ok (.invokestatic 79, 3) := dk_184 0 79 (dk_at dksX6_place_3 12 rfl rfl)
theorem dX6_place_85 : decode cX6_place 85 = .ok (.laload, 1) := dk_47 (dk_at dksX6_place_3 15 rfl rfl)
theorem dX6_place_86 : decode cX6_place 86 = .ok (.lsub, 1) := dk_101 (dk_at dksX6_place_3 16 rfl rfl)
theorem dX6_place_87 : decode cX6_place 87 = .ok (.iload_n 3, 1) := dk_29 (dk_at dksX6_place_3 17 rfl rfl)
theorem dX6_place_88 : decode cX6_place 88 = .ok (.i2l, 1) := dk_133 (dk_at dksX6_place_3 18 rfl rfl)
theorem dX6_place_89 : decode cX6_place 89 = .ok (.aload_n 0, 1) := dk_42 (dk_at dksX6_place_3 19 rfl rfl)
theorem dX6_place_90 : decode cX6_place 90 = .ok (.getfield 7, 3) := dk_180 0 7 (dk_at dksX6_place_3 20 rfl rfl)
theorem dX6_place_93 : decode cX6_place 93 = .ok (.iload_n 1, 1) := dk_27 (dk_at dksX6_place_3 23 rfl rfl)
theorem dX6_place_94 : decode cX6_place 94 = .ok (.iconst 2, 1) := dk_5 (dk_at dksX6_place_4 0 rfl rfl)
theorem dX6_place_95 : decode cX6_place 95 = .ok (.invokestatic 79, 3) := dk_184 0 79 (dk_at dksX6_place_4 1 rfl rfl)
theorem dX6_place_98 : decode cX6_place 98 = .ok (.laload, 1) := dk_47 (dk_at dksX6_place_4 4 rfl rfl)
theorem dX6_place_99 : decode cX6_place 99 = .ok (.lsub, 1) := dk_101 (dk_at dksX6_place_4 5 rfl rfl)
theorem dX6_place_100 : decode cX6_place 100 = .ok (.invokestatic 258, 3) := dk_184 1 2 (dk_at dksX6_place_4 6 rfl rfl)
theorem dX6_place_103 : decode cX6_place 103 = .ok (.lstore 4, 2) := dk_55 4 (dk_at dksX6_place_4 9 rfl rfl)
theorem dX6_place_105 : decode cX6_place 105 = .ok (.aload_n 0, 1) := dk_42 (dk_at dksX6_place_4 11 rfl rfl)
theorem dX6_place_106 : decode cX6_place 106 = .ok (.getfield 7, 3) := dk_180 0 7 (dk_at dksX6_place_4 12 rfl rfl)
theorem dX6_place_109 : decode cX6_place 109 = .ok (.iload_n 1, 1) := dk_27 (dk_at dksX6_place_4 15 rfl rfl)
theorem dX6_place_110 : decode cX6_place 110 = .ok (.iconst 1, 1) := dk_4 (dk_at dksX6_place_4 16 rfl rfl)
theorem dX6_place_111 : decode cX6_place 111 = .ok (.invokestatic 79, 3) := dk_184 0 79 (dk_at dksX6_place_4 17 rfl rfl)
theorem dX6_place_114 : decode cX6_place 114 = .ok (.iload_n 2, 1) := dk_28 (dk_at dksX6_place_4 20 rfl rfl)
theorem dX6_place_115 : decode cX6_place 115 = .ok (.i2l, 1) := dk_133 (dk_at dksX6_place_4 21 rfl rfl)
theorem dX6_place_116 : decode cX6_place 116 = .ok (.lastore, 1) := dk_80 (dk_at dksX6_place_4 22 rfl rfl)
theorem dX6_place_117 : decode cX6_place 117 = .ok (.aload_n 0, 1) := dk_42 (dk_at dksX6_place_4 23 rfl rfl)
theorem dX6_place_118 : decode cX6_place 118 = .ok (.getfield 7, 3) := dk_180 0 7 (dk_at dksX6_place_5 0 rfl rfl)
theorem dX6_place_121 : decode cX6_place 121 = .ok (.iload_n 1, 1) := dk_27 (dk_at dksX6_place_5 3 rfl rfl)
theorem dX6_place_122 : decode cX6_place 122 = .ok (.iconst 2, 1) := dk_5 (dk_at dksX6_place_5 4 rfl rfl)
theorem dX6_place_123 : decode cX6_place 123 = .ok (.invokestatic 79, 3) := dk_184 0 79 (dk_at dksX6_place_5 5 rfl rfl)
theorem dX6_place_126 : decode cX6_place 126 = .ok (.iload_n 3, 1) := dk_29 (dk_at dksX6_place_5 8 rfl rfl)
theorem dX6_place_127 : decode cX6_place 127 = .ok (.i2l, 1) := dk_133 (dk_at dksX6_place_5 9 rfl rfl)
theorem dX6_place_128 : decode cX6_place 128 = .ok (.lastore, 1) := dk_80 (dk_at dksX6_place_5 10 rfl rfl)
theorem dX6_place_129 : decode cX6_place 129 = .ok (.lload 4, 2) := dk_22 4 (dk_at dksX6_place_5 11 rfl rfl)
theorem dX6_place_131 : decode cX6_place 131 = .ok (.l2i, 1) := dk_136 (dk_at dksX6_place_5 13 rfl rfl)
theorem dX6_place_132 : decode cX6_place 132 = .ok (.ireturn, 1) := dk_172 (dk_at dksX6_place_5 14 rfl rfl)
abbrev cX6_isTaken : ByteArray := prog_25_method_32_code
def yX6_isTaken : MethodName := ⟨RX6, "isTaken", "([JIJJ)Z"⟩
def dkwX6_isTaken_2 : List UInt8 := [167, 255, 212, 3, 172]
abbrev dktX6_isTaken_2 : List UInt8 := dkwX6_isTaken_2 ++ []
def dkwX6_isTaken_1 : List UInt8 := [148, 154, 0, 19, 43, 21, 7, 5, 184, 0, 79, 47, 22, 5, 148, 154, 0, 5, 4, 172, 132, 7, 1]
abbrev dktX6_isTaken_1 : List UInt8 := dkwX6_isTaken_1 ++ dktX6_isTaken_2
def dkwX6_isTaken_0 : List UInt8 := [3, 54, 7, 21, 7, 6, 162, 0, 44, 21, 7, 28, 159, 0, 32, 43, 21, 7, 4, 184, 0, 79, 47, 33]
abbrev dktX6_isTaken_0 : List UInt8 := dkwX6_isTaken_0 ++ dktX6_isTaken_1
theorem dksX6_isTaken_0 : cX6_isTaken.data.toList.drop 0 = dktX6_isTaken_0 := by decide +kernel
theorem dksX6_isTaken_1 : cX6_isTaken.data.toList.drop 24 = dktX6_isTaken_1 := dk_seg dksX6_isTaken_0 24 rfl rfl
theorem dksX6_isTaken_2 : cX6_isTaken.data.toList.drop 47 = dktX6_isTaken_2 := dk_seg dksX6_isTaken_1 23 rfl rfl
theorem dX6_isTaken_0 : decode cX6_isTaken 0 = .ok (.iconst 0, 1) := dk_3 (dk_at dksX6_isTaken_0 0 rfl rfl)
theorem dX6_isTaken_1 : decode cX6_isTaken 1 = .ok (.istore 7, 2) := dk_54 7 (dk_at dksX6_isTaken_0 1 rfl rfl)
theorem dX6_isTaken_3 : decode cX6_isTaken 3 = .ok (.iload 7, 2) := dk_21 7 (dk_at dksX6_isTaken_0 3 rfl rfl)
theorem dX6_isTaken_5 : decode cX6_isTaken 5 = .ok (.iconst 3, 1) := dk_6 (dk_at dksX6_isTaken_0 5 rfl rfl)
theorem dX6_isTaken_6 : decode cX6_isTaken 6 = .ok (.if_icmp .ge 44, 3) := dk_162 0 44 (dk_at dksX6_isTaken_0 6 rfl rfl)
theorem dX6_isTaken_9 : decode cX6_isTaken 9 = .ok (.iload 7, 2) := dk_21 7 (dk_at dksX6_isTaken_0 9 rfl rfl)
theorem dX6_isTaken_11 : decode cX6_isTaken 11 = .ok (.iload_n 2, 1) := dk_28 (dk_at dksX6_isTaken_0 11 rfl rfl)
theorem dX6_isTaken_12 : decode cX6_isTaken 12 = .ok (.if_icmp .eq 32, 3) := dk_159 0 32 (dk_at dksX6_isTaken_0 12 rfl rfl)
theorem dX6_isTaken_15 : decode cX6_isTaken 15 = .ok (.aload_n 1, 1) := dk_43 (dk_at dksX6_isTaken_0 15 rfl rfl)
theorem dX6_isTaken_16 : decode cX6_isTaken 16 = .ok (.iload 7, 2) := dk_21 7 (dk_at dksX6_isTaken_0 16 rfl rfl)
theorem dX6_isTaken_18 : decode cX6_isTaken 18 = .ok (.iconst 1, 1) := dk_4 (dk_at dksX6_isTaken_0 18 rfl rfl)
theorem dX6_isTaken_19 : decode cX6_isTaken 19 = .ok (.invokestatic 79, 3) := dk_184 0 79 (dk_at dksX6_isTaken_0 19 rfl rfl)
theorem dX6_isTaken_22 : decode cX6_isTaken 22 = .ok (.laload, 1) := dk_47 (dk_at dksX6_isTaken_0 22 rfl rfl)
theorem dX6_isTaken_23 : decode cX6_isTaken 23 = .ok (.lload_n 3, 1) := dk_33 (dk_at dksX6_isTaken_0 23 rfl rfl)
theorem dX6_isTaken_24 : decode cX6_isTaken 24 = .ok (.lcmp, 1) := dk_148 (dk_at dksX6_isTaken_1 0 rfl rfl)
theorem dX6_isTaken_25 : decode cX6_isTaken 25 = .ok (.ifCond .ne 19, 3) := dk_154 0 19 (dk_at dksX6_isTaken_1 1 rfl rfl)
theorem dX6_isTaken_28 : decode cX6_isTaken 28 = .ok (.aload_n 1, 1) := dk_43 (dk_at dksX6_isTaken_1 4 rfl rfl)
theorem dX6_isTaken_29 : decode cX6_isTaken 29 = .ok (.iload 7, 2) := dk_21 7 (dk_at dksX6_isTaken_1 5 rfl rfl)
theorem dX6_isTaken_31 : decode cX6_isTaken 31 = .ok (.iconst 2, 1) := dk_5 (dk_at dksX6_isTaken_1 7 rfl rfl)
theorem dX6_isTaken_32 : decode cX6_isTaken 32 = .ok (.invokestatic 79, 3) := dk_184 0 79 (dk_at dksX6_isTaken_1 8 rfl rfl)
theorem dX6_isTaken_35 : decode cX6_isTaken 35 = .ok (.laload, 1) := dk_47 (dk_at dksX6_isTaken_1 11 rfl rfl)
theorem dX6_isTaken_36 : decode cX6_isTaken 36 = .ok (.lload 5, 2) := dk_22 5 (dk_at dksX6_isTaken_1 12 rfl rfl)
theorem dX6_isTaken_38 : decode cX6_isTaken 38 = .ok (.lcmp, 1) := dk_148 (dk_at dksX6_isTaken_1 14 rfl rfl)
theorem dX6_isTaken_39 : decode cX6_isTaken 39 = .ok (.ifCond .ne 5, 3) := dk_154 0 5 (dk_at dksX6_isTaken_1 15 rfl rfl)
theorem dX6_isTaken_42 : decode cX6_isTaken 42 = .ok (.iconst 1, 1) := dk_4 (dk_at dksX6_isTaken_1 18 rfl rfl)
theorem dX6_isTaken_43 : decode cX6_isTaken 43 = .ok (.ireturn, 1) := dk_172 (dk_at dksX6_isTaken_1 19 rfl rfl)
theorem dX6_isTaken_44 : decode cX6_isTaken 44 = .ok (.iinc 7 1, 3) := dk_132 7 1 (dk_at dksX6_isTaken_1 20 rfl rfl)
theorem dX6_isTaken_47 : decode cX6_isTaken 47 = .ok (.goto (-44), 3) := dk_167 255 212 (dk_at dksX6_isTaken_2 0 rfl rfl)
theorem dX6_isTaken_50 : decode cX6_isTaken 50 = .ok (.iconst 0, 1) := dk_3 (dk_at dksX6_isTaken_2 3 rfl rfl)
theorem dX6_isTaken_51 : decode cX6_isTaken 51 = .ok (.ireturn, 1) := dk_172 (dk_at dksX6_isTaken_2 4 rfl rfl)
abbrev cX6_reverse : ByteArray := prog_25_method_76_code
def yX6_reverse : MethodName := ⟨RX6, "reverse", "()V"⟩
def dkwX6_reverse_2 : List UInt8 := [42, 180, 0, 7, 27, 7, 184, 0, 79, 47, 117, 80, 132, 1, 1, 167, 255, 206, 177]
abbrev dktX6_reverse_2 : List UInt8 := dkwX6_reverse_2 ++ []
def dkwX6_reverse_1 : List UInt8 := [184, 0, 79, 42, 180, 0, 7, 27, 6, 184, 0, 79, 47, 117, 80, 42, 180, 0, 7, 27, 7, 184, 0, 79]
abbrev dktX6_reverse_1 : List UInt8 := dkwX6_reverse_1 ++ dktX6_reverse_2
def dkwX6_reverse_0 : List UInt8 := [42, 3, 181, 0, 88, 42, 182, 1, 84, 3, 60, 27, 6, 162, 0, 51, 42, 180, 0, 7, 27, 6]
abbrev dktX6_reverse_0 : List UInt8 := dkwX6_reverse_0 ++ dktX6_reverse_1
theorem dksX6_reverse_0 : cX6_reverse.data.toList.drop 0 = dktX6_reverse_0 := by decide +kernel
theorem dksX6_reverse_1 : cX6_reverse.data.toList.drop 22 = dktX6_reverse_1 := dk_seg dksX6_reverse_0 22 rfl rfl
theorem dksX6_reverse_2 : cX6_reverse.data.toList.drop 46 = dktX6_reverse_2 := dk_seg dksX6_reverse_1 24 rfl rfl
theorem dX6_reverse_0 : decode cX6_reverse 0 = .ok (.aload_n 0, 1) := dk_42 (dk_at dksX6_reverse_0 0 rfl rfl)
theorem dX6_reverse_1 : decode cX6_reverse 1 = .ok (.iconst 0, 1) := dk_3 (dk_at dksX6_reverse_0 1 rfl rfl)
theorem dX6_reverse_2 : decode cX6_reverse 2 = .ok (.putfield 88, 3) := dk_181 0 88 (dk_at dksX6_reverse_0 2 rfl rfl)
theorem dX6_reverse_5 : decode cX6_reverse 5 = .ok (.aload_n 0, 1) := dk_42 (dk_at dksX6_reverse_0 5 rfl rfl)
theorem dX6_reverse_6 : decode cX6_reverse 6 = .ok (.invokevirtual 340, 3) := dk_182 1 84 (dk_at dksX6_reverse_0 6 rfl rfl)
theorem dX6_reverse_9 : decode cX6_reverse 9 = .ok (.iconst 0, 1) := dk_3 (dk_at dksX6_reverse_0 9 rfl rfl)
theorem dX6_reverse_10 : decode cX6_reverse 10 = .ok (.istore_n 1, 1) := dk_60 (dk_at dksX6_reverse_0 10 rfl rfl)
theorem dX6_reverse_11 : decode cX6_reverse 11 = .ok (.iload_n 1, 1) := dk_27 (dk_at dksX6_reverse_0 11 rfl rfl)
theorem dX6_reverse_12 : decode cX6_reverse 12 = .ok (.iconst 3, 1) := dk_6 (dk_at dksX6_reverse_0 12 rfl rfl)
theorem dX6_reverse_13 : decode cX6_reverse 13 = .ok (.if_icmp .ge 51, 3) := dk_162 0 51 (dk_at dksX6_reverse_0 13 rfl rfl)
theorem dX6_reverse_16 : decode cX6_reverse 16 = .ok (.aload_n 0, 1) := dk_42 (dk_at dksX6_reverse_0 16 rfl rfl)
theorem dX6_reverse_17 : decode cX6_reverse 17 = .ok (.getfield 7, 3) := dk_180 0 7 (dk_at dksX6_reverse_0 17 rfl rfl)
theorem dX6_reverse_20 : decode cX6_reverse 20 = .ok (.iload_n 1, 1) := dk_27 (dk_at dksX6_reverse_0 20 rfl rfl)
theorem dX6_reverse_21 : decode cX6_reverse 21 = .ok (.iconst 3, 1) := dk_6 (dk_at dksX6_reverse_0 21 rfl rfl)
theorem dX6_reverse_22 : decode cX6_reverse 22 = .ok (.invokestatic 79, 3) := dk_184 0 79 (dk_at dksX6_reverse_1 0 rfl rfl)
theorem dX6_reverse_25 : decode cX6_reverse 25 = .ok (.aload_n 0, 1) := dk_42 (dk_at dksX6_reverse_1 3 rfl rfl)
theorem dX6_reverse_26 : decode cX6_reverse 26 = .ok (.getfield 7, 3) := dk_180 0 7 (dk_at dksX6_reverse_1 4 rfl rfl)
theorem dX6_reverse_29 : decode cX6_reverse 29 = .ok (.iload_n 1, 1) := dk_27 (dk_at dksX6_reverse_1 7 rfl rfl)
theorem dX6_reverse_30 : decode cX6_reverse 30 = .ok (.iconst 3, 1) := dk_6 (dk_at dksX6_reverse_1 8 rfl rfl)
theorem dX6_reverse_31 : decode cX6_reverse 31 = .ok (.invokestatic 79, 3) := dk_184 0 79 (dk_at dksX6_reverse_1 9 rfl rfl)
theorem dX6_reverse_34 : decode cX6_reverse 34 = .ok (.laload, 1) := dk_47 (dk_at dksX6_reverse_1 12 rfl rfl)
theorem dX6_reverse_35 : decode cX6_reverse 35 = .ok (.lneg, 1) := dk_117 (dk_at dksX6_reverse_1 13 rfl rfl)
theorem dX6_reverse_36 : decode cX6_reverse 36 = .ok (.lastore, 1) := dk_80 (dk_at dksX6_reverse_1 14 rfl rfl)
theorem dX6_reverse_37 : decode cX6_reverse 37 = .ok (.aload_n 0, 1) := dk_42 (dk_at dksX6_reverse_1 15 rfl rfl)
theorem dX6_reverse_38 : decode cX6_reverse 38 = .ok (.getfield 7, 3) := dk_180 0 7 (dk_at dksX6_reverse_1 16 rfl rfl)
theorem dX6_reverse_41 : decode cX6_reverse 41 = .ok (.iload_n 1, 1) := dk_27 (dk_at dksX6_reverse_1 19 rfl rfl)
theorem dX6_reverse_42 : decode cX6_reverse 42 = .ok (.iconst 4, 1) := dk_7 (dk_at dksX6_reverse_1 20 rfl rfl)
theorem dX6_reverse_43 : decode cX6_reverse 43 = .ok (.invokestatic 79, 3) := dk_184 0 79 (dk_at dksX6_reverse_1 21 rfl rfl)
theorem dX6_reverse_46 : decode cX6_reverse 46 = .ok (.aload_n 0, 1) := dk_42 (dk_at dksX6_reverse_2 0 rfl rfl)
theorem dX6_reverse_47 : decode cX6_reverse 47 = .ok (.getfield 7, 3) := dk_180 0 7 (dk_at dksX6_reverse_2 1 rfl rfl)
theorem dX6_reverse_50 : decode cX6_reverse 50 = .ok (.iload_n 1, 1) := dk_27 (dk_at dksX6_reverse_2 4 rfl rfl)
theorem dX6_reverse_51 : decode cX6_reverse 51 = .ok (.iconst 4, 1) := dk_7 (dk_at dksX6_reverse_2 5 rfl rfl)
theorem dX6_reverse_52 : decode cX6_reverse 52 = .ok (.invokestatic 79, 3) := dk_184 0 79 (dk_at dksX6_reverse_2 6 rfl rfl)
theorem dX6_reverse_55 : decode cX6_reverse 55 = .ok (.laload, 1) := dk_47 (dk_at dksX6_reverse_2 9 rfl rfl)
theorem dX6_reverse_56 : decode cX6_reverse 56 = .ok (.lneg, 1) := dk_117 (dk_at dksX6_reverse_2 10 rfl rfl)
theorem dX6_reverse_57 : decode cX6_reverse 57 = .ok (.lastore, 1) := dk_80 (dk_at dksX6_reverse_2 11 rfl rfl)
theorem dX6_reverse_58 : decode cX6_reverse 58 = .ok (.iinc 1 1, 3) := dk_132 1 1 (dk_at dksX6_reverse_2 12 rfl rfl)
theorem dX6_reverse_61 : decode cX6_reverse 61 = .ok (.goto (-50), 3) := dk_167 255 206 (dk_at dksX6_reverse_2 15 rfl rfl)
theorem dX6_reverse_64 : decode cX6_reverse 64 = .ok (.return_, 1) := dk_177 (dk_at dksX6_reverse_2 18 rfl rfl)
abbrev cX6_turn : ByteArray := prog_25_method_78_code
def yX6_turn : MethodName := ⟨RX6, "turn", "()V"⟩
def dkwX6_turn_2 : List UInt8 := [177]
abbrev dktX6_turn_2 : List UInt8 := dkwX6_turn_2 ++ []
def dkwX6_turn_1 : List UInt8 := [184, 0, 79, 184, 1, 91, 42, 180, 0, 7, 27, 6, 184, 0, 79, 184, 1, 91, 132, 1, 1, 167, 255, 224]
abbrev dktX6_turn_1 : List UInt8 := dkwX6_turn_1 ++ dktX6_turn_2
def dkwX6_turn_0 : List UInt8 := [42, 3, 181, 0, 88, 42, 182, 1, 84, 3, 60, 27, 6, 162, 0, 33, 42, 180, 0, 7, 27, 4]
abbrev dktX6_turn_0 : List UInt8 := dkwX6_turn_0 ++ dktX6_turn_1
theorem dksX6_turn_0 : cX6_turn.data.toList.drop 0 = dktX6_turn_0 := by decide +kernel
theorem dksX6_turn_1 : cX6_turn.data.toList.drop 22 = dktX6_turn_1 := dk_seg dksX6_turn_0 22 rfl rfl
theorem dksX6_turn_2 : cX6_turn.data.toList.drop 46 = dktX6_turn_2 := dk_seg dksX6_turn_1 24 rfl rfl
theorem dX6_turn_0 : decode cX6_turn 0 = .ok (.aload_n 0, 1) := dk_42 (dk_at dksX6_turn_0 0 rfl rfl)
theorem dX6_turn_1 : decode cX6_turn 1 = .ok (.iconst 0, 1) := dk_3 (dk_at dksX6_turn_0 1 rfl rfl)
theorem dX6_turn_2 : decode cX6_turn 2 = .ok (.putfield 88, 3) := dk_181 0 88 (dk_at dksX6_turn_0 2 rfl rfl)
theorem dX6_turn_5 : decode cX6_turn 5 = .ok (.aload_n 0, 1) := dk_42 (dk_at dksX6_turn_0 5 rfl rfl)
theorem dX6_turn_6 : decode cX6_turn 6 = .ok (.invokevirtual 340, 3) := dk_182 1 84 (dk_at dksX6_turn_0 6 rfl rfl)
theorem dX6_turn_9 : decode cX6_turn 9 = .ok (.iconst 0, 1) := dk_3 (dk_at dksX6_turn_0 9 rfl rfl)
theorem dX6_turn_10 : decode cX6_turn 10 = .ok (.istore_n 1, 1) := dk_60 (dk_at dksX6_turn_0 10 rfl rfl)
theorem dX6_turn_11 : decode cX6_turn 11 = .ok (.iload_n 1, 1) := dk_27 (dk_at dksX6_turn_0 11 rfl rfl)
theorem dX6_turn_12 : decode cX6_turn 12 = .ok (.iconst 3, 1) := dk_6 (dk_at dksX6_turn_0 12 rfl rfl)
theorem dX6_turn_13 : decode cX6_turn 13 = .ok (.if_icmp .ge 33, 3) := dk_162 0 33 (dk_at dksX6_turn_0 13 rfl rfl)
theorem dX6_turn_16 : decode cX6_turn 16 = .ok (.aload_n 0, 1) := dk_42 (dk_at dksX6_turn_0 16 rfl rfl)
theorem dX6_turn_17 : decode cX6_turn 17 = .ok (.getfield 7, 3) := dk_180 0 7 (dk_at dksX6_turn_0 17 rfl rfl)
theorem dX6_turn_20 : decode cX6_turn 20 = .ok (.iload_n 1, 1) := dk_27 (dk_at dksX6_turn_0 20 rfl rfl)
theorem dX6_turn_21 : decode cX6_turn 21 = .ok (.iconst 1, 1) := dk_4 (dk_at dksX6_turn_0 21 rfl rfl)
theorem dX6_turn_22 : decode cX6_turn 22 = .ok (.invokestatic 79, 3) := dk_184 0 79 (dk_at dksX6_turn_1 0 rfl rfl)
theorem dX6_turn_25 : decode cX6_turn 25 = .ok (.invokestatic 347, 3) := dk_184 1 91 (dk_at dksX6_turn_1 3 rfl rfl)
theorem dX6_turn_28 : decode cX6_turn 28 = .ok (.aload_n 0, 1) := dk_42 (dk_at dksX6_turn_1 6 rfl rfl)
theorem dX6_turn_29 : decode cX6_turn 29 = .ok (.getfield 7, 3) := dk_180 0 7 (dk_at dksX6_turn_1 7 rfl rfl)
theorem dX6_turn_32 : decode cX6_turn 32 = .ok (.iload_n 1, 1) := dk_27 (dk_at dksX6_turn_1 10 rfl rfl)
theorem dX6_turn_33 : decode cX6_turn 33 = .ok (.iconst 3, 1) := dk_6 (dk_at dksX6_turn_1 11 rfl rfl)
theorem dX6_turn_34 : decode cX6_turn 34 = .ok (.invokestatic 79, 3) := dk_184 0 79 (dk_at dksX6_turn_1 12 rfl rfl)
theorem dX6_turn_37 : decode cX6_turn 37 = .ok (.invokestatic 347, 3) := dk_184 1 91 (dk_at dksX6_turn_1 15 rfl rfl)
theorem dX6_turn_40 : decode cX6_turn 40 = .ok (.iinc 1 1, 3) := dk_132 1 1 (dk_at dksX6_turn_1 18 rfl rfl)
theorem dX6_turn_43 : decode cX6_turn 43 = .ok (.goto (-32), 3) := dk_167 255 224 (dk_at dksX6_turn_1 21 rfl rfl)
theorem dX6_turn_46 : decode cX6_turn 46 = .ok (.return_, 1) := dk_177 (dk_at dksX6_turn_2 0 rfl rfl)
abbrev cX6_turns : ByteArray := prog_25_method_77_code
def yX6_turns : MethodName := ⟨RX6, "turns", "([JI)V"⟩
def dkwX6_turns_0 : List UInt8 := [42, 27, 47, 65, 42, 27, 42, 27, 4, 96, 47, 117, 80, 42, 27, 4, 96, 32, 80, 177]
abbrev dktX6_turns_0 : List UInt8 := dkwX6_turns_0 ++ []
theorem dksX6_turns_0 : cX6_turns.data.toList.drop 0 = dktX6_turns_0 := by decide +kernel
theorem dX6_turns_0 : decode cX6_turns 0 = .ok (.aload_n 0, 1) := dk_42 (dk_at dksX6_turns_0 0 rfl rfl)
theorem dX6_turns_1 : decode cX6_turns 1 = .ok (.iload_n 1, 1) := dk_27 (dk_at dksX6_turns_0 1 rfl rfl)
theorem dX6_turns_2 : decode cX6_turns 2 = .ok (.laload, 1) := dk_47 (dk_at dksX6_turns_0 2 rfl rfl)
theorem dX6_turns_3 : decode cX6_turns 3 = .ok (.lstore_n 2, 1) := dk_65 (dk_at dksX6_turns_0 3 rfl rfl)
theorem dX6_turns_4 : decode cX6_turns 4 = .ok (.aload_n 0, 1) := dk_42 (dk_at dksX6_turns_0 4 rfl rfl)
theorem dX6_turns_5 : decode cX6_turns 5 = .ok (.iload_n 1, 1) := dk_27 (dk_at dksX6_turns_0 5 rfl rfl)
theorem dX6_turns_6 : decode cX6_turns 6 = .ok (.aload_n 0, 1) := dk_42 (dk_at dksX6_turns_0 6 rfl rfl)
theorem dX6_turns_7 : decode cX6_turns 7 = .ok (.iload_n 1, 1) := dk_27 (dk_at dksX6_turns_0 7 rfl rfl)
theorem dX6_turns_8 : decode cX6_turns 8 = .ok (.iconst 1, 1) := dk_4 (dk_at dksX6_turns_0 8 rfl rfl)
theorem dX6_turns_9 : decode cX6_turns 9 = .ok (.iadd, 1) := dk_96 (dk_at dksX6_turns_0 9 rfl rfl)
theorem dX6_turns_10 : decode cX6_turns 10 = .ok (.laload, 1) := dk_47 (dk_at dksX6_turns_0 10 rfl rfl)
theorem dX6_turns_11 : decode cX6_turns 11 = .ok (.lneg, 1) := dk_117 (dk_at dksX6_turns_0 11 rfl rfl)
theorem dX6_turns_12 : decode cX6_turns 12 = .ok (.lastore, 1) := dk_80 (dk_at dksX6_turns_0 12 rfl rfl)
theorem dX6_turns_13 : decode cX6_turns 13 = .ok (.aload_n 0, 1) := dk_42 (dk_at dksX6_turns_0 13 rfl rfl)
theorem dX6_turns_14 : decode cX6_turns 14 = .ok (.iload_n 1, 1) := dk_27 (dk_at dksX6_turns_0 14 rfl rfl)
theorem dX6_turns_15 : decode cX6_turns 15 = .ok (.iconst 1, 1) := dk_4 (dk_at dksX6_turns_0 15 rfl rfl)
theorem dX6_turns_16 : decode cX6_turns 16 = .ok (.iadd, 1) := dk_96 (dk_at dksX6_turns_0 16 rfl rfl)
theorem dX6_turns_17 : decode cX6_turns 17 = .ok (.lload_n 2, 1) := dk_32 (dk_at dksX6_turns_0 17 rfl rfl)
theorem dX6_turns_18 : decode cX6_turns 18 = .ok (.lastore, 1) := dk_80 (dk_at dksX6_turns_0 18 rfl rfl)
theorem dX6_turns_19 : decode cX6_turns 19 = .ok (.return_, 1) := dk_177 (dk_at dksX6_turns_0 19 rfl rfl)
abbrev cX6_exchange : ByteArray := prog_25_method_79_code
def yX6_exchange : MethodName := ⟨RX6, "exchange", "(II)V"⟩
def dkwX6_exchange_4 : List UInt8 := [29, 184, 0, 79, 22, 4, 80, 132, 3, 1, 167, 255, 204, 177]
abbrev dktX6_exchange_4 : List UInt8 := dkwX6_exchange_4 ++ []
def dkwX6_exchange_3 : List UInt8 := [180, 0, 7, 27, 29, 184, 0, 79, 42, 180, 0, 7, 28, 29, 184, 0, 79, 47, 80, 42, 180, 0, 7, 28]
abbrev dktX6_exchange_3 : List UInt8 := dkwX6_exchange_3 ++ dktX6_exchange_4
def dkwX6_exchange_2 : List UInt8 := [182, 1, 84, 3, 62, 29, 8, 162, 0, 53, 42, 180, 0, 7, 27, 29, 184, 0, 79, 47, 55, 4, 42]
abbrev dktX6_exchange_2 : List UInt8 := dkwX6_exchange_2 ++ dktX6_exchange_3
def dkwX6_exchange_1 : List UInt8 := [154, 0, 21, 42, 27, 28, 159, 0, 7, 4, 167, 0, 4, 3, 5, 182, 0, 236, 153, 0, 4, 177, 42]
abbrev dktX6_exchange_1 : List UInt8 := dkwX6_exchange_1 ++ dktX6_exchange_2
def dkwX6_exchange_0 : List UInt8 := [42, 27, 182, 1, 69, 154, 0, 38, 42, 28, 133, 9, 20, 0, 203, 184, 0, 183, 4, 182, 0, 236]
abbrev dktX6_exchange_0 : List UInt8 := dkwX6_exchange_0 ++ dktX6_exchange_1
theorem dksX6_exchange_0 : cX6_exchange.data.toList.drop 0 = dktX6_exchange_0 := by decide +kernel
theorem dksX6_exchange_1 : cX6_exchange.data.toList.drop 22 = dktX6_exchange_1 := dk_seg dksX6_exchange_0 22 rfl rfl
theorem dksX6_exchange_2 : cX6_exchange.data.toList.drop 45 = dktX6_exchange_2 := dk_seg dksX6_exchange_1 23 rfl rfl
theorem dksX6_exchange_3 : cX6_exchange.data.toList.drop 68 = dktX6_exchange_3 := dk_seg dksX6_exchange_2 23 rfl rfl
theorem dksX6_exchange_4 : cX6_exchange.data.toList.drop 92 = dktX6_exchange_4 := dk_seg dksX6_exchange_3 24 rfl rfl
theorem dX6_exchange_0 : decode cX6_exchange 0 = .ok (.aload_n 0, 1) := dk_42 (dk_at dksX6_exchange_0 0 rfl rfl)
theorem dX6_exchange_1 : decode cX6_exchange 1 = .ok (.iload_n 1, 1) := dk_27 (dk_at dksX6_exchange_0 1 rfl rfl)
theorem dX6_exchange_2 : decode cX6_exchange 2 = .ok (.invokevirtual 325, 3) := dk_182 1 69 (dk_at dksX6_exchange_0 2 rfl rfl)
theorem dX6_exchange_5 : decode cX6_exchange 5 = .ok (.ifCond .ne 38, 3) := dk_154 0 38 (dk_at dksX6_exchange_0 5 rfl rfl)
theorem dX6_exchange_8 : decode cX6_exchange 8 = .ok (.aload_n 0, 1) := dk_42 (dk_at dksX6_exchange_0 8 rfl rfl)
theorem dX6_exchange_9 : decode cX6_exchange 9 = .ok (.iload_n 2, 1) := dk_28 (dk_at dksX6_exchange_0 9 rfl rfl)
theorem dX6_exchange_10 : decode cX6_exchange 10 = .ok (.i2l, 1) := dk_133 (dk_at dksX6_exchange_0 10 rfl rfl)
theorem dX6_exchange_11 : decode cX6_exchange 11 = .ok (.lconst 0, 1) := dk_9 (dk_at dksX6_exchange_0 11 rfl rfl)
theorem dX6_exchange_12 : decode cX6_exchange 12 = .ok (.ldc2_w 203, 3) := dk_20 0 203 (dk_at dksX6_exchange_0 12 rfl rfl)
theorem dX6_exchange_15 : decode cX6_exchange 15 = .ok (.invokestatic 183, 3) := dk_184 0 183 (dk_at dksX6_exchange_0 15 rfl rfl)
theorem dX6_exchange_18 : decode cX6_exchange 18 = .ok (.iconst 1, 1) := dk_4 (dk_at dksX6_exchange_0 18 rfl rfl)
theorem dX6_exchange_19 : decode cX6_exchange 19 = .ok (.invokevirtual 236, 3) := dk_182 0 236 (dk_at dksX6_exchange_0 19 rfl rfl)
theorem dX6_exchange_22 : decode cX6_exchange 22 = .ok (.ifCond .ne 21, 3) := dk_154 0 21 (dk_at dksX6_exchange_1 0 rfl rfl)
theorem dX6_exchange_25 : decode cX6_exchange 25 = .ok (.aload_n 0, 1) := dk_42 (dk_at dksX6_exchange_1 3 rfl rfl)
theorem dX6_exchange_26 : decode cX6_exchange 26 = .ok (.iload_n 1, 1) := dk_27 (dk_at dksX6_exchange_1 4 rfl rfl)
theorem dX6_exchange_27 : decode cX6_exchange 27 = .ok (.iload_n 2, 1) := dk_28 (dk_at dksX6_exchange_1 5 rfl rfl)
theorem dX6_exchange_28 : decode cX6_exchange 28 = .ok (.if_icmp .eq 7, 3) := dk_159 0 7 (dk_at dksX6_exchange_1 6 rfl rfl)
theorem dX6_exchange_31 : decode cX6_exchange 31 = .ok (.iconst 1, 1) := dk_4 (dk_at dksX6_exchange_1 9 rfl rfl)
theorem dX6_exchange_32 : decode cX6_exchange 32 = .ok (.goto 4, 3) := dk_167 0 4 (dk_at dksX6_exchange_1 10 rfl rfl)
theorem dX6_exchange_35 : decode cX6_exchange 35 = .ok (.iconst 0, 1) := dk_3 (dk_at dksX6_exchange_1 13 rfl rfl)
theorem dX6_exchange_36 : decode cX6_exchange 36 = .ok (.iconst 2, 1) := dk_5 (dk_at dksX6_exchange_1 14 rfl rfl)
theorem dX6_exchange_37 : decode cX6_exchange 37 = .ok (.invokevirtual 236, 3) := dk_182 0 236 (dk_at dksX6_exchange_1 15 rfl rfl)
theorem dX6_exchange_40 : decode cX6_exchange 40 = .ok (.ifCond .eq 4, 3) := dk_153 0 4 (dk_at dksX6_exchange_1 18 rfl rfl)
theorem dX6_exchange_43 : decode cX6_exchange 43 = .ok (.return_, 1) := dk_177 (dk_at dksX6_exchange_1 21 rfl rfl)
theorem dX6_exchange_44 : decode cX6_exchange 44 = .ok (.aload_n 0, 1) := dk_42 (dk_at dksX6_exchange_1 22 rfl rfl)
theorem dX6_exchange_45 : decode cX6_exchange 45 = .ok (.invokevirtual 340, 3) := dk_182 1 84 (dk_at dksX6_exchange_2 0 rfl rfl)
theorem dX6_exchange_48 : decode cX6_exchange 48 = .ok (.iconst 0, 1) := dk_3 (dk_at dksX6_exchange_2 3 rfl rfl)
theorem dX6_exchange_49 : decode cX6_exchange 49 = .ok (.istore_n 3, 1) := dk_62 (dk_at dksX6_exchange_2 4 rfl rfl)
theorem dX6_exchange_50 : decode cX6_exchange 50 = .ok (.iload_n 3, 1) := dk_29 (dk_at dksX6_exchange_2 5 rfl rfl)
theorem dX6_exchange_51 : decode cX6_exchange 51 = .ok (.iconst 5, 1) := dk_8 (dk_at dksX6_exchange_2 6 rfl rfl)
theorem dX6_exchange_52 : decode cX6_exchange 52 = .ok (.if_icmp .ge 53, 3) := dk_162 0 53 (dk_at dksX6_exchange_2 7 rfl rfl)
theorem dX6_exchange_55 : decode cX6_exchange 55 = .ok (.aload_n 0, 1) := dk_42 (dk_at dksX6_exchange_2 10 rfl rfl)
theorem dX6_exchange_56 : decode cX6_exchange 56 = .ok (.getfield 7, 3) := dk_180 0 7 (dk_at dksX6_exchange_2 11 rfl rfl)
theorem dX6_exchange_59 : decode cX6_exchange 59 = .ok (.iload_n 1, 1) := dk_27 (dk_at dksX6_exchange_2 14 rfl rfl)
theorem dX6_exchange_60 : decode cX6_exchange 60 = .ok (.iload_n 3, 1) := dk_29 (dk_at dksX6_exchange_2 15 rfl rfl)
theorem dX6_exchange_61 : decode cX6_exchange 61 = .ok (.invokestatic 79, 3) := dk_184 0 79 (dk_at dksX6_exchange_2 16 rfl rfl)
theorem dX6_exchange_64 : decode cX6_exchange 64 = .ok (.laload, 1) := dk_47 (dk_at dksX6_exchange_2 19 rfl rfl)
theorem dX6_exchange_65 : decode cX6_exchange 65 = .ok (.lstore 4, 2) := dk_55 4 (dk_at dksX6_exchange_2 20 rfl rfl)
theorem dX6_exchange_67 : decode cX6_exchange 67 = .ok (.aload_n 0, 1) := dk_42 (dk_at dksX6_exchange_2 22 rfl rfl)
theorem dX6_exchange_68 : decode cX6_exchange 68 = .ok (.getfield 7, 3) := dk_180 0 7 (dk_at dksX6_exchange_3 0 rfl rfl)
theorem dX6_exchange_71 : decode cX6_exchange 71 = .ok (.iload_n 1, 1) := dk_27 (dk_at dksX6_exchange_3 3 rfl rfl)
theorem dX6_exchange_72 : decode cX6_exchange 72 = .ok (.iload_n 3, 1) := dk_29 (dk_at dksX6_exchange_3 4 rfl rfl)
theorem dX6_exchange_73 : decode cX6_exchange 73 = .ok (.invokestatic 79, 3) := dk_184 0 79 (dk_at dksX6_exchange_3 5 rfl rfl)
theorem dX6_exchange_76 : decode cX6_exchange 76 = .ok (.aload_n 0, 1) := dk_42 (dk_at dksX6_exchange_3 8 rfl rfl)
theorem dX6_exchange_77 : decode cX6_exchange 77 = .ok (.getfield 7, 3) := dk_180 0 7 (dk_at dksX6_exchange_3 9 rfl rfl)
theorem dX6_exchange_80 : decode cX6_exchange 80 = .ok (.iload_n 2, 1) := dk_28 (dk_at dksX6_exchange_3 12 rfl rfl)
theorem dX6_exchange_81 : decode cX6_exchange 81 = .ok (.iload_n 3, 1) := dk_29 (dk_at dksX6_exchange_3 13 rfl rfl)
theorem dX6_exchange_82 : decode cX6_exchange 82 = .ok (.invokestatic 79, 3) := dk_184 0 79 (dk_at dksX6_exchange_3 14 rfl rfl)
theorem dX6_exchange_85 : decode cX6_exchange 85 = .ok (.laload, 1) := dk_47 (dk_at dksX6_exchange_3 17 rfl rfl)
theorem dX6_exchange_86 : decode cX6_exchange 86 = .ok (.lastore, 1) := dk_80 (dk_at dksX6_exchange_3 18 rfl rfl)
theorem dX6_exchange_87 : decode cX6_exchange 87 = .ok (.aload_n 0, 1) := dk_42 (dk_at dksX6_exchange_3 19 rfl rfl)
theorem dX6_exchange_88 : decode cX6_exchange 88 = .ok (.getfield 7, 3) := dk_180 0 7 (dk_at dksX6_exchange_3 20 rfl rfl)
theorem dX6_exchange_91 : decode cX6_exchange 91 = .ok (.iload_n 2, 1) := dk_28 (dk_at dksX6_exchange_3 23 rfl rfl)
theorem dX6_exchange_92 : decode cX6_exchange 92 = .ok (.iload_n 3, 1) := dk_29 (dk_at dksX6_exchange_4 0 rfl rfl)
theorem dX6_exchange_93 : decode cX6_exchange 93 = .ok (.invokestatic 79, 3) := dk_184 0 79 (dk_at dksX6_exchange_4 1 rfl rfl)
theorem dX6_exchange_96 : decode cX6_exchange 96 = .ok (.lload 4, 2) := dk_22 4 (dk_at dksX6_exchange_4 4 rfl rfl)
theorem dX6_exchange_98 : decode cX6_exchange 98 = .ok (.lastore, 1) := dk_80 (dk_at dksX6_exchange_4 6 rfl rfl)
theorem dX6_exchange_99 : decode cX6_exchange 99 = .ok (.iinc 3 1, 3) := dk_132 3 1 (dk_at dksX6_exchange_4 7 rfl rfl)
theorem dX6_exchange_102 : decode cX6_exchange 102 = .ok (.goto (-52), 3) := dk_167 255 204 (dk_at dksX6_exchange_4 10 rfl rfl)
theorem dX6_exchange_105 : decode cX6_exchange 105 = .ok (.return_, 1) := dk_177 (dk_at dksX6_exchange_4 13 rfl rfl)
abbrev cX6_setScheme : ByteArray := prog_25_method_80_code
def yX6_setScheme : MethodName := ⟨RX6, "setScheme", "(I)I"⟩
def dkwX6_setScheme_1 : List UInt8 := [42, 182, 1, 84, 42, 180, 0, 7, 4, 47, 136, 61, 42, 180, 0, 7, 4, 27, 133, 80, 28, 172]
abbrev dktX6_setScheme_1 : List UInt8 := dkwX6_setScheme_1 ++ []
def dkwX6_setScheme_0 : List UInt8 := [42, 3, 181, 0, 88, 42, 27, 133, 9, 20, 0, 203, 184, 0, 183, 4, 182, 0, 236, 153, 0, 5, 3, 172]
abbrev dktX6_setScheme_0 : List UInt8 := dkwX6_setScheme_0 ++ dktX6_setScheme_1
theorem dksX6_setScheme_0 : cX6_setScheme.data.toList.drop 0 = dktX6_setScheme_0 := by decide +kernel
theorem dksX6_setScheme_1 : cX6_setScheme.data.toList.drop 24 = dktX6_setScheme_1 := dk_seg dksX6_setScheme_0 24 rfl rfl
theorem dX6_setScheme_0 : decode cX6_setScheme 0 = .ok (.aload_n 0, 1) := dk_42 (dk_at dksX6_setScheme_0 0 rfl rfl)
theorem dX6_setScheme_1 : decode cX6_setScheme 1 = .ok (.iconst 0, 1) := dk_3 (dk_at dksX6_setScheme_0 1 rfl rfl)
theorem dX6_setScheme_2 : decode cX6_setScheme 2 = .ok (.putfield 88, 3) := dk_181 0 88 (dk_at dksX6_setScheme_0 2 rfl rfl)
theorem dX6_setScheme_5 : decode cX6_setScheme 5 = .ok (.aload_n 0, 1) := dk_42 (dk_at dksX6_setScheme_0 5 rfl rfl)
theorem dX6_setScheme_6 : decode cX6_setScheme 6 = .ok (.iload_n 1, 1) := dk_27 (dk_at dksX6_setScheme_0 6 rfl rfl)
theorem dX6_setScheme_7 : decode cX6_setScheme 7 = .ok (.i2l, 1) := dk_133 (dk_at dksX6_setScheme_0 7 rfl rfl)
theorem dX6_setScheme_8 : decode cX6_setScheme 8 = .ok (.lconst 0, 1) := dk_9 (dk_at dksX6_setScheme_0 8 rfl rfl)
theorem dX6_setScheme_9 : decode cX6_setScheme 9 = .ok (.ldc2_w 203, 3) := dk_20 0 203 (dk_at dksX6_setScheme_0 9 rfl rfl)
theorem dX6_setScheme_12 : decode cX6_setScheme 12 = .ok (.invokestatic 183, 3) := dk_184 0 183 (dk_at dksX6_setScheme_0 12 rfl rfl)
theorem dX6_setScheme_15 : decode cX6_setScheme 15 = .ok (.iconst 1, 1) := dk_4 (dk_at dksX6_setScheme_0 15 rfl rfl)
theorem dX6_setScheme_16 : decode cX6_setScheme 16 = .ok (.invokevirtual 236, 3) := dk_182 0 236 (dk_at dksX6_setScheme_0 16 rfl rfl)
theorem dX6_setScheme_19 : decode cX6_setScheme 19 = .ok (.ifCond .eq 5, 3) := dk_153 0 5 (dk_at dksX6_setScheme_0 19 rfl rfl)
theorem dX6_setScheme_22 : decode cX6_setScheme 22 = .ok (.iconst 0, 1) := dk_3 (dk_at dksX6_setScheme_0 22 rfl rfl)
theorem dX6_setScheme_23 : decode cX6_setScheme 23 = .ok (.ireturn, 1) := dk_172 (dk_at dksX6_setScheme_0 23 rfl rfl)
theorem dX6_setScheme_24 : decode cX6_setScheme 24 = .ok (.aload_n 0, 1) := dk_42 (dk_at dksX6_setScheme_1 0 rfl rfl)
theorem dX6_setScheme_25 : decode cX6_setScheme 25 = .ok (.invokevirtual 340, 3) := dk_182 1 84 (dk_at dksX6_setScheme_1 1 rfl rfl)
theorem dX6_setScheme_28 : decode cX6_setScheme 28 = .ok (.aload_n 0, 1) := dk_42 (dk_at dksX6_setScheme_1 4 rfl rfl)
theorem dX6_setScheme_29 : decode cX6_setScheme 29 = .ok (.getfield 7, 3) := dk_180 0 7 (dk_at dksX6_setScheme_1 5 rfl rfl)
theorem dX6_setScheme_32 : decode cX6_setScheme 32 = .ok (.iconst 1, 1) := dk_4 (dk_at dksX6_setScheme_1 8 rfl rfl)
theorem dX6_setScheme_33 : decode cX6_setScheme 33 = .ok (.laload, 1) := dk_47 (dk_at dksX6_setScheme_1 9 rfl rfl)
theorem dX6_setScheme_34 : decode cX6_setScheme 34 = .ok (.l2i, 1) := dk_136 (dk_at dksX6_setScheme_1 10 rfl rfl)
theorem dX6_setScheme_35 : decode cX6_setScheme 35 = .ok (.istore_n 2, 1) := dk_61 (dk_at dksX6_setScheme_1 11 rfl rfl)
theorem dX6_setScheme_36 : decode cX6_setScheme 36 = .ok (.aload_n 0, 1) := dk_42 (dk_at dksX6_setScheme_1 12 rfl rfl)
theorem dX6_setScheme_37 : decode cX6_setScheme 37 = .ok (.getfield 7, 3) := dk_180 0 7 (dk_at dksX6_setScheme_1 13 rfl rfl)
theorem dX6_setScheme_40 : decode cX6_setScheme 40 = .ok (.iconst 1, 1) := dk_4 (dk_at dksX6_setScheme_1 16 rfl rfl)
theorem dX6_setScheme_41 : decode cX6_setScheme 41 = .ok (.iload_n 1, 1) := dk_27 (dk_at dksX6_setScheme_1 17 rfl rfl)
theorem dX6_setScheme_42 : decode cX6_setScheme 42 = .ok (.i2l, 1) := dk_133 (dk_at dksX6_setScheme_1 18 rfl rfl)
theorem dX6_setScheme_43 : decode cX6_setScheme 43 = .ok (.lastore, 1) := dk_80 (dk_at dksX6_setScheme_1 19 rfl rfl)
theorem dX6_setScheme_44 : decode cX6_setScheme 44 = .ok (.iload_n 2, 1) := dk_28 (dk_at dksX6_setScheme_1 20 rfl rfl)
theorem dX6_setScheme_45 : decode cX6_setScheme 45 = .ok (.ireturn, 1) := dk_172 (dk_at dksX6_setScheme_1 21 rfl rfl)
abbrev cX6_undoCount : ByteArray := prog_25_method_81_code
def yX6_undoCount : MethodName := ⟨RX6, "undoCount", "()I"⟩
def dkwX6_undoCount_0 : List UInt8 := [42, 3, 181, 0, 88, 42, 180, 0, 103, 172]
abbrev dktX6_undoCount_0 : List UInt8 := dkwX6_undoCount_0 ++ []
theorem dksX6_undoCount_0 : cX6_undoCount.data.toList.drop 0 = dktX6_undoCount_0 := by decide +kernel
theorem dX6_undoCount_0 : decode cX6_undoCount 0 = .ok (.aload_n 0, 1) := dk_42 (dk_at dksX6_undoCount_0 0 rfl rfl)
theorem dX6_undoCount_1 : decode cX6_undoCount 1 = .ok (.iconst 0, 1) := dk_3 (dk_at dksX6_undoCount_0 1 rfl rfl)
theorem dX6_undoCount_2 : decode cX6_undoCount 2 = .ok (.putfield 88, 3) := dk_181 0 88 (dk_at dksX6_undoCount_0 2 rfl rfl)
theorem dX6_undoCount_5 : decode cX6_undoCount 5 = .ok (.aload_n 0, 1) := dk_42 (dk_at dksX6_undoCount_0 5 rfl rfl)
theorem dX6_undoCount_6 : decode cX6_undoCount 6 = .ok (.getfield 103, 3) := dk_180 0 103 (dk_at dksX6_undoCount_0 6 rfl rfl)
theorem dX6_undoCount_9 : decode cX6_undoCount 9 = .ok (.ireturn, 1) := dk_172 (dk_at dksX6_undoCount_0 9 rfl rfl)
abbrev cX6_undo : ByteArray := prog_25_method_82_code
def yX6_undo : MethodName := ⟨RX6, "undo", "()I"⟩
def dkwX6_undo_2 : List UInt8 := [42, 180, 0, 103, 104, 27, 96, 47, 80, 132, 1, 1, 167, 255, 227, 42, 180, 0, 103, 172]
abbrev dktX6_undo_2 : List UInt8 := dkwX6_undo_2 ++ []
def dkwX6_undo_1 : List UInt8 := [42, 3, 181, 0, 110, 3, 60, 27, 16, 111, 162, 0, 29, 42, 180, 0, 7, 27, 42, 180, 0, 25, 16, 111]
abbrev dktX6_undo_1 : List UInt8 := dkwX6_undo_1 ++ dktX6_undo_2
def dkwX6_undo_0 : List UInt8 := [42, 3, 181, 0, 88, 42, 180, 0, 103, 154, 0, 5, 2, 172, 42, 89, 180, 0, 103, 4, 100, 181, 0, 103]
abbrev dktX6_undo_0 : List UInt8 := dkwX6_undo_0 ++ dktX6_undo_1
theorem dksX6_undo_0 : cX6_undo.data.toList.drop 0 = dktX6_undo_0 := by decide +kernel
theorem dksX6_undo_1 : cX6_undo.data.toList.drop 24 = dktX6_undo_1 := dk_seg dksX6_undo_0 24 rfl rfl
theorem dksX6_undo_2 : cX6_undo.data.toList.drop 48 = dktX6_undo_2 := dk_seg dksX6_undo_1 24 rfl rfl
theorem dX6_undo_0 : decode cX6_undo 0 = .ok (.aload_n 0, 1) := dk_42 (dk_at dksX6_undo_0 0 rfl rfl)
theorem dX6_undo_1 : decode cX6_undo 1 = .ok (.iconst 0, 1) := dk_3 (dk_at dksX6_undo_0 1 rfl rfl)
theorem dX6_undo_2 : decode cX6_undo 2 = .ok (.putfield 88, 3) := dk_181 0 88 (dk_at dksX6_undo_0 2 rfl rfl)
theorem dX6_undo_5 : decode cX6_undo 5 = .ok (.aload_n 0, 1) := dk_42 (dk_at dksX6_undo_0 5 rfl rfl)
theorem dX6_undo_6 : decode cX6_undo 6 = .ok (.getfield 103, 3) := dk_180 0 103 (dk_at dksX6_undo_0 6 rfl rfl)
theorem dX6_undo_9 : decode cX6_undo 9 = .ok (.ifCond .ne 5, 3) := dk_154 0 5 (dk_at dksX6_undo_0 9 rfl rfl)
theorem dX6_undo_12 : decode cX6_undo 12 = .ok (.iconst (-1), 1) := dk_2 (dk_at dksX6_undo_0 12 rfl rfl)
theorem dX6_undo_13 : decode cX6_undo 13 = .ok (.ireturn, 1) := dk_172 (dk_at dksX6_undo_0 13 rfl rfl)
theorem dX6_undo_14 : decode cX6_undo 14 = .ok (.aload_n 0, 1) := dk_42 (dk_at dksX6_undo_0 14 rfl rfl)
theorem dX6_undo_15 : decode cX6_undo 15 = .ok (.dup, 1) := dk_89 (dk_at dksX6_undo_0 15 rfl rfl)
theorem dX6_undo_16 : decode cX6_undo 16 = .ok (.getfield 103, 3) := dk_180 0 103 (dk_at dksX6_undo_0 16 rfl rfl)
theorem dX6_undo_19 : decode cX6_undo 19 = .ok (.iconst 1, 1) := dk_4 (dk_at dksX6_undo_0 19 rfl rfl)
theorem dX6_undo_20 : decode cX6_undo 20 = .ok (.isub, 1) := dk_100 (dk_at dksX6_undo_0 20 rfl rfl)
theorem dX6_undo_21 : decode cX6_undo 21 = .ok (.putfield 103, 3) := dk_181 0 103 (dk_at dksX6_undo_0 21 rfl rfl)
theorem dX6_undo_24 : decode cX6_undo 24 = .ok (.aload_n 0, 1) := dk_42 (dk_at dksX6_undo_1 0 rfl rfl)
theorem dX6_undo_25 : decode cX6_undo 25 = .ok (.iconst 0, 1) := dk_3 (dk_at dksX6_undo_1 1 rfl rfl)
theorem dX6_undo_26 : decode cX6_undo 26 = .ok (.putfield 110, 3) := dk_181 0 110 (dk_at dksX6_undo_1 2 rfl rfl)
theorem dX6_undo_29 : decode cX6_undo 29 = .ok (.iconst 0, 1) := dk_3 (dk_at dksX6_undo_1 5 rfl rfl)
theorem dX6_undo_30 : decode cX6_undo 30 = .ok (.istore_n 1, 1) := dk_60 (dk_at dksX6_undo_1 6 rfl rfl)
theorem dX6_undo_31 : decode cX6_undo 31 = .ok (.iload_n 1, 1) := dk_27 (dk_at dksX6_undo_1 7 rfl rfl)
theorem dX6_undo_32 : decode cX6_undo 32 = .ok (.bipush 111, 2) := dk_16 111 (dk_at dksX6_undo_1 8 rfl rfl)
theorem dX6_undo_34 : decode cX6_undo 34 = .ok (.if_icmp .ge 29, 3) := dk_162 0 29 (dk_at dksX6_undo_1 10 rfl rfl)
theorem dX6_undo_37 : decode cX6_undo 37 = .ok (.aload_n 0, 1) := dk_42 (dk_at dksX6_undo_1 13 rfl rfl)
theorem dX6_undo_38 : decode cX6_undo 38 = .ok (.getfield 7, 3) := dk_180 0 7 (dk_at dksX6_undo_1 14 rfl rfl)
theorem dX6_undo_41 : decode cX6_undo 41 = .ok (.iload_n 1, 1) := dk_27 (dk_at dksX6_undo_1 17 rfl rfl)
theorem dX6_undo_42 : decode cX6_undo 42 = .ok (.aload_n 0, 1) := dk_42 (dk_at dksX6_undo_1 18 rfl rfl)
theorem dX6_undo_43 : decode cX6_undo 43 = .ok (.getfield 25, 3) := dk_180 0 25 (dk_at dksX6_undo_1 19 rfl rfl)
theorem dX6_undo_46 : decode cX6_undo 46 = .ok (.bipush 111, 2) := dk_16 111 (dk_at dksX6_undo_1 22 rfl rfl)
theorem dX6_undo_48 : decode cX6_undo 48 = .ok (.aload_n 0, 1) := dk_42 (dk_at dksX6_undo_2 0 rfl rfl)
theorem dX6_undo_49 : decode cX6_undo 49 = .ok (.getfield 103, 3) := dk_180 0 103 (dk_at dksX6_undo_2 1 rfl rfl)
theorem dX6_undo_52 : decode cX6_undo 52 = .ok (.imul, 1) := dk_104 (dk_at dksX6_undo_2 4 rfl rfl)
theorem dX6_undo_53 : decode cX6_undo 53 = .ok (.iload_n 1, 1) := dk_27 (dk_at dksX6_undo_2 5 rfl rfl)
theorem dX6_undo_54 : decode cX6_undo 54 = .ok (.iadd, 1) := dk_96 (dk_at dksX6_undo_2 6 rfl rfl)
theorem dX6_undo_55 : decode cX6_undo 55 = .ok (.laload, 1) := dk_47 (dk_at dksX6_undo_2 7 rfl rfl)
theorem dX6_undo_56 : decode cX6_undo 56 = .ok (.lastore, 1) := dk_80 (dk_at dksX6_undo_2 8 rfl rfl)
theorem dX6_undo_57 : decode cX6_undo 57 = .ok (.iinc 1 1, 3) := dk_132 1 1 (dk_at dksX6_undo_2 9 rfl rfl)
theorem dX6_undo_60 : decode cX6_undo 60 = .ok (.goto (-29), 3) := dk_167 255 227 (dk_at dksX6_undo_2 12 rfl rfl)
theorem dX6_undo_63 : decode cX6_undo 63 = .ok (.aload_n 0, 1) := dk_42 (dk_at dksX6_undo_2 15 rfl rfl)
theorem dX6_undo_64 : decode cX6_undo 64 = .ok (.getfield 103, 3) := dk_180 0 103 (dk_at dksX6_undo_2 16 rfl rfl)
theorem dX6_undo_67 : decode cX6_undo 67 = .ok (.ireturn, 1) := dk_172 (dk_at dksX6_undo_2 19 rfl rfl)
abbrev cX6_saveSnapshot : ByteArray := prog_25_method_83_code
def yX6_saveSnapshot : MethodName := ⟨RX6, "saveSnapshot", "()V"⟩
def dkwX6_saveSnapshot_0 : List UInt8 := [42, 3, 181, 0, 88, 42, 180, 0, 7, 42, 180, 0, 22, 184, 0, 95, 42, 4, 181, 0, 106, 177]
abbrev dktX6_saveSnapshot_0 : List UInt8 := dkwX6_saveSnapshot_0 ++ []
theorem dksX6_saveSnapshot_0 : cX6_saveSnapshot.data.toList.drop 0 = dktX6_saveSnapshot_0 := by decide +kernel
theorem dX6_saveSnapshot_0 : decode cX6_saveSnapshot 0 = .ok (.aload_n 0, 1) := dk_42 (dk_at dksX6_saveSnapshot_0 0 rfl rfl)
theorem dX6_saveSnapshot_1 : decode cX6_saveSnapshot 1 = .ok (.iconst 0, 1) := dk_3 (dk_at dksX6_saveSnapshot_0 1 rfl rfl)
theorem dX6_saveSnapshot_2 : decode cX6_saveSnapshot 2 = .ok (.putfield 88, 3) := dk_181 0 88 (dk_at dksX6_saveSnapshot_0 2 rfl rfl)
theorem dX6_saveSnapshot_5 : decode cX6_saveSnapshot 5 = .ok (.aload_n 0, 1) := dk_42 (dk_at dksX6_saveSnapshot_0 5 rfl rfl)
theorem dX6_saveSnapshot_6 : decode cX6_saveSnapshot 6 = .ok (.getfield 7, 3) := dk_180 0 7 (dk_at dksX6_saveSnapshot_0 6 rfl rfl)
theorem dX6_saveSnapshot_9 : decode cX6_saveSnapshot 9 = .ok (.aload_n 0, 1) := dk_42 (dk_at dksX6_saveSnapshot_0 9 rfl rfl)
theorem dX6_saveSnapshot_10 : decode cX6_saveSnapshot 10 = .ok (.getfield 22, 3) := dk_180 0 22 (dk_at dksX6_saveSnapshot_0 10 rfl rfl)
theorem dX6_saveSnapshot_13 : decode cX6_saveSnapshot 13 = .ok (.invokestatic 95, 3) := dk_184 0 95 (dk_at dksX6_saveSnapshot_0 13 rfl rfl)
theorem dX6_saveSnapshot_16 : decode cX6_saveSnapshot 16 = .ok (.aload_n 0, 1) := dk_42 (dk_at dksX6_saveSnapshot_0 16 rfl rfl)
theorem dX6_saveSnapshot_17 : decode cX6_saveSnapshot 17 = .ok (.iconst 1, 1) := dk_4 (dk_at dksX6_saveSnapshot_0 17 rfl rfl)
theorem dX6_saveSnapshot_18 : decode cX6_saveSnapshot 18 = .ok (.putfield 106, 3) := dk_181 0 106 (dk_at dksX6_saveSnapshot_0 18 rfl rfl)
theorem dX6_saveSnapshot_21 : decode cX6_saveSnapshot 21 = .ok (.return_, 1) := dk_177 (dk_at dksX6_saveSnapshot_0 21 rfl rfl)
abbrev cX6_restoreSnapshot : ByteArray := prog_25_method_84_code
def yX6_restoreSnapshot : MethodName := ⟨RX6, "restoreSnapshot", "()Z"⟩
def dkwX6_restoreSnapshot_1 : List UInt8 := [184, 0, 95, 42, 3, 181, 0, 103, 42, 3, 181, 0, 110, 4, 172]
abbrev dktX6_restoreSnapshot_1 : List UInt8 := dkwX6_restoreSnapshot_1 ++ []
def dkwX6_restoreSnapshot_0 : List UInt8 := [42, 3, 181, 0, 88, 42, 180, 0, 106, 154, 0, 5, 3, 172, 42, 180, 0, 22, 42, 180, 0, 7]
abbrev dktX6_restoreSnapshot_0 : List UInt8 := dkwX6_restoreSnapshot_0 ++ dktX6_restoreSnapshot_1
theorem dksX6_restoreSnapshot_0 : cX6_restoreSnapshot.data.toList.drop 0 = dktX6_restoreSnapshot_0 := by decide +kernel
theorem dksX6_restoreSnapshot_1 : cX6_restoreSnapshot.data.toList.drop 22 = dktX6_restoreSnapshot_1 := dk_seg dksX6_restoreSnapshot_0 22 rfl rfl
theorem dX6_restoreSnapshot_0 : decode cX6_restoreSnapshot 0 = .ok (.aload_n 0, 1) := dk_42 (dk_at dksX6_restoreSnapshot_0 0 rfl rfl)
theorem dX6_restoreSnapshot_1 : decode cX6_restoreSnapshot 1 = .ok (.iconst 0, 1) := dk_3 (dk_at dksX6_restoreSnapshot_0 1 rfl rfl)
theorem dX6_restoreSnapshot_2 : decode cX6_restoreSnapshot 2 = .ok (.putfield 88, 3) := dk_181 0 88 (dk_at dksX6_restoreSnapshot_0 2 rfl rfl)
theorem dX6_restoreSnapshot_5 : decode cX6_restoreSnapshot 5 = .ok (.aload_n 0, 1) := dk_42 (dk_at dksX6_restoreSnapshot_0 5 rfl rfl)
theorem dX6_restoreSnapshot_6 : decode cX6_restoreSnapshot 6 = .ok (.getfield 106, 3) := dk_180 0 106 (dk_at dksX6_restoreSnapshot_0 6 rfl rfl)
theorem dX6_restoreSnapshot_9 : decode cX6_restoreSnapshot 9 = .ok (.ifCond .ne 5, 3) := dk_154 0 5 (dk_at dksX6_restoreSnapshot_0 9 rfl rfl)
theorem dX6_restoreSnapshot_12 : decode cX6_restoreSnapshot 12 = .ok (.iconst 0, 1) := dk_3 (dk_at dksX6_restoreSnapshot_0 12 rfl rfl)
theorem dX6_restoreSnapshot_13 : decode cX6_restoreSnapshot 13 = .ok (.ireturn, 1) := dk_172 (dk_at dksX6_restoreSnapshot_0 13 rfl rfl)
theorem dX6_restoreSnapshot_14 : decode cX6_restoreSnapshot 14 = .ok (.aload_n 0, 1) := dk_42 (dk_at dksX6_restoreSnapshot_0 14 rfl rfl)
theorem dX6_restoreSnapshot_15 : decode cX6_restoreSnapshot 15 = .ok (.getfield 22, 3) := dk_180 0 22 (dk_at dksX6_restoreSnapshot_0 15 rfl rfl)
theorem dX6_restoreSnapshot_18 : decode cX6_restoreSnapshot 18 = .ok (.aload_n 0, 1) := dk_42 (dk_at dksX6_restoreSnapshot_0 18 rfl rfl)
theorem dX6_restoreSnapshot_19 : decode cX6_restoreSnapshot 19 = .ok (.getfield 7, 3) := dk_180 0 7 (dk_at dksX6_restoreSnapshot_0 19 rfl rfl)
theorem dX6_restoreSnapshot_22 : decode cX6_restoreSnapshot 22 = .ok (.invokestatic 95, 3) := dk_184 0 95 (dk_at dksX6_restoreSnapshot_1 0 rfl rfl)
theorem dX6_restoreSnapshot_25 : decode cX6_restoreSnapshot 25 = .ok (.aload_n 0, 1) := dk_42 (dk_at dksX6_restoreSnapshot_1 3 rfl rfl)
theorem dX6_restoreSnapshot_26 : decode cX6_restoreSnapshot 26 = .ok (.iconst 0, 1) := dk_3 (dk_at dksX6_restoreSnapshot_1 4 rfl rfl)
theorem dX6_restoreSnapshot_27 : decode cX6_restoreSnapshot 27 = .ok (.putfield 103, 3) := dk_181 0 103 (dk_at dksX6_restoreSnapshot_1 5 rfl rfl)
theorem dX6_restoreSnapshot_30 : decode cX6_restoreSnapshot 30 = .ok (.aload_n 0, 1) := dk_42 (dk_at dksX6_restoreSnapshot_1 8 rfl rfl)
theorem dX6_restoreSnapshot_31 : decode cX6_restoreSnapshot 31 = .ok (.iconst 0, 1) := dk_3 (dk_at dksX6_restoreSnapshot_1 9 rfl rfl)
theorem dX6_restoreSnapshot_32 : decode cX6_restoreSnapshot 32 = .ok (.putfield 110, 3) := dk_181 0 110 (dk_at dksX6_restoreSnapshot_1 10 rfl rfl)
theorem dX6_restoreSnapshot_35 : decode cX6_restoreSnapshot 35 = .ok (.iconst 1, 1) := dk_4 (dk_at dksX6_restoreSnapshot_1 13 rfl rfl)
theorem dX6_restoreSnapshot_36 : decode cX6_restoreSnapshot 36 = .ok (.ireturn, 1) := dk_172 (dk_at dksX6_restoreSnapshot_1 14 rfl rfl)
abbrev cX6_error : ByteArray := prog_25_method_99_code
def yX6_error : MethodName := ⟨RX6, "error", "(II)I"⟩
def dkwX6_error_1 : List UInt8 := [180, 0, 7, 27, 28, 182, 1, 147, 66, 33, 20, 1, 134, 148, 154, 0, 7, 2, 167, 0, 5, 33, 136, 172]
abbrev dktX6_error_1 : List UInt8 := dkwX6_error_1 ++ []
def dkwX6_error_0 : List UInt8 := [42, 3, 181, 0, 88, 42, 42, 27, 28, 182, 1, 144, 4, 182, 0, 236, 153, 0, 5, 3, 172, 42, 42]
abbrev dktX6_error_0 : List UInt8 := dkwX6_error_0 ++ dktX6_error_1
theorem dksX6_error_0 : cX6_error.data.toList.drop 0 = dktX6_error_0 := by decide +kernel
theorem dksX6_error_1 : cX6_error.data.toList.drop 23 = dktX6_error_1 := dk_seg dksX6_error_0 23 rfl rfl
theorem dX6_error_0 : decode cX6_error 0 = .ok (.aload_n 0, 1) := dk_42 (dk_at dksX6_error_0 0 rfl rfl)
theorem dX6_error_1 : decode cX6_error 1 = .ok (.iconst 0, 1) := dk_3 (dk_at dksX6_error_0 1 rfl rfl)
theorem dX6_error_2 : decode cX6_error 2 = .ok (.putfield 88, 3) := dk_181 0 88 (dk_at dksX6_error_0 2 rfl rfl)
theorem dX6_error_5 : decode cX6_error 5 = .ok (.aload_n 0, 1) := dk_42 (dk_at dksX6_error_0 5 rfl rfl)
theorem dX6_error_6 : decode cX6_error 6 = .ok (.aload_n 0, 1) := dk_42 (dk_at dksX6_error_0 6 rfl rfl)
theorem dX6_error_7 : decode cX6_error 7 = .ok (.iload_n 1, 1) := dk_27 (dk_at dksX6_error_0 7 rfl rfl)
theorem dX6_error_8 : decode cX6_error 8 = .ok (.iload_n 2, 1) := dk_28 (dk_at dksX6_error_0 8 rfl rfl)
theorem dX6_error_9 : decode cX6_error 9 = .ok (.invokevirtual 400, 3) := dk_182 1 144 (dk_at dksX6_error_0 9 rfl rfl)
theorem dX6_error_12 : decode cX6_error 12 = .ok (.iconst 1, 1) := dk_4 (dk_at dksX6_error_0 12 rfl rfl)
theorem dX6_error_13 : decode cX6_error 13 = .ok (.invokevirtual 236, 3) := dk_182 0 236 (dk_at dksX6_error_0 13 rfl rfl)
theorem dX6_error_16 : decode cX6_error 16 = .ok (.ifCond .eq 5, 3) := dk_153 0 5 (dk_at dksX6_error_0 16 rfl rfl)
theorem dX6_error_19 : decode cX6_error 19 = .ok (.iconst 0, 1) := dk_3 (dk_at dksX6_error_0 19 rfl rfl)
theorem dX6_error_20 : decode cX6_error 20 = .ok (.ireturn, 1) := dk_172 (dk_at dksX6_error_0 20 rfl rfl)
theorem dX6_error_21 : decode cX6_error 21 = .ok (.aload_n 0, 1) := dk_42 (dk_at dksX6_error_0 21 rfl rfl)
theorem dX6_error_22 : decode cX6_error 22 = .ok (.aload_n 0, 1) := dk_42 (dk_at dksX6_error_0 22 rfl rfl)
theorem dX6_error_23 : decode cX6_error 23 = .ok (.getfield 7, 3) := dk_180 0 7 (dk_at dksX6_error_1 0 rfl rfl)
theorem dX6_error_26 : decode cX6_error 26 = .ok (.iload_n 1, 1) := dk_27 (dk_at dksX6_error_1 3 rfl rfl)
theorem dX6_error_27 : decode cX6_error 27 = .ok (.iload_n 2, 1) := dk_28 (dk_at dksX6_error_1 4 rfl rfl)
theorem dX6_error_28 : decode cX6_error 28 = .ok (.invokevirtual 403, 3) := dk_182 1 147 (dk_at dksX6_error_1 5 rfl rfl)
theorem dX6_error_31 : decode cX6_error 31 = .ok (.lstore_n 3, 1) := dk_66 (dk_at dksX6_error_1 8 rfl rfl)
theorem dX6_error_32 : decode cX6_error 32 = .ok (.lload_n 3, 1) := dk_33 (dk_at dksX6_error_1 9 rfl rfl)
theorem dX6_error_33 : decode cX6_error 33 = .ok (.ldc2_w 390, 3) := dk_20 1 134 (dk_at dksX6_error_1 10 rfl rfl)
theorem dX6_error_36 : decode cX6_error 36 = .ok (.lcmp, 1) := dk_148 (dk_at dksX6_error_1 13 rfl rfl)
theorem dX6_error_37 : decode cX6_error 37 = .ok (.ifCond .ne 7, 3) := dk_154 0 7 (dk_at dksX6_error_1 14 rfl rfl)
theorem dX6_error_40 : decode cX6_error 40 = .ok (.iconst (-1), 1) := dk_2 (dk_at dksX6_error_1 17 rfl rfl)
theorem dX6_error_41 : decode cX6_error 41 = .ok (.goto 5, 3) := dk_167 0 5 (dk_at dksX6_error_1 18 rfl rfl)
theorem dX6_error_44 : decode cX6_error 44 = .ok (.lload_n 3, 1) := dk_33 (dk_at dksX6_error_1 21 rfl rfl)
theorem dX6_error_45 : decode cX6_error 45 = .ok (.l2i, 1) := dk_136 (dk_at dksX6_error_1 22 rfl rfl)
theorem dX6_error_46 : decode cX6_error 46 = .ok (.ireturn, 1) := dk_172 (dk_at dksX6_error_1 23 rfl rfl)
abbrev cX6_isAsked : ByteArray := prog_25_method_98_code
def yX6_isAsked : MethodName := ⟨RX6, "isAsked", "(II)Z"⟩
def dkwX6_isAsked_1 : List UInt8 := [153, 0, 15, 27, 28, 184, 1, 140, 153, 0, 7, 4, 167, 0, 4, 3, 172]
abbrev dktX6_isAsked_1 : List UInt8 := dkwX6_isAsked_1 ++ []
def dkwX6_isAsked_0 : List UInt8 := [27, 133, 9, 20, 1, 136, 184, 0, 183, 153, 0, 29, 28, 133, 20, 0, 203, 20, 1, 138, 184, 0, 183]
abbrev dktX6_isAsked_0 : List UInt8 := dkwX6_isAsked_0 ++ dktX6_isAsked_1
theorem dksX6_isAsked_0 : cX6_isAsked.data.toList.drop 0 = dktX6_isAsked_0 := by decide +kernel
theorem dksX6_isAsked_1 : cX6_isAsked.data.toList.drop 23 = dktX6_isAsked_1 := dk_seg dksX6_isAsked_0 23 rfl rfl
theorem dX6_isAsked_0 : decode cX6_isAsked 0 = .ok (.iload_n 1, 1) := dk_27 (dk_at dksX6_isAsked_0 0 rfl rfl)
theorem dX6_isAsked_1 : decode cX6_isAsked 1 = .ok (.i2l, 1) := dk_133 (dk_at dksX6_isAsked_0 1 rfl rfl)
theorem dX6_isAsked_2 : decode cX6_isAsked 2 = .ok (.lconst 0, 1) := dk_9 (dk_at dksX6_isAsked_0 2 rfl rfl)
theorem dX6_isAsked_3 : decode cX6_isAsked 3 = .ok (.ldc2_w 392, 3) := dk_20 1 136 (dk_at dksX6_isAsked_0 3 rfl rfl)
theorem dX6_isAsked_6 : decode cX6_isAsked 6 = .ok (.invokestatic 183, 3) := dk_184 0 183 (dk_at dksX6_isAsked_0 6 rfl rfl)
theorem dX6_isAsked_9 : decode cX6_isAsked 9 = .ok (.ifCond .eq 29, 3) := dk_153 0 29 (dk_at dksX6_isAsked_0 9 rfl rfl)
theorem dX6_isAsked_12 : decode cX6_isAsked 12 = .ok (.iload_n 2, 1) := dk_28 (dk_at dksX6_isAsked_0 12 rfl rfl)
theorem dX6_isAsked_13 : decode cX6_isAsked 13 = .ok (.i2l, 1) := dk_133 (dk_at dksX6_isAsked_0 13 rfl rfl)
theorem dX6_isAsked_14 : decode cX6_isAsked 14 = .ok (.ldc2_w 203, 3) := dk_20 0 203 (dk_at dksX6_isAsked_0 14 rfl rfl)
theorem dX6_isAsked_17 : decode cX6_isAsked 17 = .ok (.ldc2_w 394, 3) := dk_20 1 138 (dk_at dksX6_isAsked_0 17 rfl rfl)
theorem dX6_isAsked_20 : decode cX6_isAsked 20 = .ok (.invokestatic 183, 3) := dk_184 0 183 (dk_at dksX6_isAsked_0 20 rfl rfl)
theorem dX6_isAsked_23 : decode cX6_isAsked 23 = .ok (.ifCond .eq 15, 3) := dk_153 0 15 (dk_at dksX6_isAsked_1 0 rfl rfl)
theorem dX6_isAsked_26 : decode cX6_isAsked 26 = .ok (.iload_n 1, 1) := dk_27 (dk_at dksX6_isAsked_1 3 rfl rfl)
theorem dX6_isAsked_27 : decode cX6_isAsked 27 = .ok (.iload_n 2, 1) := dk_28 (dk_at dksX6_isAsked_1 4 rfl rfl)
theorem dX6_isAsked_28 : decode cX6_isAsked 28 = .ok (.invokestatic 396, 3) := dk_184 1 140 (dk_at dksX6_isAsked_1 5 rfl rfl)
theorem dX6_isAsked_31 : decode cX6_isAsked 31 = .ok (.ifCond .eq 7, 3) := dk_153 0 7 (dk_at dksX6_isAsked_1 8 rfl rfl)
theorem dX6_isAsked_34 : decode cX6_isAsked 34 = .ok (.iconst 1, 1) := dk_4 (dk_at dksX6_isAsked_1 11 rfl rfl)
theorem dX6_isAsked_35 : decode cX6_isAsked 35 = .ok (.goto 4, 3) := dk_167 0 4 (dk_at dksX6_isAsked_1 12 rfl rfl)
theorem dX6_isAsked_38 : decode cX6_isAsked 38 = .ok (.iconst 0, 1) := dk_3 (dk_at dksX6_isAsked_1 15 rfl rfl)
theorem dX6_isAsked_39 : decode cX6_isAsked 39 = .ok (.ireturn, 1) := dk_172 (dk_at dksX6_isAsked_1 16 rfl rfl)
abbrev cX6_fits : ByteArray := prog_25_method_96_code
def yX6_fits : MethodName := ⟨RX6, "fits", "(II)Z"⟩
def dkwX6_fits_1 : List UInt8 := [5, 112, 154, 0, 7, 4, 167, 0, 4, 3, 172]
abbrev dktX6_fits_1 : List UInt8 := dkwX6_fits_1 ++ []
def dkwX6_fits_0 : List UInt8 := [26, 154, 0, 17, 27, 6, 112, 154, 0, 7, 4, 167, 0, 23, 3, 167, 0, 19, 26, 4, 160, 0, 9, 27]
abbrev dktX6_fits_0 : List UInt8 := dkwX6_fits_0 ++ dktX6_fits_1
theorem dksX6_fits_0 : cX6_fits.data.toList.drop 0 = dktX6_fits_0 := by decide +kernel
theorem dksX6_fits_1 : cX6_fits.data.toList.drop 24 = dktX6_fits_1 := dk_seg dksX6_fits_0 24 rfl rfl
theorem dX6_fits_0 : decode cX6_fits 0 = .ok (.iload_n 0, 1) := dk_26 (dk_at dksX6_fits_0 0 rfl rfl)
theorem dX6_fits_1 : decode cX6_fits 1 = .ok (.ifCond .ne 17, 3) := dk_154 0 17 (dk_at dksX6_fits_0 1 rfl rfl)
theorem dX6_fits_4 : decode cX6_fits 4 = .ok (.iload_n 1, 1) := dk_27 (dk_at dksX6_fits_0 4 rfl rfl)
theorem dX6_fits_5 : decode cX6_fits 5 = .ok (.iconst 3, 1) := dk_6 (dk_at dksX6_fits_0 5 rfl rfl)
theorem dX6_fits_6 : decode cX6_fits 6 = .ok (.irem, 1) := dk_112 (dk_at dksX6_fits_0 6 rfl rfl)
theorem dX6_fits_7 : decode cX6_fits 7 = .ok (.ifCond .ne 7, 3) := dk_154 0 7 (dk_at dksX6_fits_0 7 rfl rfl)
theorem dX6_fits_10 : decode cX6_fits 10 = .ok (.iconst 1, 1) := dk_4 (dk_at dksX6_fits_0 10 rfl rfl)
theorem dX6_fits_11 : decode cX6_fits 11 = .ok (.goto 23, 3) := dk_167 0 23 (dk_at dksX6_fits_0 11 rfl rfl)
theorem dX6_fits_14 : decode cX6_fits 14 = .ok (.iconst 0, 1) := dk_3 (dk_at dksX6_fits_0 14 rfl rfl)
theorem dX6_fits_15 : decode cX6_fits 15 = .ok (.goto 19, 3) := dk_167 0 19 (dk_at dksX6_fits_0 15 rfl rfl)
theorem dX6_fits_18 : decode cX6_fits 18 = .ok (.iload_n 0, 1) := dk_26 (dk_at dksX6_fits_0 18 rfl rfl)
theorem dX6_fits_19 : decode cX6_fits 19 = .ok (.iconst 1, 1) := dk_4 (dk_at dksX6_fits_0 19 rfl rfl)
theorem dX6_fits_20 : decode cX6_fits 20 = .ok (.if_icmp .ne 9, 3) := dk_160 0 9 (dk_at dksX6_fits_0 20 rfl rfl)
theorem dX6_fits_23 : decode cX6_fits 23 = .ok (.iload_n 1, 1) := dk_27 (dk_at dksX6_fits_0 23 rfl rfl)
theorem dX6_fits_24 : decode cX6_fits 24 = .ok (.iconst 2, 1) := dk_5 (dk_at dksX6_fits_1 0 rfl rfl)
theorem dX6_fits_25 : decode cX6_fits 25 = .ok (.irem, 1) := dk_112 (dk_at dksX6_fits_1 1 rfl rfl)
theorem dX6_fits_26 : decode cX6_fits 26 = .ok (.ifCond .ne 7, 3) := dk_154 0 7 (dk_at dksX6_fits_1 2 rfl rfl)
theorem dX6_fits_29 : decode cX6_fits 29 = .ok (.iconst 1, 1) := dk_4 (dk_at dksX6_fits_1 5 rfl rfl)
theorem dX6_fits_30 : decode cX6_fits 30 = .ok (.goto 4, 3) := dk_167 0 4 (dk_at dksX6_fits_1 6 rfl rfl)
theorem dX6_fits_33 : decode cX6_fits 33 = .ok (.iconst 0, 1) := dk_3 (dk_at dksX6_fits_1 9 rfl rfl)
theorem dX6_fits_34 : decode cX6_fits 34 = .ok (.ireturn, 1) := dk_172 (dk_at dksX6_fits_1 10 rfl rfl)
abbrev cX6_errorFrom : ByteArray := prog_25_method_97_code
def yX6_errorFrom : MethodName := ⟨RX6, "errorFrom", "([JII)J"⟩
def dkwX6_errorFrom_0 : List UInt8 := [42, 43, 29, 182, 1, 127, 29, 160, 0, 12, 42, 28, 29, 182, 1, 131, 167, 0, 6, 20, 1, 134, 173]
abbrev dktX6_errorFrom_0 : List UInt8 := dkwX6_errorFrom_0 ++ []
theorem dksX6_errorFrom_0 : cX6_errorFrom.data.toList.drop 0 = dktX6_errorFrom_0 := by decide +kernel
theorem dX6_errorFrom_0 : decode cX6_errorFrom 0 = .ok (.aload_n 0, 1) := dk_42 (dk_at dksX6_errorFrom_0 0 rfl rfl)
theorem dX6_errorFrom_1 : decode cX6_errorFrom 1 = .ok (.aload_n 1, 1) := dk_43 (dk_at dksX6_errorFrom_0 1 rfl rfl)
theorem dX6_errorFrom_2 : decode cX6_errorFrom 2 = .ok (.iload_n 3, 1) := dk_29 (dk_at dksX6_errorFrom_0 2 rfl rfl)
theorem dX6_errorFrom_3 : decode cX6_errorFrom 3 = .ok (.invokevirtual 383, 3) := dk_182 1 127 (dk_at dksX6_errorFrom_0 3 rfl rfl)
theorem dX6_errorFrom_6 : decode cX6_errorFrom 6 = .ok (.iload_n 3, 1) := dk_29 (dk_at dksX6_errorFrom_0 6 rfl rfl)
theorem dX6_errorFrom_7 : decode cX6_errorFrom 7 = .ok (.if_icmp .ne 12, 3) := dk_160 0 12 (dk_at dksX6_errorFrom_0 7 rfl rfl)
theorem dX6_errorFrom_10 : decode cX6_errorFrom 10 = .ok (.aload_n 0, 1) := dk_42 (dk_at dksX6_errorFrom_0 10 rfl rfl)
theorem dX6_errorFrom_11 : decode cX6_errorFrom 11 = .ok (.iload_n 2, 1) := dk_28 (dk_at dksX6_errorFrom_0 11 rfl rfl)
theorem dX6_errorFrom_12 : decode cX6_errorFrom 12 = .ok (.iload_n 3, 1) := dk_29 (dk_at dksX6_errorFrom_0 12 rfl rfl)
theorem dX6_errorFrom_13 : decode cX6_errorFrom 13 = .ok (.invokevirtual 387, 3) := dk_182 1 131 (dk_at dksX6_errorFrom_0 13 rfl rfl)
theorem dX6_errorFrom_16 : decode cX6_errorFrom 16 = .ok (.goto 6, 3) := dk_167 0 6 (dk_at dksX6_errorFrom_0 16 rfl rfl)
theorem dX6_errorFrom_19 : decode cX6_errorFrom 19 = .ok (.ldc2_w 390, 3) := dk_20 1 134 (dk_at dksX6_errorFrom_0 19 rfl rfl)
theorem dX6_errorFrom_22 : decode cX6_errorFrom 22 = .ok (.lreturn, 1) := dk_173 (dk_at dksX6_errorFrom_0 22 rfl rfl)
abbrev cX6_laysPath : ByteArray := prog_25_method_86_code
def yX6_laysPath : MethodName := ⟨RX6, "laysPath", "([JI)I"⟩
def dkwX6_laysPath_2 : List UInt8 := [167, 255, 227, 29, 172]
abbrev dktX6_laysPath_2 : List UInt8 := dkwX6_laysPath_2 ++ []
def dkwX6_laysPath_1 : List UInt8 := [42, 42, 180, 0, 13, 3, 182, 1, 62, 153, 0, 18, 132, 3, 1, 42, 42, 180, 0, 13, 29, 182, 1, 95]
abbrev dktX6_laysPath_1 : List UInt8 := dkwX6_laysPath_1 ++ dktX6_laysPath_2
def dkwX6_laysPath_0 : List UInt8 := [43, 42, 180, 0, 13, 184, 0, 95, 42, 42, 180, 0, 13, 3, 182, 1, 95, 3, 62, 29, 28, 162, 0, 30]
abbrev dktX6_laysPath_0 : List UInt8 := dkwX6_laysPath_0 ++ dktX6_laysPath_1
theorem dksX6_laysPath_0 : cX6_laysPath.data.toList.drop 0 = dktX6_laysPath_0 := by decide +kernel
theorem dksX6_laysPath_1 : cX6_laysPath.data.toList.drop 24 = dktX6_laysPath_1 := dk_seg dksX6_laysPath_0 24 rfl rfl
theorem dksX6_laysPath_2 : cX6_laysPath.data.toList.drop 48 = dktX6_laysPath_2 := dk_seg dksX6_laysPath_1 24 rfl rfl
theorem dX6_laysPath_0 : decode cX6_laysPath 0 = .ok (.aload_n 1, 1) := dk_43 (dk_at dksX6_laysPath_0 0 rfl rfl)
theorem dX6_laysPath_1 : decode cX6_laysPath 1 = .ok (.aload_n 0, 1) := dk_42 (dk_at dksX6_laysPath_0 1 rfl rfl)
theorem dX6_laysPath_2 : decode cX6_laysPath 2 = .ok (.getfield 13, 3) := dk_180 0 13 (dk_at dksX6_laysPath_0 2 rfl rfl)
theorem dX6_laysPath_5 : decode cX6_laysPath 5 = .ok (.invokestatic 95, 3) := dk_184 0 95 (dk_at dksX6_laysPath_0 5 rfl rfl)
theorem dX6_laysPath_8 : decode cX6_laysPath 8 = .ok (.aload_n 0, 1) := dk_42 (dk_at dksX6_laysPath_0 8 rfl rfl)
theorem dX6_laysPath_9 : decode cX6_laysPath 9 = .ok (.aload_n 0, 1) := dk_42 (dk_at dksX6_laysPath_0 9 rfl rfl)
theorem dX6_laysPath_10 : decode cX6_laysPath 10 = .ok (.getfield 13, 3) := dk_180 0 13 (dk_at dksX6_laysPath_0 10 rfl rfl)
theorem dX6_laysPath_13 : decode cX6_laysPath 13 = .ok (.iconst 0, 1) := dk_3 (dk_at dksX6_laysPath_0 13 rfl rfl)
theorem dX6_laysPath_14 : decode cX6_laysPath 14 = .ok (.invokevirtual 351, 3) := dk_182 1 95 (dk_at dksX6_laysPath_0 14 rfl rfl)
theorem dX6_laysPath_17 : decode cX6_laysPath 17 = .ok (.iconst 0, 1) := dk_3 (dk_at dksX6_laysPath_0 17 rfl rfl)
theorem dX6_laysPath_18 : decode cX6_laysPath 18 = .ok (.istore_n 3, 1) := dk_62 (dk_at dksX6_laysPath_0 18 rfl rfl)
theorem dX6_laysPath_19 : decode cX6_laysPath 19 = .ok (.iload_n 3, 1) := dk_29 (dk_at dksX6_laysPath_0 19 rfl rfl)
theorem dX6_laysPath_20 : decode cX6_laysPath 20 = .ok (.iload_n 2, 1) := dk_28 (dk_at dksX6_laysPath_0 20 rfl rfl)
theorem dX6_laysPath_21 : decode cX6_laysPath 21 = .ok (.if_icmp .ge 30, 3) := dk_162 0 30 (dk_at dksX6_laysPath_0 21 rfl rfl)
theorem dX6_laysPath_24 : decode cX6_laysPath 24 = .ok (.aload_n 0, 1) := dk_42 (dk_at dksX6_laysPath_1 0 rfl rfl)
theorem dX6_laysPath_25 : decode cX6_laysPath 25 = .ok (.aload_n 0, 1) := dk_42 (dk_at dksX6_laysPath_1 1 rfl rfl)
theorem dX6_laysPath_26 : decode cX6_laysPath 26 = .ok (.getfield 13, 3) := dk_180 0 13 (dk_at dksX6_laysPath_1 2 rfl rfl)
theorem dX6_laysPath_29 : decode cX6_laysPath 29 = .ok (.iconst 0, 1) := dk_3 (dk_at dksX6_laysPath_1 5 rfl rfl)
theorem dX6_laysPath_30 : decode cX6_laysPath 30 = .ok (.invokevirtual 318, 3) := dk_182 1 62 (dk_at dksX6_laysPath_1 6 rfl rfl)
theorem dX6_laysPath_33 : decode cX6_laysPath 33 = .ok (.ifCond .eq 18, 3) := dk_153 0 18 (dk_at dksX6_laysPath_1 9 rfl rfl)
theorem dX6_laysPath_36 : decode cX6_laysPath 36 = .ok (.iinc 3 1, 3) := dk_132 3 1 (dk_at dksX6_laysPath_1 12 rfl rfl)
theorem dX6_laysPath_39 : decode cX6_laysPath 39 = .ok (.aload_n 0, 1) := dk_42 (dk_at dksX6_laysPath_1 15 rfl rfl)
theorem dX6_laysPath_40 : decode cX6_laysPath 40 = .ok (.aload_n 0, 1) := dk_42 (dk_at dksX6_laysPath_1 16 rfl rfl)
theorem dX6_laysPath_41 : decode cX6_laysPath 41 = .ok (.getfield 13, 3) := dk_180 0 13 (dk_at dksX6_laysPath_1 17 rfl rfl)
theorem dX6_laysPath_44 : decode cX6_laysPath 44 = .ok (.iload_n 3, 1) := dk_29 (dk_at dksX6_laysPath_1 20 rfl rfl)
theorem dX6_laysPath_45 : decode cX6_laysPath 45 = .ok (.invokevirtual 351, 3) := dk_182 1 95 (dk_at dksX6_laysPath_1 21 rfl rfl)
theorem dX6_laysPath_48 : decode cX6_laysPath 48 = .ok (.goto (-29), 3) := dk_167 255 227 (dk_at dksX6_laysPath_2 0 rfl rfl)
theorem dX6_laysPath_51 : decode cX6_laysPath 51 = .ok (.iload_n 3, 1) := dk_29 (dk_at dksX6_laysPath_2 3 rfl rfl)
theorem dX6_laysPath_52 : decode cX6_laysPath 52 = .ok (.ireturn, 1) := dk_172 (dk_at dksX6_laysPath_2 4 rfl rfl)
abbrev cX6_laysPlaces : ByteArray := prog_25_method_85_code
def yX6_laysPlaces : MethodName := ⟨RX6, "laysPlaces", "([JI)V"⟩
def dkwX6_laysPlaces_2 : List UInt8 := [184, 0, 79, 47, 80, 132, 3, 1, 167, 255, 206, 177]
abbrev dktX6_laysPlaces_2 : List UInt8 := dkwX6_laysPlaces_2 ++ []
def dkwX6_laysPlaces_1 : List UInt8 := [184, 0, 79, 47, 80, 42, 180, 0, 51, 16, 6, 28, 104, 5, 29, 104, 96, 4, 96, 43, 29, 5]
abbrev dktX6_laysPlaces_1 : List UInt8 := dkwX6_laysPlaces_1 ++ dktX6_laysPlaces_2
def dkwX6_laysPlaces_0 : List UInt8 := [3, 62, 29, 6, 162, 0, 51, 42, 180, 0, 51, 16, 6, 28, 104, 5, 29, 104, 96, 43, 29, 4]
abbrev dktX6_laysPlaces_0 : List UInt8 := dkwX6_laysPlaces_0 ++ dktX6_laysPlaces_1
theorem dksX6_laysPlaces_0 : cX6_laysPlaces.data.toList.drop 0 = dktX6_laysPlaces_0 := by decide +kernel
theorem dksX6_laysPlaces_1 : cX6_laysPlaces.data.toList.drop 22 = dktX6_laysPlaces_1 := dk_seg dksX6_laysPlaces_0 22 rfl rfl
theorem dksX6_laysPlaces_2 : cX6_laysPlaces.data.toList.drop 44 = dktX6_laysPlaces_2 := dk_seg dksX6_laysPlaces_1 22 rfl rfl
theorem dX6_laysPlaces_0 : decode cX6_laysPlaces 0 = .ok (.iconst 0, 1) := dk_3 (dk_at dksX6_laysPlaces_0 0 rfl rfl)
theorem dX6_laysPlaces_1 : decode cX6_laysPlaces 1 = .ok (.istore_n 3, 1) := dk_62 (dk_at dksX6_laysPlaces_0 1 rfl rfl)
theorem dX6_laysPlaces_2 : decode cX6_laysPlaces 2 = .ok (.iload_n 3, 1) := dk_29 (dk_at dksX6_laysPlaces_0 2 rfl rfl)
theorem dX6_laysPlaces_3 : decode cX6_laysPlaces 3 = .ok (.iconst 3, 1) := dk_6 (dk_at dksX6_laysPlaces_0 3 rfl rfl)
theorem dX6_laysPlaces_4 : decode cX6_laysPlaces 4 = .ok (.if_icmp .ge 51, 3) := dk_162 0 51 (dk_at dksX6_laysPlaces_0 4 rfl rfl)
theorem dX6_laysPlaces_7 : decode cX6_laysPlaces 7 = .ok (.aload_n 0, 1) := dk_42 (dk_at dksX6_laysPlaces_0 7 rfl rfl)
theorem dX6_laysPlaces_8 : decode cX6_laysPlaces 8 = .ok (.getfield 51, 3) := dk_180 0 51 (dk_at dksX6_laysPlaces_0 8 rfl rfl)
theorem dX6_laysPlaces_11 : decode cX6_laysPlaces 11 = .ok (.bipush 6, 2) := dk_16 6 (dk_at dksX6_laysPlaces_0 11 rfl rfl)
theorem dX6_laysPlaces_13 : decode cX6_laysPlaces 13 = .ok (.iload_n 2, 1) := dk_28 (dk_at dksX6_laysPlaces_0 13 rfl rfl)
theorem dX6_laysPlaces_14 : decode cX6_laysPlaces 14 = .ok (.imul, 1) := dk_104 (dk_at dksX6_laysPlaces_0 14 rfl rfl)
theorem dX6_laysPlaces_15 : decode cX6_laysPlaces 15 = .ok (.iconst 2, 1) := dk_5 (dk_at dksX6_laysPlaces_0 15 rfl rfl)
theorem dX6_laysPlaces_16 : decode cX6_laysPlaces 16 = .ok (.iload_n 3, 1) := dk_29 (dk_at dksX6_laysPlaces_0 16 rfl rfl)
theorem dX6_laysPlaces_17 : decode cX6_laysPlaces 17 = .ok (.imul, 1) := dk_104 (dk_at dksX6_laysPlaces_0 17 rfl rfl)
theorem dX6_laysPlaces_18 : decode cX6_laysPlaces 18 = .ok (.iadd, 1) := dk_96 (dk_at dksX6_laysPlaces_0 18 rfl rfl)
theorem dX6_laysPlaces_19 : decode cX6_laysPlaces 19 = .ok (.aload_n 1, 1) := dk_43 (dk_at dksX6_laysPlaces_0 19 rfl rfl)
theorem dX6_laysPlaces_20 : decode cX6_laysPlaces 20 = .ok (.iload_n 3, 1) := dk_29 (dk_at dksX6_laysPlaces_0 20 rfl rfl)
theorem dX6_laysPlaces_21 : decode cX6_laysPlaces 21 = .ok (.iconst 1, 1) := dk_4 (dk_at dksX6_laysPlaces_0 21 rfl rfl)
theorem dX6_laysPlaces_22 : decode cX6_laysPlaces 22 = .ok (.invokestatic 79, 3) := dk_184 0 79 (dk_at dksX6_laysPlaces_1 0 rfl rfl)
theorem dX6_laysPlaces_25 : decode cX6_laysPlaces 25 = .ok (.laload, 1) := dk_47 (dk_at dksX6_laysPlaces_1 3 rfl rfl)
theorem dX6_laysPlaces_26 : decode cX6_laysPlaces 26 = .ok (.lastore, 1) := dk_80 (dk_at dksX6_laysPlaces_1 4 rfl rfl)
theorem dX6_laysPlaces_27 : decode cX6_laysPlaces 27 = .ok (.aload_n 0, 1) := dk_42 (dk_at dksX6_laysPlaces_1 5 rfl rfl)
theorem dX6_laysPlaces_28 : decode cX6_laysPlaces 28 = .ok (.getfield 51, 3) := dk_180 0 51 (dk_at dksX6_laysPlaces_1 6 rfl rfl)
theorem dX6_laysPlaces_31 : decode cX6_laysPlaces 31 = .ok (.bipush 6, 2) := dk_16 6 (dk_at dksX6_laysPlaces_1 9 rfl rfl)
theorem dX6_laysPlaces_33 : decode cX6_laysPlaces 33 = .ok (.iload_n 2, 1) := dk_28 (dk_at dksX6_laysPlaces_1 11 rfl rfl)
theorem dX6_laysPlaces_34 : decode cX6_laysPlaces 34 = .ok (.imul, 1) := dk_104 (dk_at dksX6_laysPlaces_1 12 rfl rfl)
theorem dX6_laysPlaces_35 : decode cX6_laysPlaces 35 = .ok (.iconst 2, 1) := dk_5 (dk_at dksX6_laysPlaces_1 13 rfl rfl)
theorem dX6_laysPlaces_36 : decode cX6_laysPlaces 36 = .ok (.iload_n 3, 1) := dk_29 (dk_at dksX6_laysPlaces_1 14 rfl rfl)
theorem dX6_laysPlaces_37 : decode cX6_laysPlaces 37 = .ok (.imul, 1) := dk_104 (dk_at dksX6_laysPlaces_1 15 rfl rfl)
theorem dX6_laysPlaces_38 : decode cX6_laysPlaces 38 = .ok (.iadd, 1) := dk_96 (dk_at dksX6_laysPlaces_1 16 rfl rfl)
theorem dX6_laysPlaces_39 : decode cX6_laysPlaces 39 = .ok (.iconst 1, 1) := dk_4 (dk_at dksX6_laysPlaces_1 17 rfl rfl)
theorem dX6_laysPlaces_40 : decode cX6_laysPlaces 40 = .ok (.iadd, 1) := dk_96 (dk_at dksX6_laysPlaces_1 18 rfl rfl)
theorem dX6_laysPlaces_41 : decode cX6_laysPlaces 41 = .ok (.aload_n 1, 1) := dk_43 (dk_at dksX6_laysPlaces_1 19 rfl rfl)
theorem dX6_laysPlaces_42 : decode cX6_laysPlaces 42 = .ok (.iload_n 3, 1) := dk_29 (dk_at dksX6_laysPlaces_1 20 rfl rfl)
theorem dX6_laysPlaces_43 : decode cX6_laysPlaces 43 = .ok (.iconst 2, 1) := dk_5 (dk_at dksX6_laysPlaces_1 21 rfl rfl)
theorem dX6_laysPlaces_44 : decode cX6_laysPlaces 44 = .ok (.invokestatic 79, 3) := dk_184 0 79 (dk_at dksX6_laysPlaces_2 0 rfl rfl)
theorem dX6_laysPlaces_47 : decode cX6_laysPlaces 47 = .ok (.laload, 1) := dk_47 (dk_at dksX6_laysPlaces_2 3 rfl rfl)
theorem dX6_laysPlaces_48 : decode cX6_laysPlaces 48 = .ok (.lastore, 1) := dk_80 (dk_at dksX6_laysPlaces_2 4 rfl rfl)
theorem dX6_laysPlaces_49 : decode cX6_laysPlaces 49 = .ok (.iinc 3 1, 3) := dk_132 3 1 (dk_at dksX6_laysPlaces_2 5 rfl rfl)
theorem dX6_laysPlaces_52 : decode cX6_laysPlaces 52 = .ok (.goto (-50), 3) := dk_167 255 206 (dk_at dksX6_laysPlaces_2 8 rfl rfl)
theorem dX6_laysPlaces_55 : decode cX6_laysPlaces 55 = .ok (.return_, 1) := dk_177 (dk_at dksX6_laysPlaces_2 11 rfl rfl)
abbrev cX6_errorOf : ByteArray := prog_25_method_95_code
def yX6_errorOf : MethodName := ⟨RX6, "errorOf", "(II)J"⟩
def dkwX6_errorOf_2 : List UInt8 := [42, 28, 182, 1, 114, 173, 42, 28, 182, 1, 118, 173, 42, 28, 182, 1, 121, 173, 42, 28, 182, 1, 124, 173]
abbrev dktX6_errorOf_2 : List UInt8 := dkwX6_errorOf_2 ++ []
def dkwX6_errorOf_1 : List UInt8 := [170, 0, 0, 0, 0, 0, 45, 0, 0, 0, 0, 0, 0, 0, 2, 0, 0, 0, 27, 0, 0, 0, 33, 0, 0, 0, 39]
abbrev dktX6_errorOf_1 : List UInt8 := dkwX6_errorOf_1 ++ dktX6_errorOf_2
def dkwX6_errorOf_0 : List UInt8 := [27]
abbrev dktX6_errorOf_0 : List UInt8 := dkwX6_errorOf_0 ++ dktX6_errorOf_1
theorem dksX6_errorOf_0 : cX6_errorOf.data.toList.drop 0 = dktX6_errorOf_0 := by decide +kernel
theorem dksX6_errorOf_1 : cX6_errorOf.data.toList.drop 1 = dktX6_errorOf_1 := dk_seg dksX6_errorOf_0 1 rfl rfl
theorem dksX6_errorOf_2 : cX6_errorOf.data.toList.drop 28 = dktX6_errorOf_2 := dk_seg dksX6_errorOf_1 27 rfl rfl
theorem dX6_errorOf_0 : decode cX6_errorOf 0 = .ok (.iload_n 1, 1) := dk_27 (dk_at dksX6_errorOf_0 0 rfl rfl)
theorem dX6_errorOf_1 : decode cX6_errorOf 1 = .ok (.tableswitch 45 0 2 #[27, 33, 39], 27) := by decide +kernel
theorem dX6_errorOf_28 : decode cX6_errorOf 28 = .ok (.aload_n 0, 1) := dk_42 (dk_at dksX6_errorOf_2 0 rfl rfl)
theorem dX6_errorOf_29 : decode cX6_errorOf 29 = .ok (.iload_n 2, 1) := dk_28 (dk_at dksX6_errorOf_2 1 rfl rfl)
theorem dX6_errorOf_30 : decode cX6_errorOf 30 = .ok (.invokevirtual 370, 3) := dk_182 1 114 (dk_at dksX6_errorOf_2 2 rfl rfl)
theorem dX6_errorOf_33 : decode cX6_errorOf 33 = .ok (.lreturn, 1) := dk_173 (dk_at dksX6_errorOf_2 5 rfl rfl)
theorem dX6_errorOf_34 : decode cX6_errorOf 34 = .ok (.aload_n 0, 1) := dk_42 (dk_at dksX6_errorOf_2 6 rfl rfl)
theorem dX6_errorOf_35 : decode cX6_errorOf 35 = .ok (.iload_n 2, 1) := dk_28 (dk_at dksX6_errorOf_2 7 rfl rfl)
theorem dX6_errorOf_36 : decode cX6_errorOf 36 = .ok (.invokevirtual 374, 3) := dk_182 1 118 (dk_at dksX6_errorOf_2 8 rfl rfl)
theorem dX6_errorOf_39 : decode cX6_errorOf 39 = .ok (.lreturn, 1) := dk_173 (dk_at dksX6_errorOf_2 11 rfl rfl)
theorem dX6_errorOf_40 : decode cX6_errorOf 40 = .ok (.aload_n 0, 1) := dk_42 (dk_at dksX6_errorOf_2 12 rfl rfl)
theorem dX6_errorOf_41 : decode cX6_errorOf 41 = .ok (.iload_n 2, 1) := dk_28 (dk_at dksX6_errorOf_2 13 rfl rfl)
theorem dX6_errorOf_42 : decode cX6_errorOf 42 = .ok (.invokevirtual 377, 3) := dk_182 1 121 (dk_at dksX6_errorOf_2 14 rfl rfl)
theorem dX6_errorOf_45 : decode cX6_errorOf 45 = .ok (.lreturn, 1) := dk_173 (dk_at dksX6_errorOf_2 17 rfl rfl)
theorem dX6_errorOf_46 : decode cX6_errorOf 46 = .ok (.aload_n 0, 1) := dk_42 (dk_at dksX6_errorOf_2 18 rfl rfl)
theorem dX6_errorOf_47 : decode cX6_errorOf 47 = .ok (.iload_n 2, 1) := dk_28 (dk_at dksX6_errorOf_2 19 rfl rfl)
theorem dX6_errorOf_48 : decode cX6_errorOf 48 = .ok (.invokevirtual 380, 3) := dk_182 1 124 (dk_at dksX6_errorOf_2 20 rfl rfl)
theorem dX6_errorOf_51 : decode cX6_errorOf 51 = .ok (.lreturn, 1) := dk_173 (dk_at dksX6_errorOf_2 23 rfl rfl)
abbrev cX6_chaseError : ByteArray := prog_25_method_91_code
def yX6_chaseError : MethodName := ⟨RX6, "chaseError", "(I)J"⟩
def dkwX6_chaseError_3 : List UInt8 := [184, 1, 101, 65, 132, 5, 1, 167, 255, 194, 132, 4, 1, 167, 255, 179, 32, 173]
abbrev dktX6_chaseError_3 : List UInt8 := dkwX6_chaseError_3 ++ []
def dkwX6_chaseError_2 : List UInt8 := [182, 1, 104, 101, 42, 21, 4, 21, 5, 182, 1, 108, 42, 21, 6, 3, 182, 1, 108, 101, 184, 1, 111]
abbrev dktX6_chaseError_2 : List UInt8 := dkwX6_chaseError_2 ++ dktX6_chaseError_3
def dkwX6_chaseError_1 : List UInt8 := [27, 6, 108, 104, 96, 27, 112, 54, 6, 32, 42, 21, 4, 21, 5, 182, 1, 104, 42, 21, 6, 3]
abbrev dktX6_chaseError_1 : List UInt8 := dkwX6_chaseError_1 ++ dktX6_chaseError_2
def dkwX6_chaseError_0 : List UInt8 := [9, 65, 3, 54, 4, 21, 4, 27, 162, 0, 77, 4, 54, 5, 21, 5, 6, 162, 0, 62, 21, 4, 21, 5]
abbrev dktX6_chaseError_0 : List UInt8 := dkwX6_chaseError_0 ++ dktX6_chaseError_1
theorem dksX6_chaseError_0 : cX6_chaseError.data.toList.drop 0 = dktX6_chaseError_0 := by decide +kernel
theorem dksX6_chaseError_1 : cX6_chaseError.data.toList.drop 24 = dktX6_chaseError_1 := dk_seg dksX6_chaseError_0 24 rfl rfl
theorem dksX6_chaseError_2 : cX6_chaseError.data.toList.drop 46 = dktX6_chaseError_2 := dk_seg dksX6_chaseError_1 22 rfl rfl
theorem dksX6_chaseError_3 : cX6_chaseError.data.toList.drop 69 = dktX6_chaseError_3 := dk_seg dksX6_chaseError_2 23 rfl rfl
theorem dX6_chaseError_0 : decode cX6_chaseError 0 = .ok (.lconst 0, 1) := dk_9 (dk_at dksX6_chaseError_0 0 rfl rfl)
theorem dX6_chaseError_1 : decode cX6_chaseError 1 = .ok (.lstore_n 2, 1) := dk_65 (dk_at dksX6_chaseError_0 1 rfl rfl)
theorem dX6_chaseError_2 : decode cX6_chaseError 2 = .ok (.iconst 0, 1) := dk_3 (dk_at dksX6_chaseError_0 2 rfl rfl)
theorem dX6_chaseError_3 : decode cX6_chaseError 3 = .ok (.istore 4, 2) := dk_54 4 (dk_at dksX6_chaseError_0 3 rfl rfl)
theorem dX6_chaseError_5 : decode cX6_chaseError 5 = .ok (.iload 4, 2) := dk_21 4 (dk_at dksX6_chaseError_0 5 rfl rfl)
theorem dX6_chaseError_7 : decode cX6_chaseError 7 = .ok (.iload_n 1, 1) := dk_27 (dk_at dksX6_chaseError_0 7 rfl rfl)
theorem dX6_chaseError_8 : decode cX6_chaseError 8 = .ok (.if_icmp .ge 77, 3) := dk_162 0 77 (dk_at dksX6_chaseError_0 8 rfl rfl)
theorem dX6_chaseError_11 : decode cX6_chaseError 11 = .ok (.iconst 1, 1) := dk_4 (dk_at dksX6_chaseError_0 11 rfl rfl)
theorem dX6_chaseError_12 : decode cX6_chaseError 12 = .ok (.istore 5, 2) := dk_54 5 (dk_at dksX6_chaseError_0 12 rfl rfl)
theorem dX6_chaseError_14 : decode cX6_chaseError 14 = .ok (.iload 5, 2) := dk_21 5 (dk_at dksX6_chaseError_0 14 rfl rfl)
theorem dX6_chaseError_16 : decode cX6_chaseError 16 = .ok (.iconst 3, 1) := dk_6 (dk_at dksX6_chaseError_0 16 rfl rfl)
theorem dX6_chaseError_17 : decode cX6_chaseError 17 = .ok (.if_icmp .ge 62, 3) := dk_162 0 62 (dk_at dksX6_chaseError_0 17 rfl rfl)
theorem dX6_chaseError_20 : decode cX6_chaseError 20 = .ok (.iload 4, 2) := dk_21 4 (dk_at dksX6_chaseError_0 20 rfl rfl)
theorem dX6_chaseError_22 : decode cX6_chaseError 22 = .ok (.iload 5, 2) := dk_21 5 (dk_at dksX6_chaseError_0 22 rfl rfl)
theorem dX6_chaseError_24 : decode cX6_chaseError 24 = .ok (.iload_n 1, 1) := dk_27 (dk_at dksX6_chaseError_1 0 rfl rfl)
theorem dX6_chaseError_25 : decode cX6_chaseError 25 = .ok (.iconst 3, 1) := dk_6 (dk_at dksX6_chaseError_1 1 rfl rfl)
theorem dX6_chaseError_26 : decode cX6_chaseError 26 = .ok (.idiv, 1) := dk_108 (dk_at dksX6_chaseError_1 2 rfl rfl)
theorem dX6_chaseError_27 : decode cX6_chaseError 27 = .ok (.imul, 1) := dk_104 (dk_at dksX6_chaseError_1 3 rfl rfl)
theorem dX6_chaseError_28 : decode cX6_chaseError 28 = .ok (.iadd, 1) := dk_96 (dk_at dksX6_chaseError_1 4 rfl rfl)
theorem dX6_chaseError_29 : decode cX6_chaseError 29 = .ok (.iload_n 1, 1) := dk_27 (dk_at dksX6_chaseError_1 5 rfl rfl)
theorem dX6_chaseError_30 : decode cX6_chaseError 30 = .ok (.irem, 1) := dk_112 (dk_at dksX6_chaseError_1 6 rfl rfl)
theorem dX6_chaseError_31 : decode cX6_chaseError 31 = .ok (.istore 6, 2) := dk_54 6 (dk_at dksX6_chaseError_1 7 rfl rfl)
theorem dX6_chaseError_33 : decode cX6_chaseError 33 = .ok (.lload_n 2, 1) := dk_32 (dk_at dksX6_chaseError_1 9 rfl rfl)
theorem dX6_chaseError_34 : decode cX6_chaseError 34 = .ok (.aload_n 0, 1) := dk_42 (dk_at dksX6_chaseError_1 10 rfl rfl)
theorem dX6_chaseError_35 : decode cX6_chaseError 35 = .ok (.iload 4, 2) := dk_21 4 (dk_at dksX6_chaseError_1 11 rfl rfl)
theorem dX6_chaseError_37 : decode cX6_chaseError 37 = .ok (.iload 5, 2) := dk_21 5 (dk_at dksX6_chaseError_1 13 rfl rfl)
theorem dX6_chaseError_39 : decode cX6_chaseError 39 = .ok (.invokevirtual 360, 3) := dk_182 1 104 (dk_at dksX6_chaseError_1 15 rfl rfl)
theorem dX6_chaseError_42 : decode cX6_chaseError 42 = .ok (.aload_n 0, 1) := dk_42 (dk_at dksX6_chaseError_1 18 rfl rfl)
theorem dX6_chaseError_43 : decode cX6_chaseError 43 = .ok (.iload 6, 2) := dk_21 6 (dk_at dksX6_chaseError_1 19 rfl rfl)
theorem dX6_chaseError_45 : decode cX6_chaseError 45 = .ok (.iconst 0, 1) := dk_3 (dk_at dksX6_chaseError_1 21 rfl rfl)
theorem dX6_chaseError_46 : decode cX6_chaseError 46 = .ok (.invokevirtual 360, 3) := dk_182 1 104 (dk_at dksX6_chaseError_2 0 rfl rfl)
theorem dX6_chaseError_49 : decode cX6_chaseError 49 = .ok (.lsub, 1) := dk_101 (dk_at dksX6_chaseError_2 3 rfl rfl)
theorem dX6_chaseError_50 : decode cX6_chaseError 50 = .ok (.aload_n 0, 1) := dk_42 (dk_at dksX6_chaseError_2 4 rfl rfl)
theorem dX6_chaseError_51 : decode cX6_chaseError 51 = .ok (.iload 4, 2) := dk_21 4 (dk_at dksX6_chaseError_2 5 rfl rfl)
theorem dX6_chaseError_53 : decode cX6_chaseError 53 = .ok (.iload 5, 2) := dk_21 5 (dk_at dksX6_chaseError_2 7 rfl rfl)
theorem dX6_chaseError_55 : decode cX6_chaseError 55 = .ok (.invokevirtual 364, 3) := dk_182 1 108 (dk_at dksX6_chaseError_2 9 rfl rfl)
theorem dX6_chaseError_58 : decode cX6_chaseError 58 = .ok (.aload_n 0, 1) := dk_42 (dk_at dksX6_chaseError_2 12 rfl rfl)
theorem dX6_chaseError_59 : decode cX6_chaseError 59 = .ok (.iload 6, 2) := dk_21 6 (dk_at dksX6_chaseError_2 13 rfl rfl)
theorem dX6_chaseError_61 : decode cX6_chaseError 61 = .ok (.iconst 0, 1) := dk_3 (dk_at dksX6_chaseError_2 15 rfl rfl)
theorem dX6_chaseError_62 : decode cX6_chaseError 62 = .ok (.invokevirtual 364, 3) := dk_182 1 108 (dk_at dksX6_chaseError_2 16 rfl rfl)
theorem dX6_chaseError_65 : decode cX6_chaseError 65 = .ok (.lsub, 1) := dk_101 (dk_at dksX6_chaseError_2 19 rfl rfl)
theorem dX6_chaseError_66 : decode cX6_chaseError 66 = .ok (.invokestatic 367, 3) := dk_184 1 111 (dk_at dksX6_chaseError_2 20 rfl rfl)
theorem dX6_chaseError_69 : decode cX6_chaseError 69 = .ok (.invokestatic 357, 3) := dk_184 1 101 (dk_at dksX6_chaseError_3 0 rfl rfl)
theorem dX6_chaseError_72 : decode cX6_chaseError 72 = .ok (.lstore_n 2, 1) := dk_65 (dk_at dksX6_chaseError_3 3 rfl rfl)
theorem dX6_chaseError_73 : decode cX6_chaseError 73 = .ok (.iinc 5 1, 3) := dk_132 5 1 (dk_at dksX6_chaseError_3 4 rfl rfl)
theorem dX6_chaseError_76 : decode cX6_chaseError 76 = .ok (.goto (-62), 3) := dk_167 255 194 (dk_at dksX6_chaseError_3 7 rfl rfl)
theorem dX6_chaseError_79 : decode cX6_chaseError 79 = .ok (.iinc 4 1, 3) := dk_132 4 1 (dk_at dksX6_chaseError_3 10 rfl rfl)
theorem dX6_chaseError_82 : decode cX6_chaseError 82 = .ok (.goto (-77), 3) := dk_167 255 179 (dk_at dksX6_chaseError_3 13 rfl rfl)
theorem dX6_chaseError_85 : decode cX6_chaseError 85 = .ok (.lload_n 2, 1) := dk_32 (dk_at dksX6_chaseError_3 16 rfl rfl)
theorem dX6_chaseError_86 : decode cX6_chaseError 86 = .ok (.lreturn, 1) := dk_173 (dk_at dksX6_chaseError_3 17 rfl rfl)
abbrev cX6_px : ByteArray := prog_25_method_87_code
def yX6_px : MethodName := ⟨RX6, "px", "(II)J"⟩
def dkwX6_px_0 : List UInt8 := [42, 180, 0, 51, 16, 6, 27, 104, 5, 28, 104, 96, 47, 173]
abbrev dktX6_px_0 : List UInt8 := dkwX6_px_0 ++ []
theorem dksX6_px_0 : cX6_px.data.toList.drop 0 = dktX6_px_0 := by decide +kernel
theorem dX6_px_0 : decode cX6_px 0 = .ok (.aload_n 0, 1) := dk_42 (dk_at dksX6_px_0 0 rfl rfl)
theorem dX6_px_1 : decode cX6_px 1 = .ok (.getfield 51, 3) := dk_180 0 51 (dk_at dksX6_px_0 1 rfl rfl)
theorem dX6_px_4 : decode cX6_px 4 = .ok (.bipush 6, 2) := dk_16 6 (dk_at dksX6_px_0 4 rfl rfl)
theorem dX6_px_6 : decode cX6_px 6 = .ok (.iload_n 1, 1) := dk_27 (dk_at dksX6_px_0 6 rfl rfl)
theorem dX6_px_7 : decode cX6_px 7 = .ok (.imul, 1) := dk_104 (dk_at dksX6_px_0 7 rfl rfl)
theorem dX6_px_8 : decode cX6_px 8 = .ok (.iconst 2, 1) := dk_5 (dk_at dksX6_px_0 8 rfl rfl)
theorem dX6_px_9 : decode cX6_px 9 = .ok (.iload_n 2, 1) := dk_28 (dk_at dksX6_px_0 9 rfl rfl)
theorem dX6_px_10 : decode cX6_px 10 = .ok (.imul, 1) := dk_104 (dk_at dksX6_px_0 10 rfl rfl)
theorem dX6_px_11 : decode cX6_px 11 = .ok (.iadd, 1) := dk_96 (dk_at dksX6_px_0 11 rfl rfl)
theorem dX6_px_12 : decode cX6_px 12 = .ok (.laload, 1) := dk_47 (dk_at dksX6_px_0 12 rfl rfl)
theorem dX6_px_13 : decode cX6_px 13 = .ok (.lreturn, 1) := dk_173 (dk_at dksX6_px_0 13 rfl rfl)
abbrev cX6_py : ByteArray := prog_25_method_88_code
def yX6_py : MethodName := ⟨RX6, "py", "(II)J"⟩
def dkwX6_py_0 : List UInt8 := [42, 180, 0, 51, 16, 6, 27, 104, 5, 28, 104, 96, 4, 96, 47, 173]
abbrev dktX6_py_0 : List UInt8 := dkwX6_py_0 ++ []
theorem dksX6_py_0 : cX6_py.data.toList.drop 0 = dktX6_py_0 := by decide +kernel
theorem dX6_py_0 : decode cX6_py 0 = .ok (.aload_n 0, 1) := dk_42 (dk_at dksX6_py_0 0 rfl rfl)
theorem dX6_py_1 : decode cX6_py 1 = .ok (.getfield 51, 3) := dk_180 0 51 (dk_at dksX6_py_0 1 rfl rfl)
theorem dX6_py_4 : decode cX6_py 4 = .ok (.bipush 6, 2) := dk_16 6 (dk_at dksX6_py_0 4 rfl rfl)
theorem dX6_py_6 : decode cX6_py 6 = .ok (.iload_n 1, 1) := dk_27 (dk_at dksX6_py_0 6 rfl rfl)
theorem dX6_py_7 : decode cX6_py 7 = .ok (.imul, 1) := dk_104 (dk_at dksX6_py_0 7 rfl rfl)
theorem dX6_py_8 : decode cX6_py 8 = .ok (.iconst 2, 1) := dk_5 (dk_at dksX6_py_0 8 rfl rfl)
theorem dX6_py_9 : decode cX6_py 9 = .ok (.iload_n 2, 1) := dk_28 (dk_at dksX6_py_0 9 rfl rfl)
theorem dX6_py_10 : decode cX6_py 10 = .ok (.imul, 1) := dk_104 (dk_at dksX6_py_0 10 rfl rfl)
theorem dX6_py_11 : decode cX6_py 11 = .ok (.iadd, 1) := dk_96 (dk_at dksX6_py_0 11 rfl rfl)
theorem dX6_py_12 : decode cX6_py 12 = .ok (.iconst 1, 1) := dk_4 (dk_at dksX6_py_0 12 rfl rfl)
theorem dX6_py_13 : decode cX6_py 13 = .ok (.iadd, 1) := dk_96 (dk_at dksX6_py_0 13 rfl rfl)
theorem dX6_py_14 : decode cX6_py 14 = .ok (.laload, 1) := dk_47 (dk_at dksX6_py_0 14 rfl rfl)
theorem dX6_py_15 : decode cX6_py 15 = .ok (.lreturn, 1) := dk_173 (dk_at dksX6_py_0 15 rfl rfl)
abbrev cX6_gap : ByteArray := prog_25_method_90_code
def yX6_gap : MethodName := ⟨RX6, "gap", "(JJ)J"⟩
def dkwX6_gap_0 : List UInt8 := [30, 184, 1, 98, 32, 184, 1, 98, 184, 1, 101, 173]
abbrev dktX6_gap_0 : List UInt8 := dkwX6_gap_0 ++ []
theorem dksX6_gap_0 : cX6_gap.data.toList.drop 0 = dktX6_gap_0 := by decide +kernel
theorem dX6_gap_0 : decode cX6_gap 0 = .ok (.lload_n 0, 1) := dk_30 (dk_at dksX6_gap_0 0 rfl rfl)
theorem dX6_gap_1 : decode cX6_gap 1 = .ok (.invokestatic 354, 3) := dk_184 1 98 (dk_at dksX6_gap_0 1 rfl rfl)
theorem dX6_gap_4 : decode cX6_gap 4 = .ok (.lload_n 2, 1) := dk_32 (dk_at dksX6_gap_0 4 rfl rfl)
theorem dX6_gap_5 : decode cX6_gap 5 = .ok (.invokestatic 354, 3) := dk_184 1 98 (dk_at dksX6_gap_0 5 rfl rfl)
theorem dX6_gap_8 : decode cX6_gap 8 = .ok (.invokestatic 357, 3) := dk_184 1 101 (dk_at dksX6_gap_0 8 rfl rfl)
theorem dX6_gap_11 : decode cX6_gap 11 = .ok (.lreturn, 1) := dk_173 (dk_at dksX6_gap_0 11 rfl rfl)
abbrev cX6_size : ByteArray := prog_25_method_5_code
def yX6_size : MethodName := ⟨RX6, "size", "(J)J"⟩
def dkwX6_size_0 : List UInt8 := [30, 9, 148, 156, 0, 8, 30, 117, 167, 0, 4, 30, 173]
abbrev dktX6_size_0 : List UInt8 := dkwX6_size_0 ++ []
theorem dksX6_size_0 : cX6_size.data.toList.drop 0 = dktX6_size_0 := by decide +kernel
theorem dX6_size_0 : decode cX6_size 0 = .ok (.lload_n 0, 1) := dk_30 (dk_at dksX6_size_0 0 rfl rfl)
theorem dX6_size_1 : decode cX6_size 1 = .ok (.lconst 0, 1) := dk_9 (dk_at dksX6_size_0 1 rfl rfl)
theorem dX6_size_2 : decode cX6_size 2 = .ok (.lcmp, 1) := dk_148 (dk_at dksX6_size_0 2 rfl rfl)
theorem dX6_size_3 : decode cX6_size 3 = .ok (.ifCond .ge 8, 3) := dk_156 0 8 (dk_at dksX6_size_0 3 rfl rfl)
theorem dX6_size_6 : decode cX6_size 6 = .ok (.lload_n 0, 1) := dk_30 (dk_at dksX6_size_0 6 rfl rfl)
theorem dX6_size_7 : decode cX6_size 7 = .ok (.lneg, 1) := dk_117 (dk_at dksX6_size_0 7 rfl rfl)
theorem dX6_size_8 : decode cX6_size 8 = .ok (.goto 4, 3) := dk_167 0 4 (dk_at dksX6_size_0 8 rfl rfl)
theorem dX6_size_11 : decode cX6_size 11 = .ok (.lload_n 0, 1) := dk_30 (dk_at dksX6_size_0 11 rfl rfl)
theorem dX6_size_12 : decode cX6_size 12 = .ok (.lreturn, 1) := dk_173 (dk_at dksX6_size_0 12 rfl rfl)
abbrev cX6_greater : ByteArray := prog_25_method_89_code
def yX6_greater : MethodName := ⟨RX6, "greater", "(JJ)J"⟩
def dkwX6_greater_0 : List UInt8 := [30, 32, 148, 158, 0, 7, 30, 167, 0, 4, 32, 173]
abbrev dktX6_greater_0 : List UInt8 := dkwX6_greater_0 ++ []
theorem dksX6_greater_0 : cX6_greater.data.toList.drop 0 = dktX6_greater_0 := by decide +kernel
theorem dX6_greater_0 : decode cX6_greater 0 = .ok (.lload_n 0, 1) := dk_30 (dk_at dksX6_greater_0 0 rfl rfl)
theorem dX6_greater_1 : decode cX6_greater 1 = .ok (.lload_n 2, 1) := dk_32 (dk_at dksX6_greater_0 1 rfl rfl)
theorem dX6_greater_2 : decode cX6_greater 2 = .ok (.lcmp, 1) := dk_148 (dk_at dksX6_greater_0 2 rfl rfl)
theorem dX6_greater_3 : decode cX6_greater 3 = .ok (.ifCond .le 7, 3) := dk_158 0 7 (dk_at dksX6_greater_0 3 rfl rfl)
theorem dX6_greater_6 : decode cX6_greater 6 = .ok (.lload_n 0, 1) := dk_30 (dk_at dksX6_greater_0 6 rfl rfl)
theorem dX6_greater_7 : decode cX6_greater 7 = .ok (.goto 4, 3) := dk_167 0 4 (dk_at dksX6_greater_0 7 rfl rfl)
theorem dX6_greater_10 : decode cX6_greater 10 = .ok (.lload_n 2, 1) := dk_32 (dk_at dksX6_greater_0 10 rfl rfl)
theorem dX6_greater_11 : decode cX6_greater 11 = .ok (.lreturn, 1) := dk_173 (dk_at dksX6_greater_0 11 rfl rfl)
abbrev cX6_centreError : ByteArray := prog_25_method_92_code
def yX6_centreError : MethodName := ⟨RX6, "centreError", "(I)J"⟩
def dkwX6_centreError_3 : List UInt8 := [132, 6, 1, 167, 255, 205, 132, 4, 1, 167, 255, 180, 32, 173]
abbrev dktX6_centreError_3 : List UInt8 := dkwX6_centreError_3 ++ []
def dkwX6_centreError_2 : List UInt8 := [42, 21, 5, 21, 6, 182, 1, 108, 42, 21, 4, 21, 6, 182, 1, 108, 97, 184, 1, 111, 184, 1, 101, 65]
abbrev dktX6_centreError_2 : List UInt8 := dkwX6_centreError_2 ++ dktX6_centreError_3
def dkwX6_centreError_1 : List UInt8 := [21, 6, 6, 162, 0, 51, 32, 42, 21, 5, 21, 6, 182, 1, 104, 42, 21, 4, 21, 6, 182, 1, 104, 97]
abbrev dktX6_centreError_1 : List UInt8 := dkwX6_centreError_1 ++ dktX6_centreError_2
def dkwX6_centreError_0 : List UInt8 := [9, 65, 3, 54, 4, 21, 4, 27, 162, 0, 76, 21, 4, 27, 5, 108, 96, 27, 112, 54, 5, 3, 54, 6]
abbrev dktX6_centreError_0 : List UInt8 := dkwX6_centreError_0 ++ dktX6_centreError_1
theorem dksX6_centreError_0 : cX6_centreError.data.toList.drop 0 = dktX6_centreError_0 := by decide +kernel
theorem dksX6_centreError_1 : cX6_centreError.data.toList.drop 24 = dktX6_centreError_1 := dk_seg dksX6_centreError_0 24 rfl rfl
theorem dksX6_centreError_2 : cX6_centreError.data.toList.drop 48 = dktX6_centreError_2 := dk_seg dksX6_centreError_1 24 rfl rfl
theorem dksX6_centreError_3 : cX6_centreError.data.toList.drop 72 = dktX6_centreError_3 := dk_seg dksX6_centreError_2 24 rfl rfl
theorem dX6_centreError_0 : decode cX6_centreError 0 = .ok (.lconst 0, 1) := dk_9 (dk_at dksX6_centreError_0 0 rfl rfl)
theorem dX6_centreError_1 : decode cX6_centreError 1 = .ok (.lstore_n 2, 1) := dk_65 (dk_at dksX6_centreError_0 1 rfl rfl)
theorem dX6_centreError_2 : decode cX6_centreError 2 = .ok (.iconst 0, 1) := dk_3 (dk_at dksX6_centreError_0 2 rfl rfl)
theorem dX6_centreError_3 : decode cX6_centreError 3 = .ok (.istore 4, 2) := dk_54 4 (dk_at dksX6_centreError_0 3 rfl rfl)
theorem dX6_centreError_5 : decode cX6_centreError 5 = .ok (.iload 4, 2) := dk_21 4 (dk_at dksX6_centreError_0 5 rfl rfl)
theorem dX6_centreError_7 : decode cX6_centreError 7 = .ok (.iload_n 1, 1) := dk_27 (dk_at dksX6_centreError_0 7 rfl rfl)
theorem dX6_centreError_8 : decode cX6_centreError 8 = .ok (.if_icmp .ge 76, 3) := dk_162 0 76 (dk_at dksX6_centreError_0 8 rfl rfl)
theorem dX6_centreError_11 : decode cX6_centreError 11 = .ok (.iload 4, 2) := dk_21 4 (dk_at dksX6_centreError_0 11 rfl rfl)
theorem dX6_centreError_13 : decode cX6_centreError 13 = .ok (.iload_n 1, 1) := dk_27 (dk_at dksX6_centreError_0 13 rfl rfl)
theorem dX6_centreError_14 : decode cX6_centreError 14 = .ok (.iconst 2, 1) := dk_5 (dk_at dksX6_centreError_0 14 rfl rfl)
theorem dX6_centreError_15 : decode cX6_centreError 15 = .ok (.idiv, 1) := dk_108 (dk_at dksX6_centreError_0 15 rfl rfl)
theorem dX6_centreError_16 : decode cX6_centreError 16 = .ok (.iadd, 1) := dk_96 (dk_at dksX6_centreError_0 16 rfl rfl)
theorem dX6_centreError_17 : decode cX6_centreError 17 = .ok (.iload_n 1, 1) := dk_27 (dk_at dksX6_centreError_0 17 rfl rfl)
theorem dX6_centreError_18 : decode cX6_centreError 18 = .ok (.irem, 1) := dk_112 (dk_at dksX6_centreError_0 18 rfl rfl)
theorem dX6_centreError_19 : decode cX6_centreError 19 = .ok (.istore 5, 2) := dk_54 5 (dk_at dksX6_centreError_0 19 rfl rfl)
theorem dX6_centreError_21 : decode cX6_centreError 21 = .ok (.iconst 0, 1) := dk_3 (dk_at dksX6_centreError_0 21 rfl rfl)
theorem dX6_centreError_22 : decode cX6_centreError 22 = .ok (.istore 6, 2) := dk_54 6 (dk_at dksX6_centreError_0 22 rfl rfl)
theorem dX6_centreError_24 : decode cX6_centreError 24 = .ok (.iload 6, 2) := dk_21 6 (dk_at dksX6_centreError_1 0 rfl rfl)
theorem dX6_centreError_26 : decode cX6_centreError 26 = .ok (.iconst 3, 1) := dk_6 (dk_at dksX6_centreError_1 2 rfl rfl)
theorem dX6_centreError_27 : decode cX6_centreError 27 = .ok (.if_icmp .ge 51, 3) := dk_162 0 51 (dk_at dksX6_centreError_1 3 rfl rfl)
theorem dX6_centreError_30 : decode cX6_centreError 30 = .ok (.lload_n 2, 1) := dk_32 (dk_at dksX6_centreError_1 6 rfl rfl)
theorem dX6_centreError_31 : decode cX6_centreError 31 = .ok (.aload_n 0, 1) := dk_42 (dk_at dksX6_centreError_1 7 rfl rfl)
theorem dX6_centreError_32 : decode cX6_centreError 32 = .ok (.iload 5, 2) := dk_21 5 (dk_at dksX6_centreError_1 8 rfl rfl)
theorem dX6_centreError_34 : decode cX6_centreError 34 = .ok (.iload 6, 2) := dk_21 6 (dk_at dksX6_centreError_1 10 rfl rfl)
theorem dX6_centreError_36 : decode cX6_centreError 36 = .ok (.invokevirtual 360, 3) := dk_182 1 104 (dk_at dksX6_centreError_1 12 rfl rfl)
theorem dX6_centreError_39 : decode cX6_centreError 39 = .ok (.aload_n 0, 1) := dk_42 (dk_at dksX6_centreError_1 15 rfl rfl)
theorem dX6_centreError_40 : decode cX6_centreError 40 = .ok (.iload 4, 2) := dk_21 4 (dk_at dksX6_centreError_1 16 rfl rfl)
theorem dX6_centreError_42 : decode cX6_centreError 42 = .ok (.iload 6, 2) := dk_21 6 (dk_at dksX6_centreError_1 18 rfl rfl)
theorem dX6_centreError_44 : decode cX6_centreError 44 = .ok (.invokevirtual 360, 3) := dk_182 1 104 (dk_at dksX6_centreError_1 20 rfl rfl)
theorem dX6_centreError_47 : decode cX6_centreError 47 = .ok (.ladd, 1) := dk_97 (dk_at dksX6_centreError_1 23 rfl rfl)
theorem dX6_centreError_48 : decode cX6_centreError 48 = .ok (.aload_n 0, 1) := dk_42 (dk_at dksX6_centreError_2 0 rfl rfl)
theorem dX6_centreError_49 : decode cX6_centreError 49 = .ok (.iload 5, 2) := dk_21 5 (dk_at dksX6_centreError_2 1 rfl rfl)
theorem dX6_centreError_51 : decode cX6_centreError 51 = .ok (.iload 6, 2) := dk_21 6 (dk_at dksX6_centreError_2 3 rfl rfl)
theorem dX6_centreError_53 : decode cX6_centreError 53 = .ok (.invokevirtual 364, 3) := dk_182 1 108 (dk_at dksX6_centreError_2 5 rfl rfl)
theorem dX6_centreError_56 : decode cX6_centreError 56 = .ok (.aload_n 0, 1) := dk_42 (dk_at dksX6_centreError_2 8 rfl rfl)
theorem dX6_centreError_57 : decode cX6_centreError 57 = .ok (.iload 4, 2) := dk_21 4 (dk_at dksX6_centreError_2 9 rfl rfl)
theorem dX6_centreError_59 : decode cX6_centreError 59 = .ok (.iload 6, 2) := dk_21 6 (dk_at dksX6_centreError_2 11 rfl rfl)
theorem dX6_centreError_61 : decode cX6_centreError 61 = .ok (.invokevirtual 364, 3) := dk_182 1 108 (dk_at dksX6_centreError_2 13 rfl rfl)
theorem dX6_centreError_64 : decode cX6_centreError 64 = .ok (.ladd, 1) := dk_97 (dk_at dksX6_centreError_2 16 rfl rfl)
theorem dX6_centreError_65 : decode cX6_centreError 65 = .ok (.invokestatic 367, 3) := dk_184 1 111 (dk_at dksX6_centreError_2 17 rfl rfl)
theorem dX6_centreError_68 : decode cX6_centreError 68 = .ok (.invokestatic 357, 3) := dk_184 1 101 (dk_at dksX6_centreError_2 20 rfl rfl)
theorem dX6_centreError_71 : decode cX6_centreError 71 = .ok (.lstore_n 2, 1) := dk_65 (dk_at dksX6_centreError_2 23 rfl rfl)
theorem dX6_centreError_72 : decode cX6_centreError 72 = .ok (.iinc 6 1, 3) := dk_132 6 1 (dk_at dksX6_centreError_3 0 rfl rfl)
theorem dX6_centreError_75 : decode cX6_centreError 75 = .ok (.goto (-51), 3) := dk_167 255 205 (dk_at dksX6_centreError_3 3 rfl rfl)
theorem dX6_centreError_78 : decode cX6_centreError 78 = .ok (.iinc 4 1, 3) := dk_132 4 1 (dk_at dksX6_centreError_3 6 rfl rfl)
theorem dX6_centreError_81 : decode cX6_centreError 81 = .ok (.goto (-76), 3) := dk_167 255 180 (dk_at dksX6_centreError_3 9 rfl rfl)
theorem dX6_centreError_84 : decode cX6_centreError 84 = .ok (.lload_n 2, 1) := dk_32 (dk_at dksX6_centreError_3 12 rfl rfl)
theorem dX6_centreError_85 : decode cX6_centreError 85 = .ok (.lreturn, 1) := dk_173 (dk_at dksX6_centreError_3 13 rfl rfl)
abbrev cX6_returnError : ByteArray := prog_25_method_93_code
def yX6_returnError : MethodName := ⟨RX6, "returnError", "(I)J"⟩
def dkwX6_returnError_2 : List UInt8 := [184, 1, 101, 65, 132, 4, 1, 167, 255, 209, 32, 173]
abbrev dktX6_returnError_2 : List UInt8 := dkwX6_returnError_2 ++ []
def dkwX6_returnError_1 : List UInt8 := [182, 1, 104, 101, 42, 27, 21, 4, 182, 1, 108, 42, 3, 21, 4, 182, 1, 108, 101, 184, 1, 111]
abbrev dktX6_returnError_1 : List UInt8 := dkwX6_returnError_1 ++ dktX6_returnError_2
def dkwX6_returnError_0 : List UInt8 := [9, 65, 3, 54, 4, 21, 4, 6, 162, 0, 47, 32, 42, 27, 21, 4, 182, 1, 104, 42, 3, 21, 4]
abbrev dktX6_returnError_0 : List UInt8 := dkwX6_returnError_0 ++ dktX6_returnError_1
theorem dksX6_returnError_0 : cX6_returnError.data.toList.drop 0 = dktX6_returnError_0 := by decide +kernel
theorem dksX6_returnError_1 : cX6_returnError.data.toList.drop 23 = dktX6_returnError_1 := dk_seg dksX6_returnError_0 23 rfl rfl
theorem dksX6_returnError_2 : cX6_returnError.data.toList.drop 45 = dktX6_returnError_2 := dk_seg dksX6_returnError_1 22 rfl rfl
theorem dX6_returnError_0 : decode cX6_returnError 0 = .ok (.lconst 0, 1) := dk_9 (dk_at dksX6_returnError_0 0 rfl rfl)
theorem dX6_returnError_1 : decode cX6_returnError 1 = .ok (.lstore_n 2, 1) := dk_65 (dk_at dksX6_returnError_0 1 rfl rfl)
theorem dX6_returnError_2 : decode cX6_returnError 2 = .ok (.iconst 0, 1) := dk_3 (dk_at dksX6_returnError_0 2 rfl rfl)
theorem dX6_returnError_3 : decode cX6_returnError 3 = .ok (.istore 4, 2) := dk_54 4 (dk_at dksX6_returnError_0 3 rfl rfl)
theorem dX6_returnError_5 : decode cX6_returnError 5 = .ok (.iload 4, 2) := dk_21 4 (dk_at dksX6_returnError_0 5 rfl rfl)
theorem dX6_returnError_7 : decode cX6_returnError 7 = .ok (.iconst 3, 1) := dk_6 (dk_at dksX6_returnError_0 7 rfl rfl)
theorem dX6_returnError_8 : decode cX6_returnError 8 = .ok (.if_icmp .ge 47, 3) := dk_162 0 47 (dk_at dksX6_returnError_0 8 rfl rfl)
theorem dX6_returnError_11 : decode cX6_returnError 11 = .ok (.lload_n 2, 1) := dk_32 (dk_at dksX6_returnError_0 11 rfl rfl)
theorem dX6_returnError_12 : decode cX6_returnError 12 = .ok (.aload_n 0, 1) := dk_42 (dk_at dksX6_returnError_0 12 rfl rfl)
theorem dX6_returnError_13 : decode cX6_returnError 13 = .ok (.iload_n 1, 1) := dk_27 (dk_at dksX6_returnError_0 13 rfl rfl)
theorem dX6_returnError_14 : decode cX6_returnError 14 = .ok (.iload 4, 2) := dk_21 4 (dk_at dksX6_returnError_0 14 rfl rfl)
theorem dX6_returnError_16 : decode cX6_returnError 16 = .ok (.invokevirtual 360, 3) := dk_182 1 104 (dk_at dksX6_returnError_0 16 rfl rfl)
theorem dX6_returnError_19 : decode cX6_returnError 19 = .ok (.aload_n 0, 1) := dk_42 (dk_at dksX6_returnError_0 19 rfl rfl)
theorem dX6_returnError_20 : decode cX6_returnError 20 = .ok (.iconst 0, 1) := dk_3 (dk_at dksX6_returnError_0 20 rfl rfl)
theorem dX6_returnError_21 : decode cX6_returnError 21 = .ok (.iload 4, 2) := dk_21 4 (dk_at dksX6_returnError_0 21 rfl rfl)
theorem dX6_returnError_23 : decode cX6_returnError 23 = .ok (.invokevirtual 360, 3) := dk_182 1 104 (dk_at dksX6_returnError_1 0 rfl rfl)
theorem dX6_returnError_26 : decode cX6_returnError 26 = .ok (.lsub, 1) := dk_101 (dk_at dksX6_returnError_1 3 rfl rfl)
theorem dX6_returnError_27 : decode cX6_returnError 27 = .ok (.aload_n 0, 1) := dk_42 (dk_at dksX6_returnError_1 4 rfl rfl)
theorem dX6_returnError_28 : decode cX6_returnError 28 = .ok (.iload_n 1, 1) := dk_27 (dk_at dksX6_returnError_1 5 rfl rfl)
theorem dX6_returnError_29 : decode cX6_returnError 29 = .ok (.iload 4, 2) := dk_21 4 (dk_at dksX6_returnError_1 6 rfl rfl)
theorem dX6_returnError_31 : decode cX6_returnError 31 = .ok (.invokevirtual 364, 3) := dk_182 1 108 (dk_at dksX6_returnError_1 8 rfl rfl)
theorem dX6_returnError_34 : decode cX6_returnError 34 = .ok (.aload_n 0, 1) := dk_42 (dk_at dksX6_returnError_1 11 rfl rfl)
theorem dX6_returnError_35 : decode cX6_returnError 35 = .ok (.iconst 0, 1) := dk_3 (dk_at dksX6_returnError_1 12 rfl rfl)
theorem dX6_returnError_36 : decode cX6_returnError 36 = .ok (.iload 4, 2) := dk_21 4 (dk_at dksX6_returnError_1 13 rfl rfl)
theorem dX6_returnError_38 : decode cX6_returnError 38 = .ok (.invokevirtual 364, 3) := dk_182 1 108 (dk_at dksX6_returnError_1 15 rfl rfl)
theorem dX6_returnError_41 : decode cX6_returnError 41 = .ok (.lsub, 1) := dk_101 (dk_at dksX6_returnError_1 18 rfl rfl)
theorem dX6_returnError_42 : decode cX6_returnError 42 = .ok (.invokestatic 367, 3) := dk_184 1 111 (dk_at dksX6_returnError_1 19 rfl rfl)
theorem dX6_returnError_45 : decode cX6_returnError 45 = .ok (.invokestatic 357, 3) := dk_184 1 101 (dk_at dksX6_returnError_2 0 rfl rfl)
theorem dX6_returnError_48 : decode cX6_returnError 48 = .ok (.lstore_n 2, 1) := dk_65 (dk_at dksX6_returnError_2 3 rfl rfl)
theorem dX6_returnError_49 : decode cX6_returnError 49 = .ok (.iinc 4 1, 3) := dk_132 4 1 (dk_at dksX6_returnError_2 4 rfl rfl)
theorem dX6_returnError_52 : decode cX6_returnError 52 = .ok (.goto (-47), 3) := dk_167 255 209 (dk_at dksX6_returnError_2 7 rfl rfl)
theorem dX6_returnError_55 : decode cX6_returnError 55 = .ok (.lload_n 2, 1) := dk_32 (dk_at dksX6_returnError_2 10 rfl rfl)
theorem dX6_returnError_56 : decode cX6_returnError 56 = .ok (.lreturn, 1) := dk_173 (dk_at dksX6_returnError_2 11 rfl rfl)
abbrev cX6_mirrorError : ByteArray := prog_25_method_94_code
def yX6_mirrorError : MethodName := ⟨RX6, "mirrorError", "(I)J"⟩
def dkwX6_mirrorError_3 : List UInt8 := [132, 6, 1, 167, 255, 205, 132, 4, 1, 167, 255, 182, 32, 173]
abbrev dktX6_mirrorError_3 : List UInt8 := dkwX6_mirrorError_3 ++ []
def dkwX6_mirrorError_2 : List UInt8 := [21, 5, 21, 6, 182, 1, 108, 42, 21, 4, 21, 6, 182, 1, 108, 97, 184, 1, 111, 184, 1, 101, 65]
abbrev dktX6_mirrorError_2 : List UInt8 := dkwX6_mirrorError_2 ++ dktX6_mirrorError_3
def dkwX6_mirrorError_1 : List UInt8 := [6, 162, 0, 51, 32, 42, 21, 5, 21, 6, 182, 1, 104, 42, 21, 4, 21, 6, 182, 1, 104, 101, 42]
abbrev dktX6_mirrorError_1 : List UInt8 := dkwX6_mirrorError_1 ++ dktX6_mirrorError_2
def dkwX6_mirrorError_0 : List UInt8 := [9, 65, 3, 54, 4, 21, 4, 27, 162, 0, 74, 27, 21, 4, 100, 27, 112, 54, 5, 3, 54, 6, 21, 6]
abbrev dktX6_mirrorError_0 : List UInt8 := dkwX6_mirrorError_0 ++ dktX6_mirrorError_1
theorem dksX6_mirrorError_0 : cX6_mirrorError.data.toList.drop 0 = dktX6_mirrorError_0 := by decide +kernel
theorem dksX6_mirrorError_1 : cX6_mirrorError.data.toList.drop 24 = dktX6_mirrorError_1 := dk_seg dksX6_mirrorError_0 24 rfl rfl
theorem dksX6_mirrorError_2 : cX6_mirrorError.data.toList.drop 47 = dktX6_mirrorError_2 := dk_seg dksX6_mirrorError_1 23 rfl rfl
theorem dksX6_mirrorError_3 : cX6_mirrorError.data.toList.drop 70 = dktX6_mirrorError_3 := dk_seg dksX6_mirrorError_2 23 rfl rfl
theorem dX6_mirrorError_0 : decode cX6_mirrorError 0 = .ok (.lconst 0, 1) := dk_9 (dk_at dksX6_mirrorError_0 0 rfl rfl)
theorem dX6_mirrorError_1 : decode cX6_mirrorError 1 = .ok (.lstore_n 2, 1) := dk_65 (dk_at dksX6_mirrorError_0 1 rfl rfl)
theorem dX6_mirrorError_2 : decode cX6_mirrorError 2 = .ok (.iconst 0, 1) := dk_3 (dk_at dksX6_mirrorError_0 2 rfl rfl)
theorem dX6_mirrorError_3 : decode cX6_mirrorError 3 = .ok (.istore 4, 2) := dk_54 4 (dk_at dksX6_mirrorError_0 3 rfl rfl)
theorem dX6_mirrorError_5 : decode cX6_mirrorError 5 = .ok (.iload 4, 2) := dk_21 4 (dk_at dksX6_mirrorError_0 5 rfl rfl)
theorem dX6_mirrorError_7 : decode cX6_mirrorError 7 = .ok (.iload_n 1, 1) := dk_27 (dk_at dksX6_mirrorError_0 7 rfl rfl)
theorem dX6_mirrorError_8 : decode cX6_mirrorError 8 = .ok (.if_icmp .ge 74, 3) := dk_162 0 74 (dk_at dksX6_mirrorError_0 8 rfl rfl)
theorem dX6_mirrorError_11 : decode cX6_mirrorError 11 = .ok (.iload_n 1, 1) := dk_27 (dk_at dksX6_mirrorError_0 11 rfl rfl)
theorem dX6_mirrorError_12 : decode cX6_mirrorError 12 = .ok (.iload 4, 2) := dk_21 4 (dk_at dksX6_mirrorError_0 12 rfl rfl)
theorem dX6_mirrorError_14 : decode cX6_mirrorError 14 = .ok (.isub, 1) := dk_100 (dk_at dksX6_mirrorError_0 14 rfl rfl)
theorem dX6_mirrorError_15 : decode cX6_mirrorError 15 = .ok (.iload_n 1, 1) := dk_27 (dk_at dksX6_mirrorError_0 15 rfl rfl)
theorem dX6_mirrorError_16 : decode cX6_mirrorError 16 = .ok (.irem, 1) := dk_112 (dk_at dksX6_mirrorError_0 16 rfl rfl)
theorem dX6_mirrorError_17 : decode cX6_mirrorError 17 = .ok (.istore 5, 2) := dk_54 5 (dk_at dksX6_mirrorError_0 17 rfl rfl)
theorem dX6_mirrorError_19 : decode cX6_mirrorError 19 = .ok (.iconst 0, 1) := dk_3 (dk_at dksX6_mirrorError_0 19 rfl rfl)
theorem dX6_mirrorError_20 : decode cX6_mirrorError 20 = .ok (.istore 6, 2) := dk_54 6 (dk_at dksX6_mirrorError_0 20 rfl rfl)
theorem dX6_mirrorError_22 : decode cX6_mirrorError 22 = .ok (.iload 6, 2) := dk_21 6 (dk_at dksX6_mirrorError_0 22 rfl rfl)
theorem dX6_mirrorError_24 : decode cX6_mirrorError 24 = .ok (.iconst 3, 1) := dk_6 (dk_at dksX6_mirrorError_1 0 rfl rfl)
theorem dX6_mirrorError_25 : decode cX6_mirrorError 25 = .ok (.if_icmp .ge 51, 3) := dk_162 0 51 (dk_at dksX6_mirrorError_1 1 rfl rfl)
theorem dX6_mirrorError_28 : decode cX6_mirrorError 28 = .ok (.lload_n 2, 1) := dk_32 (dk_at dksX6_mirrorError_1 4 rfl rfl)
theorem dX6_mirrorError_29 : decode cX6_mirrorError 29 = .ok (.aload_n 0, 1) := dk_42 (dk_at dksX6_mirrorError_1 5 rfl rfl)
theorem dX6_mirrorError_30 : decode cX6_mirrorError 30 = .ok (.iload 5, 2) := dk_21 5 (dk_at dksX6_mirrorError_1 6 rfl rfl)
theorem dX6_mirrorError_32 : decode cX6_mirrorError 32 = .ok (.iload 6, 2) := dk_21 6 (dk_at dksX6_mirrorError_1 8 rfl rfl)
theorem dX6_mirrorError_34 : decode cX6_mirrorError 34 = .ok (.invokevirtual 360, 3) := dk_182 1 104 (dk_at dksX6_mirrorError_1 10 rfl rfl)
theorem dX6_mirrorError_37 : decode cX6_mirrorError 37 = .ok (.aload_n 0, 1) := dk_42 (dk_at dksX6_mirrorError_1 13 rfl rfl)
theorem dX6_mirrorError_38 : decode cX6_mirrorError 38 = .ok (.iload 4, 2) := dk_21 4 (dk_at dksX6_mirrorError_1 14 rfl rfl)
theorem dX6_mirrorError_40 : decode cX6_mirrorError 40 = .ok (.iload 6, 2) := dk_21 6 (dk_at dksX6_mirrorError_1 16 rfl rfl)
theorem dX6_mirrorError_42 : decode cX6_mirrorError 42 = .ok (.invokevirtual 360, 3) := dk_182 1 104 (dk_at dksX6_mirrorError_1 18 rfl rfl)
theorem dX6_mirrorError_45 : decode cX6_mirrorError 45 = .ok (.lsub, 1) := dk_101 (dk_at dksX6_mirrorError_1 21 rfl rfl)
theorem dX6_mirrorError_46 : decode cX6_mirrorError 46 = .ok (.aload_n 0, 1) := dk_42 (dk_at dksX6_mirrorError_1 22 rfl rfl)
theorem dX6_mirrorError_47 : decode cX6_mirrorError 47 = .ok (.iload 5, 2) := dk_21 5 (dk_at dksX6_mirrorError_2 0 rfl rfl)
theorem dX6_mirrorError_49 : decode cX6_mirrorError 49 = .ok (.iload 6, 2) := dk_21 6 (dk_at dksX6_mirrorError_2 2 rfl rfl)
theorem dX6_mirrorError_51 : decode cX6_mirrorError 51 = .ok (.invokevirtual 364, 3) := dk_182 1 108 (dk_at dksX6_mirrorError_2 4 rfl rfl)
theorem dX6_mirrorError_54 : decode cX6_mirrorError 54 = .ok (.aload_n 0, 1) := dk_42 (dk_at dksX6_mirrorError_2 7 rfl rfl)
theorem dX6_mirrorError_55 : decode cX6_mirrorError 55 = .ok (.iload 4, 2) := dk_21 4 (dk_at dksX6_mirrorError_2 8 rfl rfl)
theorem dX6_mirrorError_57 : decode cX6_mirrorError 57 = .ok (.iload 6, 2) := dk_21 6 (dk_at dksX6_mirrorError_2 10 rfl rfl)
theorem dX6_mirrorError_59 : decode cX6_mirrorError 59 = .ok (.invokevirtual 364, 3) := dk_182 1 108 (dk_at dksX6_mirrorError_2 12 rfl rfl)
theorem dX6_mirrorError_62 : decode cX6_mirrorError 62 = .ok (.ladd, 1) := dk_97 (dk_at dksX6_mirrorError_2 15 rfl rfl)
theorem dX6_mirrorError_63 : decode cX6_mirrorError 63 = .ok (.invokestatic 367, 3) := dk_184 1 111 (dk_at dksX6_mirrorError_2 16 rfl rfl)
theorem dX6_mirrorError_66 : decode cX6_mirrorError 66 = .ok (.invokestatic 357, 3) := dk_184 1 101 (dk_at dksX6_mirrorError_2 19 rfl rfl)
theorem dX6_mirrorError_69 : decode cX6_mirrorError 69 = .ok (.lstore_n 2, 1) := dk_65 (dk_at dksX6_mirrorError_2 22 rfl rfl)
theorem dX6_mirrorError_70 : decode cX6_mirrorError 70 = .ok (.iinc 6 1, 3) := dk_132 6 1 (dk_at dksX6_mirrorError_3 0 rfl rfl)
theorem dX6_mirrorError_73 : decode cX6_mirrorError 73 = .ok (.goto (-51), 3) := dk_167 255 205 (dk_at dksX6_mirrorError_3 3 rfl rfl)
theorem dX6_mirrorError_76 : decode cX6_mirrorError 76 = .ok (.iinc 4 1, 3) := dk_132 4 1 (dk_at dksX6_mirrorError_3 6 rfl rfl)
theorem dX6_mirrorError_79 : decode cX6_mirrorError 79 = .ok (.goto (-74), 3) := dk_167 255 182 (dk_at dksX6_mirrorError_3 9 rfl rfl)
theorem dX6_mirrorError_82 : decode cX6_mirrorError 82 = .ok (.lload_n 2, 1) := dk_32 (dk_at dksX6_mirrorError_3 12 rfl rfl)
theorem dX6_mirrorError_83 : decode cX6_mirrorError 83 = .ok (.lreturn, 1) := dk_173 (dk_at dksX6_mirrorError_3 13 rfl rfl)
abbrev cX6_bestPeriod : ByteArray := prog_25_method_100_code
def yX6_bestPeriod : MethodName := ⟨RX6, "bestPeriod", "(II)I"⟩
def dkwX6_bestPeriod_5 : List UInt8 := [167, 255, 207, 21, 4, 172]
abbrev dktX6_bestPeriod_5 : List UInt8 := dkwX6_bestPeriod_5 ++ []
def dkwX6_bestPeriod_4 : List UInt8 := [22, 8, 22, 5, 148, 155, 0, 6, 167, 0, 11, 21, 7, 54, 4, 22, 8, 55, 5, 132, 7, 1]
abbrev dktX6_bestPeriod_4 : List UInt8 := dkwX6_bestPeriod_4 ++ dktX6_bestPeriod_5
def dkwX6_bestPeriod_3 : List UInt8 := [163, 0, 49, 27, 21, 7, 184, 1, 140, 154, 0, 6, 167, 0, 31, 42, 27, 21, 7, 182, 1, 131, 55, 8]
abbrev dktX6_bestPeriod_3 : List UInt8 := dkwX6_bestPeriod_3 ++ dktX6_bestPeriod_4
def dkwX6_bestPeriod_2 : List UInt8 := [42, 180, 0, 7, 28, 182, 1, 127, 62, 2, 54, 4, 20, 1, 134, 55, 5, 5, 54, 7, 21, 7, 29]
abbrev dktX6_bestPeriod_2 : List UInt8 := dkwX6_bestPeriod_2 ++ dktX6_bestPeriod_3
def dkwX6_bestPeriod_1 : List UInt8 := [20, 1, 138, 184, 0, 183, 153, 0, 7, 4, 167, 0, 4, 3, 4, 182, 0, 236, 153, 0, 5, 3, 172, 42]
abbrev dktX6_bestPeriod_1 : List UInt8 := dkwX6_bestPeriod_1 ++ dktX6_bestPeriod_2
def dkwX6_bestPeriod_0 : List UInt8 := [42, 3, 181, 0, 88, 42, 27, 133, 9, 20, 1, 136, 184, 0, 183, 153, 0, 21, 28, 133, 20, 0, 203]
abbrev dktX6_bestPeriod_0 : List UInt8 := dkwX6_bestPeriod_0 ++ dktX6_bestPeriod_1
theorem dksX6_bestPeriod_0 : cX6_bestPeriod.data.toList.drop 0 = dktX6_bestPeriod_0 := by decide +kernel
theorem dksX6_bestPeriod_1 : cX6_bestPeriod.data.toList.drop 23 = dktX6_bestPeriod_1 := dk_seg dksX6_bestPeriod_0 23 rfl rfl
theorem dksX6_bestPeriod_2 : cX6_bestPeriod.data.toList.drop 47 = dktX6_bestPeriod_2 := dk_seg dksX6_bestPeriod_1 24 rfl rfl
theorem dksX6_bestPeriod_3 : cX6_bestPeriod.data.toList.drop 70 = dktX6_bestPeriod_3 := dk_seg dksX6_bestPeriod_2 23 rfl rfl
theorem dksX6_bestPeriod_4 : cX6_bestPeriod.data.toList.drop 94 = dktX6_bestPeriod_4 := dk_seg dksX6_bestPeriod_3 24 rfl rfl
theorem dksX6_bestPeriod_5 : cX6_bestPeriod.data.toList.drop 116 = dktX6_bestPeriod_5 := dk_seg dksX6_bestPeriod_4 22 rfl rfl
theorem dX6_bestPeriod_0 : decode cX6_bestPeriod 0 = .ok (.aload_n 0, 1) := dk_42 (dk_at dksX6_bestPeriod_0 0 rfl rfl)
theorem dX6_bestPeriod_1 : decode cX6_bestPeriod 1 = .ok (.iconst 0, 1) := dk_3 (dk_at dksX6_bestPeriod_0 1 rfl rfl)
theorem dX6_bestPeriod_2 : decode cX6_bestPeriod 2 = .ok (.putfield 88, 3) := dk_181 0 88 (dk_at dksX6_bestPeriod_0 2 rfl rfl)
theorem dX6_bestPeriod_5 : decode cX6_bestPeriod 5 = .ok (.aload_n 0, 1) := dk_42 (dk_at dksX6_bestPeriod_0 5 rfl rfl)
theorem dX6_bestPeriod_6 : decode cX6_bestPeriod 6 = .ok (.iload_n 1, 1) := dk_27 (dk_at dksX6_bestPeriod_0 6 rfl rfl)
theorem dX6_bestPeriod_7 : decode cX6_bestPeriod 7 = .ok (.i2l, 1) := dk_133 (dk_at dksX6_bestPeriod_0 7 rfl rfl)
theorem dX6_bestPeriod_8 : decode cX6_bestPeriod 8 = .ok (.lconst 0, 1) := dk_9 (dk_at dksX6_bestPeriod_0 8 rfl rfl)
theorem dX6_bestPeriod_9 : decode cX6_bestPeriod 9 = .ok (.ldc2_w 392, 3) := dk_20 1 136 (dk_at dksX6_bestPeriod_0 9 rfl rfl)
theorem dX6_bestPeriod_12 : decode cX6_bestPeriod 12 = .ok (.invokestatic 183, 3) := dk_184 0 183 (dk_at dksX6_bestPeriod_0 12 rfl rfl)
theorem dX6_bestPeriod_15 : decode cX6_bestPeriod 15 = .ok (.ifCond .eq 21, 3) := dk_153 0 21 (dk_at dksX6_bestPeriod_0 15 rfl rfl)
theorem dX6_bestPeriod_18 : decode cX6_bestPeriod 18 = .ok (.iload_n 2, 1) := dk_28 (dk_at dksX6_bestPeriod_0 18 rfl rfl)
theorem dX6_bestPeriod_19 : decode cX6_bestPeriod 19 = .ok (.i2l, 1) := dk_133 (dk_at dksX6_bestPeriod_0 19 rfl rfl)
theorem dX6_bestPeriod_20 : decode cX6_bestPeriod 20 = .ok (.ldc2_w 203, 3) := dk_20 0 203 (dk_at dksX6_bestPeriod_0 20 rfl rfl)
theorem dX6_bestPeriod_23 : decode cX6_bestPeriod 23 = .ok (.ldc2_w 394, 3) := dk_20 1 138 (dk_at dksX6_bestPeriod_1 0 rfl rfl)
theorem dX6_bestPeriod_26 : decode cX6_bestPeriod 26 = .ok (.invokestatic 183, 3) := dk_184 0 183 (dk_at dksX6_bestPeriod_1 3 rfl rfl)
theorem dX6_bestPeriod_29 : decode cX6_bestPeriod 29 = .ok (.ifCond .eq 7, 3) := dk_153 0 7 (dk_at dksX6_bestPeriod_1 6 rfl rfl)
theorem dX6_bestPeriod_32 : decode cX6_bestPeriod 32 = .ok (.iconst 1, 1) := dk_4 (dk_at dksX6_bestPeriod_1 9 rfl rfl)
theorem dX6_bestPeriod_33 : decode cX6_bestPeriod 33 = .ok (.goto 4, 3) := dk_167 0 4 (dk_at dksX6_bestPeriod_1 10 rfl rfl)
theorem dX6_bestPeriod_36 : decode cX6_bestPeriod 36 = .ok (.iconst 0, 1) := dk_3 (dk_at dksX6_bestPeriod_1 13 rfl rfl)
theorem dX6_bestPeriod_37 : decode cX6_bestPeriod 37 = .ok (.iconst 1, 1) := dk_4 (dk_at dksX6_bestPeriod_1 14 rfl rfl)
theorem dX6_bestPeriod_38 : decode cX6_bestPeriod 38 = .ok (.invokevirtual 236, 3) := dk_182 0 236 (dk_at dksX6_bestPeriod_1 15 rfl rfl)
theorem dX6_bestPeriod_41 : decode cX6_bestPeriod 41 = .ok (.ifCond .eq 5, 3) := dk_153 0 5 (dk_at dksX6_bestPeriod_1 18 rfl rfl)
theorem dX6_bestPeriod_44 : decode cX6_bestPeriod 44 = .ok (.iconst 0, 1) := dk_3 (dk_at dksX6_bestPeriod_1 21 rfl rfl)
theorem dX6_bestPeriod_45 : decode cX6_bestPeriod 45 = .ok (.ireturn, 1) := dk_172 (dk_at dksX6_bestPeriod_1 22 rfl rfl)
theorem dX6_bestPeriod_46 : decode cX6_bestPeriod 46 = .ok (.aload_n 0, 1) := dk_42 (dk_at dksX6_bestPeriod_1 23 rfl rfl)
theorem dX6_bestPeriod_47 : decode cX6_bestPeriod 47 = .ok (.aload_n 0, 1) := dk_42 (dk_at dksX6_bestPeriod_2 0 rfl rfl)
theorem dX6_bestPeriod_48 : decode cX6_bestPeriod 48 = .ok (.getfield 7, 3) := dk_180 0 7 (dk_at dksX6_bestPeriod_2 1 rfl rfl)
theorem dX6_bestPeriod_51 : decode cX6_bestPeriod 51 = .ok (.iload_n 2, 1) := dk_28 (dk_at dksX6_bestPeriod_2 4 rfl rfl)
theorem dX6_bestPeriod_52 : decode cX6_bestPeriod 52 = .ok (.invokevirtual 383, 3) := dk_182 1 127 (dk_at dksX6_bestPeriod_2 5 rfl rfl)
theorem dX6_bestPeriod_55 : decode cX6_bestPeriod 55 = .ok (.istore_n 3, 1) := dk_62 (dk_at dksX6_bestPeriod_2 8 rfl rfl)
theorem dX6_bestPeriod_56 : decode cX6_bestPeriod 56 = .ok (.iconst (-1), 1) := dk_2 (dk_at dksX6_bestPeriod_2 9 rfl rfl)
theorem dX6_bestPeriod_57 : decode cX6_bestPeriod 57 = .ok (.istore 4, 2) := dk_54 4 (dk_at dksX6_bestPeriod_2 10 rfl rfl)
theorem dX6_bestPeriod_59 : decode cX6_bestPeriod 59 = .ok (.ldc2_w 390, 3) := dk_20 1 134 (dk_at dksX6_bestPeriod_2 12 rfl rfl)
theorem dX6_bestPeriod_62 : decode cX6_bestPeriod 62 = .ok (.lstore 5, 2) := dk_55 5 (dk_at dksX6_bestPeriod_2 15 rfl rfl)
theorem dX6_bestPeriod_64 : decode cX6_bestPeriod 64 = .ok (.iconst 2, 1) := dk_5 (dk_at dksX6_bestPeriod_2 17 rfl rfl)
theorem dX6_bestPeriod_65 : decode cX6_bestPeriod 65 = .ok (.istore 7, 2) := dk_54 7 (dk_at dksX6_bestPeriod_2 18 rfl rfl)
theorem dX6_bestPeriod_67 : decode cX6_bestPeriod 67 = .ok (.iload 7, 2) := dk_21 7 (dk_at dksX6_bestPeriod_2 20 rfl rfl)
theorem dX6_bestPeriod_69 : decode cX6_bestPeriod 69 = .ok (.iload_n 3, 1) := dk_29 (dk_at dksX6_bestPeriod_2 22 rfl rfl)
theorem dX6_bestPeriod_70 : decode cX6_bestPeriod 70 = .ok (.if_icmp .gt 49, 3) := dk_163 0 49 (dk_at dksX6_bestPeriod_3 0 rfl rfl)
theorem dX6_bestPeriod_73 : decode cX6_bestPeriod 73 = .ok (.iload_n 1, 1) := dk_27 (dk_at dksX6_bestPeriod_3 3 rfl rfl)
theorem dX6_bestPeriod_74 : decode cX6_bestPeriod 74 = .ok (.iload 7, 2) := dk_21 7 (dk_at dksX6_bestPeriod_3 4 rfl rfl)
theorem dX6_bestPeriod_76 : decode cX6_bestPeriod 76 = .ok (.invokestatic 396, 3) := dk_184 1 140 (dk_at dksX6_bestPeriod_3 6 rfl rfl)
theorem dX6_bestPeriod_79 : decode cX6_bestPeriod 79 = .ok (.ifCond .ne 6, 3) := dk_154 0 6 (dk_at dksX6_bestPeriod_3 9 rfl rfl)
theorem dX6_bestPeriod_82 : decode cX6_bestPeriod 82 = .ok (.goto 31, 3) := dk_167 0 31 (dk_at dksX6_bestPeriod_3 12 rfl rfl)
theorem dX6_bestPeriod_85 : decode cX6_bestPeriod 85 = .ok (.aload_n 0, 1) := dk_42 (dk_at dksX6_bestPeriod_3 15 rfl rfl)
theorem dX6_bestPeriod_86 : decode cX6_bestPeriod 86 = .ok (.iload_n 1, 1) := dk_27 (dk_at dksX6_bestPeriod_3 16 rfl rfl)
theorem dX6_bestPeriod_87 : decode cX6_bestPeriod 87 = .ok (.iload 7, 2) := dk_21 7 (dk_at dksX6_bestPeriod_3 17 rfl rfl)
theorem dX6_bestPeriod_89 : decode cX6_bestPeriod 89 = .ok (.invokevirtual 387, 3) := dk_182 1 131 (dk_at dksX6_bestPeriod_3 19 rfl rfl)
theorem dX6_bestPeriod_92 : decode cX6_bestPeriod 92 = .ok (.lstore 8, 2) := dk_55 8 (dk_at dksX6_bestPeriod_3 22 rfl rfl)
theorem dX6_bestPeriod_94 : decode cX6_bestPeriod 94 = .ok (.lload 8, 2) := dk_22 8 (dk_at dksX6_bestPeriod_4 0 rfl rfl)
theorem dX6_bestPeriod_96 : decode cX6_bestPeriod 96 = .ok (.lload 5, 2) := dk_22 5 (dk_at dksX6_bestPeriod_4 2 rfl rfl)
theorem dX6_bestPeriod_98 : decode cX6_bestPeriod 98 = .ok (.lcmp, 1) := dk_148 (dk_at dksX6_bestPeriod_4 4 rfl rfl)
theorem dX6_bestPeriod_99 : decode cX6_bestPeriod 99 = .ok (.ifCond .lt 6, 3) := dk_155 0 6 (dk_at dksX6_bestPeriod_4 5 rfl rfl)
theorem dX6_bestPeriod_102 : decode cX6_bestPeriod 102 = .ok (.goto 11, 3) := dk_167 0 11 (dk_at dksX6_bestPeriod_4 8 rfl rfl)
theorem dX6_bestPeriod_105 : decode cX6_bestPeriod 105 = .ok (.iload 7, 2) := dk_21 7 (dk_at dksX6_bestPeriod_4 11 rfl rfl)
theorem dX6_bestPeriod_107 : decode cX6_bestPeriod 107 = .ok (.istore 4, 2) := dk_54 4 (dk_at dksX6_bestPeriod_4 13 rfl rfl)
theorem dX6_bestPeriod_109 : decode cX6_bestPeriod 109 = .ok (.lload 8, 2) := dk_22 8 (dk_at dksX6_bestPeriod_4 15 rfl rfl)
theorem dX6_bestPeriod_111 : decode cX6_bestPeriod 111 = .ok (.lstore 5, 2) := dk_55 5 (dk_at dksX6_bestPeriod_4 17 rfl rfl)
theorem dX6_bestPeriod_113 : decode cX6_bestPeriod 113 = .ok (.iinc 7 1, 3) := dk_132 7 1 (dk_at dksX6_bestPeriod_4 19 rfl rfl)
theorem dX6_bestPeriod_116 : decode cX6_bestPeriod 116 = .ok (.goto (-49), 3) := dk_167 255 207 (dk_at dksX6_bestPeriod_5 0 rfl rfl)
theorem dX6_bestPeriod_119 : decode cX6_bestPeriod 119 = .ok (.iload 4, 2) := dk_21 4 (dk_at dksX6_bestPeriod_5 3 rfl rfl)
theorem dX6_bestPeriod_121 : decode cX6_bestPeriod 121 = .ok (.ireturn, 1) := dk_172 (dk_at dksX6_bestPeriod_5 5 rfl rfl)
abbrev cX6_refine : ByteArray := prog_25_method_103_code
def yX6_refine : MethodName := ⟨RX6, "refine", "(IIII)I"⟩
def dkwX6_refine_5 : List UInt8 := [55, 5, 132, 7, 1, 167, 255, 227, 22, 5, 136, 172]
abbrev dktX6_refine_5 : List UInt8 := dkwX6_refine_5 ++ []
def dkwX6_refine_4 : List UInt8 := [21, 7, 21, 4, 162, 0, 28, 42, 180, 1, 150, 9, 148, 158, 0, 19, 42, 27, 28, 22, 5, 182, 1, 159]
abbrev dktX6_refine_4 : List UInt8 := dkwX6_refine_4 ++ dktX6_refine_5
def dkwX6_refine_3 : List UInt8 := [20, 1, 134, 148, 154, 0, 6, 16, 252, 172, 42, 182, 1, 84, 42, 29, 133, 181, 1, 150, 3, 54, 7]
abbrev dktX6_refine_3 : List UInt8 := dkwX6_refine_3 ++ dktX6_refine_4
def dkwX6_refine_2 : List UInt8 := [182, 0, 236, 153, 0, 5, 3, 172, 42, 42, 180, 0, 7, 27, 28, 182, 1, 147, 55, 5, 22, 5]
abbrev dktX6_refine_2 : List UInt8 := dkwX6_refine_2 ++ dktX6_refine_3
def dkwX6_refine_1 : List UInt8 := [153, 0, 20, 21, 4, 133, 10, 20, 1, 157, 184, 0, 183, 153, 0, 7, 4, 167, 0, 4, 3, 4]
abbrev dktX6_refine_1 : List UInt8 := dkwX6_refine_1 ++ dktX6_refine_2
def dkwX6_refine_0 : List UInt8 := [42, 3, 181, 0, 88, 42, 42, 27, 28, 182, 1, 144, 153, 0, 32, 29, 133, 10, 20, 1, 33, 184, 0, 183]
abbrev dktX6_refine_0 : List UInt8 := dkwX6_refine_0 ++ dktX6_refine_1
theorem dksX6_refine_0 : cX6_refine.data.toList.drop 0 = dktX6_refine_0 := by decide +kernel
theorem dksX6_refine_1 : cX6_refine.data.toList.drop 24 = dktX6_refine_1 := dk_seg dksX6_refine_0 24 rfl rfl
theorem dksX6_refine_2 : cX6_refine.data.toList.drop 46 = dktX6_refine_2 := dk_seg dksX6_refine_1 22 rfl rfl
theorem dksX6_refine_3 : cX6_refine.data.toList.drop 68 = dktX6_refine_3 := dk_seg dksX6_refine_2 22 rfl rfl
theorem dksX6_refine_4 : cX6_refine.data.toList.drop 91 = dktX6_refine_4 := dk_seg dksX6_refine_3 23 rfl rfl
theorem dksX6_refine_5 : cX6_refine.data.toList.drop 115 = dktX6_refine_5 := dk_seg dksX6_refine_4 24 rfl rfl
theorem dX6_refine_0 : decode cX6_refine 0 = .ok (.aload_n 0, 1) := dk_42 (dk_at dksX6_refine_0 0 rfl rfl)
theorem dX6_refine_1 : decode cX6_refine 1 = .ok (.iconst 0, 1) := dk_3 (dk_at dksX6_refine_0 1 rfl rfl)
theorem dX6_refine_2 : decode cX6_refine 2 = .ok (.putfield 88, 3) := dk_181 0 88 (dk_at dksX6_refine_0 2 rfl rfl)
theorem dX6_refine_5 : decode cX6_refine 5 = .ok (.aload_n 0, 1) := dk_42 (dk_at dksX6_refine_0 5 rfl rfl)
theorem dX6_refine_6 : decode cX6_refine 6 = .ok (.aload_n 0, 1) := dk_42 (dk_at dksX6_refine_0 6 rfl rfl)
theorem dX6_refine_7 : decode cX6_refine 7 = .ok (.iload_n 1, 1) := dk_27 (dk_at dksX6_refine_0 7 rfl rfl)
theorem dX6_refine_8 : decode cX6_refine 8 = .ok (.iload_n 2, 1) := dk_28 (dk_at dksX6_refine_0 8 rfl rfl)
theorem dX6_refine_9 : decode cX6_refine 9 = .ok (.invokevirtual 400, 3) := dk_182 1 144 (dk_at dksX6_refine_0 9 rfl rfl)
theorem dX6_refine_12 : decode cX6_refine 12 = .ok (.ifCond .eq 32, 3) := dk_153 0 32 (dk_at dksX6_refine_0 12 rfl rfl)
theorem dX6_refine_15 : decode cX6_refine 15 = .ok (.iload_n 3, 1) := dk_29 (dk_at dksX6_refine_0 15 rfl rfl)
theorem dX6_refine_16 : decode cX6_refine 16 = .ok (.i2l, 1) := dk_133 (dk_at dksX6_refine_0 16 rfl rfl)
theorem dX6_refine_17 : decode cX6_refine 17 = .ok (.lconst 1, 1) := dk_10 (dk_at dksX6_refine_0 17 rfl rfl)
theorem dX6_refine_18 : decode cX6_refine 18 = .ok (.ldc2_w 289, 3) := dk_20 1 33 (dk_at dksX6_refine_0 18 rfl rfl)
theorem dX6_refine_21 : decode cX6_refine 21 = .ok (.invokestatic 183, 3) := dk_184 0 183 (dk_at dksX6_refine_0 21 rfl rfl)
theorem dX6_refine_24 : decode cX6_refine 24 = .ok (.ifCond .eq 20, 3) := dk_153 0 20 (dk_at dksX6_refine_1 0 rfl rfl)
theorem dX6_refine_27 : decode cX6_refine 27 = .ok (.iload 4, 2) := dk_21 4 (dk_at dksX6_refine_1 3 rfl rfl)
theorem dX6_refine_29 : decode cX6_refine 29 = .ok (.i2l, 1) := dk_133 (dk_at dksX6_refine_1 5 rfl rfl)
theorem dX6_refine_30 : decode cX6_refine 30 = .ok (.lconst 1, 1) := dk_10 (dk_at dksX6_refine_1 6 rfl rfl)
theorem dX6_refine_31 : decode cX6_refine 31 = .ok (.ldc2_w 413, 3) := dk_20 1 157 (dk_at dksX6_refine_1 7 rfl rfl)
theorem dX6_refine_34 : decode cX6_refine 34 = .ok (.invokestatic 183, 3) := dk_184 0 183 (dk_at dksX6_refine_1 10 rfl rfl)
theorem dX6_refine_37 : decode cX6_refine 37 = .ok (.ifCond .eq 7, 3) := dk_153 0 7 (dk_at dksX6_refine_1 13 rfl rfl)
theorem dX6_refine_40 : decode cX6_refine 40 = .ok (.iconst 1, 1) := dk_4 (dk_at dksX6_refine_1 16 rfl rfl)
theorem dX6_refine_41 : decode cX6_refine 41 = .ok (.goto 4, 3) := dk_167 0 4 (dk_at dksX6_refine_1 17 rfl rfl)
theorem dX6_refine_44 : decode cX6_refine 44 = .ok (.iconst 0, 1) := dk_3 (dk_at dksX6_refine_1 20 rfl rfl)
theorem dX6_refine_45 : decode cX6_refine 45 = .ok (.iconst 1, 1) := dk_4 (dk_at dksX6_refine_1 21 rfl rfl)
theorem dX6_refine_46 : decode cX6_refine 46 = .ok (.invokevirtual 236, 3) := dk_182 0 236 (dk_at dksX6_refine_2 0 rfl rfl)
theorem dX6_refine_49 : decode cX6_refine 49 = .ok (.ifCond .eq 5, 3) := dk_153 0 5 (dk_at dksX6_refine_2 3 rfl rfl)
theorem dX6_refine_52 : decode cX6_refine 52 = .ok (.iconst 0, 1) := dk_3 (dk_at dksX6_refine_2 6 rfl rfl)
theorem dX6_refine_53 : decode cX6_refine 53 = .ok (.ireturn, 1) := dk_172 (dk_at dksX6_refine_2 7 rfl rfl)
theorem dX6_refine_54 : decode cX6_refine 54 = .ok (.aload_n 0, 1) := dk_42 (dk_at dksX6_refine_2 8 rfl rfl)
theorem dX6_refine_55 : decode cX6_refine 55 = .ok (.aload_n 0, 1) := dk_42 (dk_at dksX6_refine_2 9 rfl rfl)
theorem dX6_refine_56 : decode cX6_refine 56 = .ok (.getfield 7, 3) := dk_180 0 7 (dk_at dksX6_refine_2 10 rfl rfl)
theorem dX6_refine_59 : decode cX6_refine 59 = .ok (.iload_n 1, 1) := dk_27 (dk_at dksX6_refine_2 13 rfl rfl)
theorem dX6_refine_60 : decode cX6_refine 60 = .ok (.iload_n 2, 1) := dk_28 (dk_at dksX6_refine_2 14 rfl rfl)
theorem dX6_refine_61 : decode cX6_refine 61 = .ok (.invokevirtual 403, 3) := dk_182 1 147 (dk_at dksX6_refine_2 15 rfl rfl)
theorem dX6_refine_64 : decode cX6_refine 64 = .ok (.lstore 5, 2) := dk_55 5 (dk_at dksX6_refine_2 18 rfl rfl)
theorem dX6_refine_66 : decode cX6_refine 66 = .ok (.lload 5, 2) := dk_22 5 (dk_at dksX6_refine_2 20 rfl rfl)
theorem dX6_refine_68 : decode cX6_refine 68 = .ok (.ldc2_w 390, 3) := dk_20 1 134 (dk_at dksX6_refine_3 0 rfl rfl)
theorem dX6_refine_71 : decode cX6_refine 71 = .ok (.lcmp, 1) := dk_148 (dk_at dksX6_refine_3 3 rfl rfl)
theorem dX6_refine_72 : decode cX6_refine 72 = .ok (.ifCond .ne 6, 3) := dk_154 0 6 (dk_at dksX6_refine_3 4 rfl rfl)
theorem dX6_refine_75 : decode cX6_refine 75 = .ok (.bipush (-4), 2) := dk_16 252 (dk_at dksX6_refine_3 7 rfl rfl)
theorem dX6_refine_77 : decode cX6_refine 77 = .ok (.ireturn, 1) := dk_172 (dk_at dksX6_refine_3 9 rfl rfl)
theorem dX6_refine_78 : decode cX6_refine 78 = .ok (.aload_n 0, 1) := dk_42 (dk_at dksX6_refine_3 10 rfl rfl)
theorem dX6_refine_79 : decode cX6_refine 79 = .ok (.invokevirtual 340, 3) := dk_182 1 84 (dk_at dksX6_refine_3 11 rfl rfl)
theorem dX6_refine_82 : decode cX6_refine 82 = .ok (.aload_n 0, 1) := dk_42 (dk_at dksX6_refine_3 14 rfl rfl)
theorem dX6_refine_83 : decode cX6_refine 83 = .ok (.iload_n 3, 1) := dk_29 (dk_at dksX6_refine_3 15 rfl rfl)
theorem dX6_refine_84 : decode cX6_refine 84 = .ok (.i2l, 1) := dk_133 (dk_at dksX6_refine_3 16 rfl rfl)
theorem dX6_refine_85 : decode cX6_refine 85 = .ok (.putfield 406, 3) := dk_181 1 150 (dk_at dksX6_refine_3 17 rfl rfl)
theorem dX6_refine_88 : decode cX6_refine 88 = .ok (.iconst 0, 1) := dk_3 (dk_at dksX6_refine_3 20 rfl rfl)
theorem dX6_refine_89 : decode cX6_refine 89 = .ok (.istore 7, 2) := dk_54 7 (dk_at dksX6_refine_3 21 rfl rfl)
theorem dX6_refine_91 : decode cX6_refine 91 = .ok (.iload 7, 2) := dk_21 7 (dk_at dksX6_refine_4 0 rfl rfl)
theorem dX6_refine_93 : decode cX6_refine 93 = .ok (.iload 4, 2) := dk_21 4 (dk_at dksX6_refine_4 2 rfl rfl)
theorem dX6_refine_95 : decode cX6_refine 95 = .ok (.if_icmp .ge 28, 3) := dk_162 0 28 (dk_at dksX6_refine_4 4 rfl rfl)
theorem dX6_refine_98 : decode cX6_refine 98 = .ok (.aload_n 0, 1) := dk_42 (dk_at dksX6_refine_4 7 rfl rfl)
theorem dX6_refine_99 : decode cX6_refine 99 = .ok (.getfield 406, 3) := dk_180 1 150 (dk_at dksX6_refine_4 8 rfl rfl)
theorem dX6_refine_102 : decode cX6_refine 102 = .ok (.lconst 0, 1) := dk_9 (dk_at dksX6_refine_4 11 rfl rfl)
theorem dX6_refine_103 : decode cX6_refine 103 = .ok (.lcmp, 1) := dk_148 (dk_at dksX6_refine_4 12 rfl rfl)
theorem dX6_refine_104 : decode cX6_refine 104 = .ok (.ifCond .le 19, 3) := dk_158 0 19 (dk_at dksX6_refine_4 13 rfl rfl)
theorem dX6_refine_107 : decode cX6_refine 107 = .ok (.aload_n 0, 1) := dk_42 (dk_at dksX6_refine_4 16 rfl rfl)
theorem dX6_refine_108 : decode cX6_refine 108 = .ok (.iload_n 1, 1) := dk_27 (dk_at dksX6_refine_4 17 rfl rfl)
theorem dX6_refine_109 : decode cX6_refine 109 = .ok (.iload_n 2, 1) := dk_28 (dk_at dksX6_refine_4 18 rfl rfl)
theorem dX6_refine_110 : decode cX6_refine 110 = .ok (.lload 5, 2) := dk_22 5 (dk_at dksX6_refine_4 19 rfl rfl)
theorem dX6_refine_112 : decode cX6_refine 112 = .ok (.invokevirtual 415, 3) := dk_182 1 159 (dk_at dksX6_refine_4 21 rfl rfl)
theorem dX6_refine_115 : decode cX6_refine 115 = .ok (.lstore 5, 2) := dk_55 5 (dk_at dksX6_refine_5 0 rfl rfl)
theorem dX6_refine_117 : decode cX6_refine 117 = .ok (.iinc 7 1, 3) := dk_132 7 1 (dk_at dksX6_refine_5 2 rfl rfl)
theorem dX6_refine_120 : decode cX6_refine 120 = .ok (.goto (-29), 3) := dk_167 255 227 (dk_at dksX6_refine_5 5 rfl rfl)
theorem dX6_refine_123 : decode cX6_refine 123 = .ok (.lload 5, 2) := dk_22 5 (dk_at dksX6_refine_5 8 rfl rfl)
theorem dX6_refine_125 : decode cX6_refine 125 = .ok (.l2i, 1) := dk_136 (dk_at dksX6_refine_5 10 rfl rfl)
theorem dX6_refine_126 : decode cX6_refine 126 = .ok (.ireturn, 1) := dk_172 (dk_at dksX6_refine_5 11 rfl rfl)
abbrev cX6_round : ByteArray := prog_25_method_102_code
def yX6_round : MethodName := ⟨RX6, "round", "(IIJ)J"⟩
def dkwX6_round_5 : List UInt8 := [173]
abbrev dktX6_round_5 : List UInt8 := dkwX6_round_5 ++ []
def dkwX6_round_4 : List UInt8 := [21, 5, 42, 180, 1, 150, 182, 1, 153, 54, 8, 42, 180, 0, 19, 42, 180, 0, 7, 184, 0, 95, 22, 6]
abbrev dktX6_round_4 : List UInt8 := dkwX6_round_4 ++ dktX6_round_5
def dkwX6_round_3 : List UInt8 := [167, 255, 196, 21, 5, 2, 160, 0, 17, 42, 89, 180, 1, 150, 20, 0, 203, 109, 181, 1, 150, 33, 173, 42]
abbrev dktX6_round_3 : List UInt8 := dkwX6_round_3 ++ dktX6_round_4
def dkwX6_round_2 : List UInt8 := [22, 9, 22, 6, 148, 155, 0, 6, 167, 0, 11, 21, 8, 54, 5, 22, 9, 55, 6, 132, 8, 1]
abbrev dktX6_round_2 : List UInt8 := dkwX6_round_2 ++ dktX6_round_3
def dkwX6_round_1 : List UInt8 := [182, 1, 153, 153, 0, 16, 42, 42, 180, 0, 19, 27, 28, 182, 1, 147, 167, 0, 6, 20, 1, 134, 55, 9]
abbrev dktX6_round_1 : List UInt8 := dkwX6_round_1 ++ dktX6_round_2
def dkwX6_round_0 : List UInt8 := [2, 54, 5, 33, 55, 6, 3, 54, 8, 21, 8, 16, 8, 162, 0, 59, 42, 21, 8, 42, 180, 1, 150]
abbrev dktX6_round_0 : List UInt8 := dkwX6_round_0 ++ dktX6_round_1
theorem dksX6_round_0 : cX6_round.data.toList.drop 0 = dktX6_round_0 := by decide +kernel
theorem dksX6_round_1 : cX6_round.data.toList.drop 23 = dktX6_round_1 := dk_seg dksX6_round_0 23 rfl rfl
theorem dksX6_round_2 : cX6_round.data.toList.drop 47 = dktX6_round_2 := dk_seg dksX6_round_1 24 rfl rfl
theorem dksX6_round_3 : cX6_round.data.toList.drop 69 = dktX6_round_3 := dk_seg dksX6_round_2 22 rfl rfl
theorem dksX6_round_4 : cX6_round.data.toList.drop 93 = dktX6_round_4 := dk_seg dksX6_round_3 24 rfl rfl
theorem dksX6_round_5 : cX6_round.data.toList.drop 117 = dktX6_round_5 := dk_seg dksX6_round_4 24 rfl rfl
theorem dX6_round_0 : decode cX6_round 0 = .ok (.iconst (-1), 1) := dk_2 (dk_at dksX6_round_0 0 rfl rfl)
theorem dX6_round_1 : decode cX6_round 1 = .ok (.istore 5, 2) := dk_54 5 (dk_at dksX6_round_0 1 rfl rfl)
theorem dX6_round_3 : decode cX6_round 3 = .ok (.lload_n 3, 1) := dk_33 (dk_at dksX6_round_0 3 rfl rfl)
theorem dX6_round_4 : decode cX6_round 4 = .ok (.lstore 6, 2) := dk_55 6 (dk_at dksX6_round_0 4 rfl rfl)
theorem dX6_round_6 : decode cX6_round 6 = .ok (.iconst 0, 1) := dk_3 (dk_at dksX6_round_0 6 rfl rfl)
theorem dX6_round_7 : decode cX6_round 7 = .ok (.istore 8, 2) := dk_54 8 (dk_at dksX6_round_0 7 rfl rfl)
theorem dX6_round_9 : decode cX6_round 9 = .ok (.iload 8, 2) := dk_21 8 (dk_at dksX6_round_0 9 rfl rfl)
theorem dX6_round_11 : decode cX6_round 11 = .ok (.bipush 8, 2) := dk_16 8 (dk_at dksX6_round_0 11 rfl rfl)
theorem dX6_round_13 : decode cX6_round 13 = .ok (.if_icmp .ge 59, 3) := dk_162 0 59 (dk_at dksX6_round_0 13 rfl rfl)
theorem dX6_round_16 : decode cX6_round 16 = .ok (.aload_n 0, 1) := dk_42 (dk_at dksX6_round_0 16 rfl rfl)
theorem dX6_round_17 : decode cX6_round 17 = .ok (.iload 8, 2) := dk_21 8 (dk_at dksX6_round_0 17 rfl rfl)
theorem dX6_round_19 : decode cX6_round 19 = .ok (.aload_n 0, 1) := dk_42 (dk_at dksX6_round_0 19 rfl rfl)
theorem dX6_round_20 : decode cX6_round 20 = .ok (.getfield 406, 3) := dk_180 1 150 (dk_at dksX6_round_0 20 rfl rfl)
theorem dX6_round_23 : decode cX6_round 23 = .ok (.invokevirtual 409, 3) := dk_182 1 153 (dk_at dksX6_round_1 0 rfl rfl)
theorem dX6_round_26 : decode cX6_round 26 = .ok (.ifCond .eq 16, 3) := dk_153 0 16 (dk_at dksX6_round_1 3 rfl rfl)
theorem dX6_round_29 : decode cX6_round 29 = .ok (.aload_n 0, 1) := dk_42 (dk_at dksX6_round_1 6 rfl rfl)
theorem dX6_round_30 : decode cX6_round 30 = .ok (.aload_n 0, 1) := dk_42 (dk_at dksX6_round_1 7 rfl rfl)
theorem dX6_round_31 : decode cX6_round 31 = .ok (.getfield 19, 3) := dk_180 0 19 (dk_at dksX6_round_1 8 rfl rfl)
theorem dX6_round_34 : decode cX6_round 34 = .ok (.iload_n 1, 1) := dk_27 (dk_at dksX6_round_1 11 rfl rfl)
theorem dX6_round_35 : decode cX6_round 35 = .ok (.iload_n 2, 1) := dk_28 (dk_at dksX6_round_1 12 rfl rfl)
theorem dX6_round_36 : decode cX6_round 36 = .ok (.invokevirtual 403, 3) := dk_182 1 147 (dk_at dksX6_round_1 13 rfl rfl)
theorem dX6_round_39 : decode cX6_round 39 = .ok (.goto 6, 3) := dk_167 0 6 (dk_at dksX6_round_1 16 rfl rfl)
theorem dX6_round_42 : decode cX6_round 42 = .ok (.ldc2_w 390, 3) := dk_20 1 134 (dk_at dksX6_round_1 19 rfl rfl)
theorem dX6_round_45 : decode cX6_round 45 = .ok (.lstore 9, 2) := dk_55 9 (dk_at dksX6_round_1 22 rfl rfl)
theorem dX6_round_47 : decode cX6_round 47 = .ok (.lload 9, 2) := dk_22 9 (dk_at dksX6_round_2 0 rfl rfl)
theorem dX6_round_49 : decode cX6_round 49 = .ok (.lload 6, 2) := dk_22 6 (dk_at dksX6_round_2 2 rfl rfl)
theorem dX6_round_51 : decode cX6_round 51 = .ok (.lcmp, 1) := dk_148 (dk_at dksX6_round_2 4 rfl rfl)
theorem dX6_round_52 : decode cX6_round 52 = .ok (.ifCond .lt 6, 3) := dk_155 0 6 (dk_at dksX6_round_2 5 rfl rfl)
theorem dX6_round_55 : decode cX6_round 55 = .ok (.goto 11, 3) := dk_167 0 11 (dk_at dksX6_round_2 8 rfl rfl)
theorem dX6_round_58 : decode cX6_round 58 = .ok (.iload 8, 2) := dk_21 8 (dk_at dksX6_round_2 11 rfl rfl)
theorem dX6_round_60 : decode cX6_round 60 = .ok (.istore 5, 2) := dk_54 5 (dk_at dksX6_round_2 13 rfl rfl)
theorem dX6_round_62 : decode cX6_round 62 = .ok (.lload 9, 2) := dk_22 9 (dk_at dksX6_round_2 15 rfl rfl)
theorem dX6_round_64 : decode cX6_round 64 = .ok (.lstore 6, 2) := dk_55 6 (dk_at dksX6_round_2 17 rfl rfl)
theorem dX6_round_66 : decode cX6_round 66 = .ok (.iinc 8 1, 3) := dk_132 8 1 (dk_at dksX6_round_2 19 rfl rfl)
theorem dX6_round_69 : decode cX6_round 69 = .ok (.goto (-60), 3) := dk_167 255 196 (dk_at dksX6_round_3 0 rfl rfl)
theorem dX6_round_72 : decode cX6_round 72 = .ok (.iload 5, 2) := dk_21 5 (dk_at dksX6_round_3 3 rfl rfl)
theorem dX6_round_74 : decode cX6_round 74 = .ok (.iconst (-1), 1) := dk_2 (dk_at dksX6_round_3 5 rfl rfl)
theorem dX6_round_75 : decode cX6_round 75 = .ok (.if_icmp .ne 17, 3) := dk_160 0 17 (dk_at dksX6_round_3 6 rfl rfl)
theorem dX6_round_78 : decode cX6_round 78 = .ok (.aload_n 0, 1) := dk_42 (dk_at dksX6_round_3 9 rfl rfl)
theorem dX6_round_79 : decode cX6_round 79 = .ok (.dup, 1) := dk_89 (dk_at dksX6_round_3 10 rfl rfl)
theorem dX6_round_80 : decode cX6_round 80 = .ok (.getfield 406, 3) := dk_180 1 150 (dk_at dksX6_round_3 11 rfl rfl)
theorem dX6_round_83 : decode cX6_round 83 = .ok (.ldc2_w 203, 3) := dk_20 0 203 (dk_at dksX6_round_3 14 rfl rfl)
theorem dX6_round_86 : decode cX6_round 86 = .ok (.ldiv, 1) := dk_109 (dk_at dksX6_round_3 17 rfl rfl)
theorem dX6_round_87 : decode cX6_round 87 = .ok (.putfield 406, 3) := dk_181 1 150 (dk_at dksX6_round_3 18 rfl rfl)
theorem dX6_round_90 : decode cX6_round 90 = .ok (.lload_n 3, 1) := dk_33 (dk_at dksX6_round_3 21 rfl rfl)
theorem dX6_round_91 : decode cX6_round 91 = .ok (.lreturn, 1) := dk_173 (dk_at dksX6_round_3 22 rfl rfl)
theorem dX6_round_92 : decode cX6_round 92 = .ok (.aload_n 0, 1) := dk_42 (dk_at dksX6_round_3 23 rfl rfl)
theorem dX6_round_93 : decode cX6_round 93 = .ok (.iload 5, 2) := dk_21 5 (dk_at dksX6_round_4 0 rfl rfl)
theorem dX6_round_95 : decode cX6_round 95 = .ok (.aload_n 0, 1) := dk_42 (dk_at dksX6_round_4 2 rfl rfl)
theorem dX6_round_96 : decode cX6_round 96 = .ok (.getfield 406, 3) := dk_180 1 150 (dk_at dksX6_round_4 3 rfl rfl)
theorem dX6_round_99 : decode cX6_round 99 = .ok (.invokevirtual 409, 3) := dk_182 1 153 (dk_at dksX6_round_4 6 rfl rfl)
theorem dX6_round_102 : decode cX6_round 102 = .ok (.istore 8, 2) := dk_54 8 (dk_at dksX6_round_4 9 rfl rfl)
theorem dX6_round_104 : decode cX6_round 104 = .ok (.aload_n 0, 1) := dk_42 (dk_at dksX6_round_4 11 rfl rfl)
theorem dX6_round_105 : decode cX6_round 105 = .ok (.getfield 19, 3) := dk_180 0 19 (dk_at dksX6_round_4 12 rfl rfl)
theorem dX6_round_108 : decode cX6_round 108 = .ok (.aload_n 0, 1) := dk_42 (dk_at dksX6_round_4 15 rfl rfl)
theorem dX6_round_109 : decode cX6_round 109 = .ok (.getfield 7, 3) := dk_180 0 7 (dk_at dksX6_round_4 16 rfl rfl)
theorem dX6_round_112 : decode cX6_round 112 = .ok (.invokestatic 95, 3) := dk_184 0 95 (dk_at dksX6_round_4 19 rfl rfl)
theorem dX6_round_115 : decode cX6_round 115 = .ok (.lload 6, 2) := dk_22 6 (dk_at dksX6_round_4 22 rfl rfl)
theorem dX6_round_117 : decode cX6_round 117 = .ok (.lreturn, 1) := dk_173 (dk_at dksX6_round_5 0 rfl rfl)
abbrev cX6_changes : ByteArray := prog_25_method_101_code
def yX6_changes : MethodName := ⟨RX6, "changes", "(IJ)Z"⟩
def dkwX6_changes_3 : List UInt8 := [180, 0, 19, 184, 1, 46, 172]
abbrev dktX6_changes_3 : List UInt8 := dkwX6_changes_3 ++ []
def dkwX6_changes_2 : List UInt8 := [47, 22, 5, 97, 80, 42, 180, 0, 19, 5, 21, 4, 184, 0, 79, 92, 47, 22, 5, 101, 80, 42]
abbrev dktX6_changes_2 : List UInt8 := dkwX6_changes_2 ++ dktX6_changes_3
def dkwX6_changes_1 : List UInt8 := [154, 0, 7, 32, 167, 0, 5, 32, 117, 55, 5, 42, 180, 0, 19, 27, 7, 108, 21, 4, 184, 0, 79, 92]
abbrev dktX6_changes_1 : List UInt8 := dkwX6_changes_1 ++ dktX6_changes_2
def dkwX6_changes_0 : List UInt8 := [42, 180, 0, 7, 42, 180, 0, 19, 184, 0, 95, 6, 27, 5, 108, 5, 112, 96, 54, 4, 27, 5, 112]
abbrev dktX6_changes_0 : List UInt8 := dkwX6_changes_0 ++ dktX6_changes_1
theorem dksX6_changes_0 : cX6_changes.data.toList.drop 0 = dktX6_changes_0 := by decide +kernel
theorem dksX6_changes_1 : cX6_changes.data.toList.drop 23 = dktX6_changes_1 := dk_seg dksX6_changes_0 23 rfl rfl
theorem dksX6_changes_2 : cX6_changes.data.toList.drop 47 = dktX6_changes_2 := dk_seg dksX6_changes_1 24 rfl rfl
theorem dksX6_changes_3 : cX6_changes.data.toList.drop 69 = dktX6_changes_3 := dk_seg dksX6_changes_2 22 rfl rfl
theorem dX6_changes_0 : decode cX6_changes 0 = .ok (.aload_n 0, 1) := dk_42 (dk_at dksX6_changes_0 0 rfl rfl)
theorem dX6_changes_1 : decode cX6_changes 1 = .ok (.getfield 7, 3) := dk_180 0 7 (dk_at dksX6_changes_0 1 rfl rfl)
theorem dX6_changes_4 : decode cX6_changes 4 = .ok (.aload_n 0, 1) := dk_42 (dk_at dksX6_changes_0 4 rfl rfl)
theorem dX6_changes_5 : decode cX6_changes 5 = .ok (.getfield 19, 3) := dk_180 0 19 (dk_at dksX6_changes_0 5 rfl rfl)
theorem dX6_changes_8 : decode cX6_changes 8 = .ok (.invokestatic 95, 3) := dk_184 0 95 (dk_at dksX6_changes_0 8 rfl rfl)
theorem dX6_changes_11 : decode cX6_changes 11 = .ok (.iconst 3, 1) := dk_6 (dk_at dksX6_changes_0 11 rfl rfl)
theorem dX6_changes_12 : decode cX6_changes 12 = .ok (.iload_n 1, 1) := dk_27 (dk_at dksX6_changes_0 12 rfl rfl)
theorem dX6_changes_13 : decode cX6_changes 13 = .ok (.iconst 2, 1) := dk_5 (dk_at dksX6_changes_0 13 rfl rfl)
theorem dX6_changes_14 : decode cX6_changes 14 = .ok (.idiv, 1) := dk_108 (dk_at dksX6_changes_0 14 rfl rfl)
theorem dX6_changes_15 : decode cX6_changes 15 = .ok (.iconst 2, 1) := dk_5 (dk_at dksX6_changes_0 15 rfl rfl)
theorem dX6_changes_16 : decode cX6_changes 16 = .ok (.irem, 1) := dk_112 (dk_at dksX6_changes_0 16 rfl rfl)
theorem dX6_changes_17 : decode cX6_changes 17 = .ok (.iadd, 1) := dk_96 (dk_at dksX6_changes_0 17 rfl rfl)
theorem dX6_changes_18 : decode cX6_changes 18 = .ok (.istore 4, 2) := dk_54 4 (dk_at dksX6_changes_0 18 rfl rfl)
theorem dX6_changes_20 : decode cX6_changes 20 = .ok (.iload_n 1, 1) := dk_27 (dk_at dksX6_changes_0 20 rfl rfl)
theorem dX6_changes_21 : decode cX6_changes 21 = .ok (.iconst 2, 1) := dk_5 (dk_at dksX6_changes_0 21 rfl rfl)
theorem dX6_changes_22 : decode cX6_changes 22 = .ok (.irem, 1) := dk_112 (dk_at dksX6_changes_0 22 rfl rfl)
theorem dX6_changes_23 : decode cX6_changes 23 = .ok (.ifCond .ne 7, 3) := dk_154 0 7 (dk_at dksX6_changes_1 0 rfl rfl)
theorem dX6_changes_26 : decode cX6_changes 26 = .ok (.lload_n 2, 1) := dk_32 (dk_at dksX6_changes_1 3 rfl rfl)
theorem dX6_changes_27 : decode cX6_changes 27 = .ok (.goto 5, 3) := dk_167 0 5 (dk_at dksX6_changes_1 4 rfl rfl)
theorem dX6_changes_30 : decode cX6_changes 30 = .ok (.lload_n 2, 1) := dk_32 (dk_at dksX6_changes_1 7 rfl rfl)
theorem dX6_changes_31 : decode cX6_changes 31 = .ok (.lneg, 1) := dk_117 (dk_at dksX6_changes_1 8 rfl rfl)
theorem dX6_changes_32 : decode cX6_changes 32 = .ok (.lstore 5, 2) := dk_55 5 (dk_at dksX6_changes_1 9 rfl rfl)
theorem dX6_changes_34 : decode cX6_changes 34 = .ok (.aload_n 0, 1) := dk_42 (dk_at dksX6_changes_1 11 rfl rfl)
theorem dX6_changes_35 : decode cX6_changes 35 = .ok (.getfield 19, 3) := dk_180 0 19 (dk_at dksX6_changes_1 12 rfl rfl)
theorem dX6_changes_38 : decode cX6_changes 38 = .ok (.iload_n 1, 1) := dk_27 (dk_at dksX6_changes_1 15 rfl rfl)
theorem dX6_changes_39 : decode cX6_changes 39 = .ok (.iconst 4, 1) := dk_7 (dk_at dksX6_changes_1 16 rfl rfl)
theorem dX6_changes_40 : decode cX6_changes 40 = .ok (.idiv, 1) := dk_108 (dk_at dksX6_changes_1 17 rfl rfl)
theorem dX6_changes_41 : decode cX6_changes 41 = .ok (.iload 4, 2) := dk_21 4 (dk_at dksX6_changes_1 18 rfl rfl)
theorem dX6_changes_43 : decode cX6_changes 43 = .ok (.invokestatic 79, 3) := dk_184 0 79 (dk_at dksX6_changes_1 20 rfl rfl)
theorem dX6_changes_46 : decode cX6_changes 46 = .ok (.dup2, 1) := dk_92 (dk_at dksX6_changes_1 23 rfl rfl)
theorem dX6_changes_47 : decode cX6_changes 47 = .ok (.laload, 1) := dk_47 (dk_at dksX6_changes_2 0 rfl rfl)
theorem dX6_changes_48 : decode cX6_changes 48 = .ok (.lload 5, 2) := dk_22 5 (dk_at dksX6_changes_2 1 rfl rfl)
theorem dX6_changes_50 : decode cX6_changes 50 = .ok (.ladd, 1) := dk_97 (dk_at dksX6_changes_2 3 rfl rfl)
theorem dX6_changes_51 : decode cX6_changes 51 = .ok (.lastore, 1) := dk_80 (dk_at dksX6_changes_2 4 rfl rfl)
theorem dX6_changes_52 : decode cX6_changes 52 = .ok (.aload_n 0, 1) := dk_42 (dk_at dksX6_changes_2 5 rfl rfl)
theorem dX6_changes_53 : decode cX6_changes 53 = .ok (.getfield 19, 3) := dk_180 0 19 (dk_at dksX6_changes_2 6 rfl rfl)
theorem dX6_changes_56 : decode cX6_changes 56 = .ok (.iconst 2, 1) := dk_5 (dk_at dksX6_changes_2 9 rfl rfl)
theorem dX6_changes_57 : decode cX6_changes 57 = .ok (.iload 4, 2) := dk_21 4 (dk_at dksX6_changes_2 10 rfl rfl)
theorem dX6_changes_59 : decode cX6_changes 59 = .ok (.invokestatic 79, 3) := dk_184 0 79 (dk_at dksX6_changes_2 12 rfl rfl)
theorem dX6_changes_62 : decode cX6_changes 62 = .ok (.dup2, 1) := dk_92 (dk_at dksX6_changes_2 15 rfl rfl)
theorem dX6_changes_63 : decode cX6_changes 63 = .ok (.laload, 1) := dk_47 (dk_at dksX6_changes_2 16 rfl rfl)
theorem dX6_changes_64 : decode cX6_changes 64 = .ok (.lload 5, 2) := dk_22 5 (dk_at dksX6_changes_2 17 rfl rfl)
theorem dX6_changes_66 : decode cX6_changes 66 = .ok (.lsub, 1) := dk_101 (dk_at dksX6_changes_2 19 rfl rfl)
theorem dX6_changes_67 : decode cX6_changes 67 = .ok (.lastore, 1) := dk_80 (dk_at dksX6_changes_2 20 rfl rfl)
theorem dX6_changes_68 : decode cX6_changes 68 = .ok (.aload_n 0, 1) := dk_42 (dk_at dksX6_changes_2 21 rfl rfl)
theorem dX6_changes_69 : decode cX6_changes 69 = .ok (.getfield 19, 3) := dk_180 0 19 (dk_at dksX6_changes_3 0 rfl rfl)
theorem dX6_changes_72 : decode cX6_changes 72 = .ok (.invokestatic 302, 3) := dk_184 1 46 (dk_at dksX6_changes_3 3 rfl rfl)
theorem dX6_changes_75 : decode cX6_changes 75 = .ok (.ireturn, 1) := dk_172 (dk_at dksX6_changes_3 6 rfl rfl)
abbrev cX6_possible : ByteArray := prog_25_method_104_code
def yX6_possible : MethodName := ⟨RX6, "possible", "(I)I"⟩
def dkwX6_possible_2 : List UInt8 := [182, 1, 62, 153, 0, 9, 132, 2, 1, 167, 255, 236, 28, 172]
abbrev dktX6_possible_2 : List UInt8 := dkwX6_possible_2 ++ []
def dkwX6_possible_1 : List UInt8 := [42, 180, 0, 7, 42, 180, 0, 13, 184, 0, 95, 3, 61, 28, 27, 162, 0, 21, 42, 42, 180, 0, 13, 3]
abbrev dktX6_possible_1 : List UInt8 := dkwX6_possible_1 ++ dktX6_possible_2
def dkwX6_possible_0 : List UInt8 := [42, 3, 181, 0, 88, 42, 27, 133, 9, 20, 1, 79, 184, 0, 183, 4, 182, 0, 236, 153, 0, 5, 3, 172]
abbrev dktX6_possible_0 : List UInt8 := dkwX6_possible_0 ++ dktX6_possible_1
theorem dksX6_possible_0 : cX6_possible.data.toList.drop 0 = dktX6_possible_0 := by decide +kernel
theorem dksX6_possible_1 : cX6_possible.data.toList.drop 24 = dktX6_possible_1 := dk_seg dksX6_possible_0 24 rfl rfl
theorem dksX6_possible_2 : cX6_possible.data.toList.drop 48 = dktX6_possible_2 := dk_seg dksX6_possible_1 24 rfl rfl
theorem dX6_possible_0 : decode cX6_possible 0 = .ok (.aload_n 0, 1) := dk_42 (dk_at dksX6_possible_0 0 rfl rfl)
theorem dX6_possible_1 : decode cX6_possible 1 = .ok (.iconst 0, 1) := dk_3 (dk_at dksX6_possible_0 1 rfl rfl)
theorem dX6_possible_2 : decode cX6_possible 2 = .ok (.putfield 88, 3) := dk_181 0 88 (dk_at dksX6_possible_0 2 rfl rfl)
theorem dX6_possible_5 : decode cX6_possible 5 = .ok (.aload_n 0, 1) := dk_42 (dk_at dksX6_possible_0 5 rfl rfl)
theorem dX6_possible_6 : decode cX6_possible 6 = .ok (.iload_n 1, 1) := dk_27 (dk_at dksX6_possible_0 6 rfl rfl)
theorem dX6_possible_7 : decode cX6_possible 7 = .ok (.i2l, 1) := dk_133 (dk_at dksX6_possible_0 7 rfl rfl)
theorem dX6_possible_8 : decode cX6_possible 8 = .ok (.lconst 0, 1) := dk_9 (dk_at dksX6_possible_0 8 rfl rfl)
theorem dX6_possible_9 : decode cX6_possible 9 = .ok (.ldc2_w 335, 3) := dk_20 1 79 (dk_at dksX6_possible_0 9 rfl rfl)
theorem dX6_possible_12 : decode cX6_possible 12 = .ok (.invokestatic 183, 3) := dk_184 0 183 (dk_at dksX6_possible_0 12 rfl rfl)
theorem dX6_possible_15 : decode cX6_possible 15 = .ok (.iconst 1, 1) := dk_4 (dk_at dksX6_possible_0 15 rfl rfl)
theorem dX6_possible_16 : decode cX6_possible 16 = .ok (.invokevirtual 236, 3) := dk_182 0 236 (dk_at dksX6_possible_0 16 rfl rfl)
theorem dX6_possible_19 : decode cX6_possible 19 = .ok (.ifCond .eq 5, 3) := dk_153 0 5 (dk_at dksX6_possible_0 19 rfl rfl)
theorem dX6_possible_22 : decode cX6_possible 22 = .ok (.iconst 0, 1) := dk_3 (dk_at dksX6_possible_0 22 rfl rfl)
theorem dX6_possible_23 : decode cX6_possible 23 = .ok (.ireturn, 1) := dk_172 (dk_at dksX6_possible_0 23 rfl rfl)
theorem dX6_possible_24 : decode cX6_possible 24 = .ok (.aload_n 0, 1) := dk_42 (dk_at dksX6_possible_1 0 rfl rfl)
theorem dX6_possible_25 : decode cX6_possible 25 = .ok (.getfield 7, 3) := dk_180 0 7 (dk_at dksX6_possible_1 1 rfl rfl)
theorem dX6_possible_28 : decode cX6_possible 28 = .ok (.aload_n 0, 1) := dk_42 (dk_at dksX6_possible_1 4 rfl rfl)
theorem dX6_possible_29 : decode cX6_possible 29 = .ok (.getfield 13, 3) := dk_180 0 13 (dk_at dksX6_possible_1 5 rfl rfl)
theorem dX6_possible_32 : decode cX6_possible 32 = .ok (.invokestatic 95, 3) := dk_184 0 95 (dk_at dksX6_possible_1 8 rfl rfl)
theorem dX6_possible_35 : decode cX6_possible 35 = .ok (.iconst 0, 1) := dk_3 (dk_at dksX6_possible_1 11 rfl rfl)
theorem dX6_possible_36 : decode cX6_possible 36 = .ok (.istore_n 2, 1) := dk_61 (dk_at dksX6_possible_1 12 rfl rfl)
theorem dX6_possible_37 : decode cX6_possible 37 = .ok (.iload_n 2, 1) := dk_28 (dk_at dksX6_possible_1 13 rfl rfl)
theorem dX6_possible_38 : decode cX6_possible 38 = .ok (.iload_n 1, 1) := dk_27 (dk_at dksX6_possible_1 14 rfl rfl)
theorem dX6_possible_39 : decode cX6_possible 39 = .ok (.if_icmp .ge 21, 3) := dk_162 0 21 (dk_at dksX6_possible_1 15 rfl rfl)
theorem dX6_possible_42 : decode cX6_possible 42 = .ok (.aload_n 0, 1) := dk_42 (dk_at dksX6_possible_1 18 rfl rfl)
theorem dX6_possible_43 : decode cX6_possible 43 = .ok (.aload_n 0, 1) := dk_42 (dk_at dksX6_possible_1 19 rfl rfl)
theorem dX6_possible_44 : decode cX6_possible 44 = .ok (.getfield 13, 3) := dk_180 0 13 (dk_at dksX6_possible_1 20 rfl rfl)
theorem dX6_possible_47 : decode cX6_possible 47 = .ok (.iconst 0, 1) := dk_3 (dk_at dksX6_possible_1 23 rfl rfl)
theorem dX6_possible_48 : decode cX6_possible 48 = .ok (.invokevirtual 318, 3) := dk_182 1 62 (dk_at dksX6_possible_2 0 rfl rfl)
theorem dX6_possible_51 : decode cX6_possible 51 = .ok (.ifCond .eq 9, 3) := dk_153 0 9 (dk_at dksX6_possible_2 3 rfl rfl)
theorem dX6_possible_54 : decode cX6_possible 54 = .ok (.iinc 2 1, 3) := dk_132 2 1 (dk_at dksX6_possible_2 6 rfl rfl)
theorem dX6_possible_57 : decode cX6_possible 57 = .ok (.goto (-20), 3) := dk_167 255 236 (dk_at dksX6_possible_2 9 rfl rfl)
theorem dX6_possible_60 : decode cX6_possible 60 = .ok (.iload_n 2, 1) := dk_28 (dk_at dksX6_possible_2 12 rfl rfl)
theorem dX6_possible_61 : decode cX6_possible 61 = .ok (.ireturn, 1) := dk_172 (dk_at dksX6_possible_2 13 rfl rfl)
abbrev cX6_recurs : ByteArray := prog_25_method_107_code
def yX6_recurs : MethodName := ⟨RX6, "recurs", "(ZI)I"⟩
def dkwX6_recurs_3 : List UInt8 := [2, 172]
abbrev dktX6_recurs_3 : List UInt8 := dkwX6_recurs_3 ++ []
def dkwX6_recurs_2 : List UInt8 := [182, 1, 62, 154, 0, 5, 2, 172, 42, 27, 182, 1, 167, 153, 0, 5, 29, 172, 132, 3, 1, 167, 255, 224]
abbrev dktX6_recurs_2 : List UInt8 := dkwX6_recurs_2 ++ dktX6_recurs_3
def dkwX6_recurs_1 : List UInt8 := [42, 180, 0, 7, 42, 180, 0, 13, 184, 0, 95, 4, 62, 29, 28, 163, 0, 33, 42, 42, 180, 0, 13, 3]
abbrev dktX6_recurs_1 : List UInt8 := dkwX6_recurs_1 ++ dktX6_recurs_2
def dkwX6_recurs_0 : List UInt8 := [42, 3, 181, 0, 88, 42, 28, 133, 10, 20, 1, 79, 184, 0, 183, 4, 182, 0, 236, 153, 0, 5, 3, 172]
abbrev dktX6_recurs_0 : List UInt8 := dkwX6_recurs_0 ++ dktX6_recurs_1
theorem dksX6_recurs_0 : cX6_recurs.data.toList.drop 0 = dktX6_recurs_0 := by decide +kernel
theorem dksX6_recurs_1 : cX6_recurs.data.toList.drop 24 = dktX6_recurs_1 := dk_seg dksX6_recurs_0 24 rfl rfl
theorem dksX6_recurs_2 : cX6_recurs.data.toList.drop 48 = dktX6_recurs_2 := dk_seg dksX6_recurs_1 24 rfl rfl
theorem dksX6_recurs_3 : cX6_recurs.data.toList.drop 72 = dktX6_recurs_3 := dk_seg dksX6_recurs_2 24 rfl rfl
theorem dX6_recurs_0 : decode cX6_recurs 0 = .ok (.aload_n 0, 1) := dk_42 (dk_at dksX6_recurs_0 0 rfl rfl)
theorem dX6_recurs_1 : decode cX6_recurs 1 = .ok (.iconst 0, 1) := dk_3 (dk_at dksX6_recurs_0 1 rfl rfl)
theorem dX6_recurs_2 : decode cX6_recurs 2 = .ok (.putfield 88, 3) := dk_181 0 88 (dk_at dksX6_recurs_0 2 rfl rfl)
theorem dX6_recurs_5 : decode cX6_recurs 5 = .ok (.aload_n 0, 1) := dk_42 (dk_at dksX6_recurs_0 5 rfl rfl)
theorem dX6_recurs_6 : decode cX6_recurs 6 = .ok (.iload_n 2, 1) := dk_28 (dk_at dksX6_recurs_0 6 rfl rfl)
theorem dX6_recurs_7 : decode cX6_recurs 7 = .ok (.i2l, 1) := dk_133 (dk_at dksX6_recurs_0 7 rfl rfl)
theorem dX6_recurs_8 : decode cX6_recurs 8 = .ok (.lconst 1, 1) := dk_10 (dk_at dksX6_recurs_0 8 rfl rfl)
theorem dX6_recurs_9 : decode cX6_recurs 9 = .ok (.ldc2_w 335, 3) := dk_20 1 79 (dk_at dksX6_recurs_0 9 rfl rfl)
theorem dX6_recurs_12 : decode cX6_recurs 12 = .ok (.invokestatic 183, 3) := dk_184 0 183 (dk_at dksX6_recurs_0 12 rfl rfl)
theorem dX6_recurs_15 : decode cX6_recurs 15 = .ok (.iconst 1, 1) := dk_4 (dk_at dksX6_recurs_0 15 rfl rfl)
theorem dX6_recurs_16 : decode cX6_recurs 16 = .ok (.invokevirtual 236, 3) := dk_182 0 236 (dk_at dksX6_recurs_0 16 rfl rfl)
theorem dX6_recurs_19 : decode cX6_recurs 19 = .ok (.ifCond .eq 5, 3) := dk_153 0 5 (dk_at dksX6_recurs_0 19 rfl rfl)
theorem dX6_recurs_22 : decode cX6_recurs 22 = .ok (.iconst 0, 1) := dk_3 (dk_at dksX6_recurs_0 22 rfl rfl)
theorem dX6_recurs_23 : decode cX6_recurs 23 = .ok (.ireturn, 1) := dk_172 (dk_at dksX6_recurs_0 23 rfl rfl)
theorem dX6_recurs_24 : decode cX6_recurs 24 = .ok (.aload_n 0, 1) := dk_42 (dk_at dksX6_recurs_1 0 rfl rfl)
theorem dX6_recurs_25 : decode cX6_recurs 25 = .ok (.getfield 7, 3) := dk_180 0 7 (dk_at dksX6_recurs_1 1 rfl rfl)
theorem dX6_recurs_28 : decode cX6_recurs 28 = .ok (.aload_n 0, 1) := dk_42 (dk_at dksX6_recurs_1 4 rfl rfl)
theorem dX6_recurs_29 : decode cX6_recurs 29 = .ok (.getfield 13, 3) := dk_180 0 13 (dk_at dksX6_recurs_1 5 rfl rfl)
theorem dX6_recurs_32 : decode cX6_recurs 32 = .ok (.invokestatic 95, 3) := dk_184 0 95 (dk_at dksX6_recurs_1 8 rfl rfl)
theorem dX6_recurs_35 : decode cX6_recurs 35 = .ok (.iconst 1, 1) := dk_4 (dk_at dksX6_recurs_1 11 rfl rfl)
theorem dX6_recurs_36 : decode cX6_recurs 36 = .ok (.istore_n 3, 1) := dk_62 (dk_at dksX6_recurs_1 12 rfl rfl)
theorem dX6_recurs_37 : decode cX6_recurs 37 = .ok (.iload_n 3, 1) := dk_29 (dk_at dksX6_recurs_1 13 rfl rfl)
theorem dX6_recurs_38 : decode cX6_recurs 38 = .ok (.iload_n 2, 1) := dk_28 (dk_at dksX6_recurs_1 14 rfl rfl)
theorem dX6_recurs_39 : decode cX6_recurs 39 = .ok (.if_icmp .gt 33, 3) := dk_163 0 33 (dk_at dksX6_recurs_1 15 rfl rfl)
theorem dX6_recurs_42 : decode cX6_recurs 42 = .ok (.aload_n 0, 1) := dk_42 (dk_at dksX6_recurs_1 18 rfl rfl)
theorem dX6_recurs_43 : decode cX6_recurs 43 = .ok (.aload_n 0, 1) := dk_42 (dk_at dksX6_recurs_1 19 rfl rfl)
theorem dX6_recurs_44 : decode cX6_recurs 44 = .ok (.getfield 13, 3) := dk_180 0 13 (dk_at dksX6_recurs_1 20 rfl rfl)
theorem dX6_recurs_47 : decode cX6_recurs 47 = .ok (.iconst 0, 1) := dk_3 (dk_at dksX6_recurs_1 23 rfl rfl)
theorem dX6_recurs_48 : decode cX6_recurs 48 = .ok (.invokevirtual 318, 3) := dk_182 1 62 (dk_at dksX6_recurs_2 0 rfl rfl)
theorem dX6_recurs_51 : decode cX6_recurs 51 = .ok (.ifCond .ne 5, 3) := dk_154 0 5 (dk_at dksX6_recurs_2 3 rfl rfl)
theorem dX6_recurs_54 : decode cX6_recurs 54 = .ok (.iconst (-1), 1) := dk_2 (dk_at dksX6_recurs_2 6 rfl rfl)
theorem dX6_recurs_55 : decode cX6_recurs 55 = .ok (.ireturn, 1) := dk_172 (dk_at dksX6_recurs_2 7 rfl rfl)
theorem dX6_recurs_56 : decode cX6_recurs 56 = .ok (.aload_n 0, 1) := dk_42 (dk_at dksX6_recurs_2 8 rfl rfl)
theorem dX6_recurs_57 : decode cX6_recurs 57 = .ok (.iload_n 1, 1) := dk_27 (dk_at dksX6_recurs_2 9 rfl rfl)
theorem dX6_recurs_58 : decode cX6_recurs 58 = .ok (.invokevirtual 423, 3) := dk_182 1 167 (dk_at dksX6_recurs_2 10 rfl rfl)
theorem dX6_recurs_61 : decode cX6_recurs 61 = .ok (.ifCond .eq 5, 3) := dk_153 0 5 (dk_at dksX6_recurs_2 13 rfl rfl)
theorem dX6_recurs_64 : decode cX6_recurs 64 = .ok (.iload_n 3, 1) := dk_29 (dk_at dksX6_recurs_2 16 rfl rfl)
theorem dX6_recurs_65 : decode cX6_recurs 65 = .ok (.ireturn, 1) := dk_172 (dk_at dksX6_recurs_2 17 rfl rfl)
theorem dX6_recurs_66 : decode cX6_recurs 66 = .ok (.iinc 3 1, 3) := dk_132 3 1 (dk_at dksX6_recurs_2 18 rfl rfl)
theorem dX6_recurs_69 : decode cX6_recurs 69 = .ok (.goto (-32), 3) := dk_167 255 224 (dk_at dksX6_recurs_2 21 rfl rfl)
theorem dX6_recurs_72 : decode cX6_recurs 72 = .ok (.iconst (-1), 1) := dk_2 (dk_at dksX6_recurs_3 0 rfl rfl)
theorem dX6_recurs_73 : decode cX6_recurs 73 = .ok (.ireturn, 1) := dk_172 (dk_at dksX6_recurs_3 1 rfl rfl)
abbrev cX6_isBack : ByteArray := prog_25_method_106_code
def yX6_isBack : MethodName := ⟨RX6, "isBack", "(Z)Z"⟩
def dkwX6_isBack_5 : List UInt8 := [167, 255, 143, 3, 172]
abbrev dktX6_isBack_5 : List UInt8 := dkwX6_isBack_5 ++ []
def dkwX6_isBack_4 : List UInt8 := [6, 28, 100, 29, 100, 184, 1, 163, 153, 0, 5, 4, 172, 132, 3, 1, 167, 255, 156, 132, 2, 1]
abbrev dktX6_isBack_4 : List UInt8 := dkwX6_isBack_4 ++ dktX6_isBack_5
def dkwX6_isBack_3 : List UInt8 := [180, 0, 13, 4, 42, 180, 0, 7, 29, 184, 1, 163, 153, 0, 25, 42, 180, 0, 13, 5, 42, 180, 0, 7]
abbrev dktX6_isBack_3 : List UInt8 := dkwX6_isBack_3 ++ dktX6_isBack_4
def dkwX6_isBack_2 : List UInt8 := [21, 4, 153, 0, 57, 42, 180, 0, 13, 3, 42, 180, 0, 7, 28, 184, 1, 163, 153, 0, 41, 42]
abbrev dktX6_isBack_2 : List UInt8 := dkwX6_isBack_2 ++ dktX6_isBack_3
def dkwX6_isBack_1 : List UInt8 := [167, 0, 21, 3, 167, 0, 17, 28, 154, 0, 12, 29, 4, 160, 0, 7, 4, 167, 0, 4, 3, 54, 4]
abbrev dktX6_isBack_1 : List UInt8 := dkwX6_isBack_1 ++ dktX6_isBack_2
def dkwX6_isBack_0 : List UInt8 := [3, 61, 28, 6, 162, 0, 114, 3, 62, 29, 6, 162, 0, 101, 27, 153, 0, 16, 28, 29, 159, 0, 7, 4]
abbrev dktX6_isBack_0 : List UInt8 := dkwX6_isBack_0 ++ dktX6_isBack_1
theorem dksX6_isBack_0 : cX6_isBack.data.toList.drop 0 = dktX6_isBack_0 := by decide +kernel
theorem dksX6_isBack_1 : cX6_isBack.data.toList.drop 24 = dktX6_isBack_1 := dk_seg dksX6_isBack_0 24 rfl rfl
theorem dksX6_isBack_2 : cX6_isBack.data.toList.drop 47 = dktX6_isBack_2 := dk_seg dksX6_isBack_1 23 rfl rfl
theorem dksX6_isBack_3 : cX6_isBack.data.toList.drop 69 = dktX6_isBack_3 := dk_seg dksX6_isBack_2 22 rfl rfl
theorem dksX6_isBack_4 : cX6_isBack.data.toList.drop 93 = dktX6_isBack_4 := dk_seg dksX6_isBack_3 24 rfl rfl
theorem dksX6_isBack_5 : cX6_isBack.data.toList.drop 115 = dktX6_isBack_5 := dk_seg dksX6_isBack_4 22 rfl rfl
theorem dX6_isBack_0 : decode cX6_isBack 0 = .ok (.iconst 0, 1) := dk_3 (dk_at dksX6_isBack_0 0 rfl rfl)
theorem dX6_isBack_1 : decode cX6_isBack 1 = .ok (.istore_n 2, 1) := dk_61 (dk_at dksX6_isBack_0 1 rfl rfl)
theorem dX6_isBack_2 : decode cX6_isBack 2 = .ok (.iload_n 2, 1) := dk_28 (dk_at dksX6_isBack_0 2 rfl rfl)
theorem dX6_isBack_3 : decode cX6_isBack 3 = .ok (.iconst 3, 1) := dk_6 (dk_at dksX6_isBack_0 3 rfl rfl)
theorem dX6_isBack_4 : decode cX6_isBack 4 = .ok (.if_icmp .ge 114, 3) := dk_162 0 114 (dk_at dksX6_isBack_0 4 rfl rfl)
theorem dX6_isBack_7 : decode cX6_isBack 7 = .ok (.iconst 0, 1) := dk_3 (dk_at dksX6_isBack_0 7 rfl rfl)
theorem dX6_isBack_8 : decode cX6_isBack 8 = .ok (.istore_n 3, 1) := dk_62 (dk_at dksX6_isBack_0 8 rfl rfl)
theorem dX6_isBack_9 : decode cX6_isBack 9 = .ok (.iload_n 3, 1) := dk_29 (dk_at dksX6_isBack_0 9 rfl rfl)
theorem dX6_isBack_10 : decode cX6_isBack 10 = .ok (.iconst 3, 1) := dk_6 (dk_at dksX6_isBack_0 10 rfl rfl)
theorem dX6_isBack_11 : decode cX6_isBack 11 = .ok (.if_icmp .ge 101, 3) := dk_162 0 101 (dk_at dksX6_isBack_0 11 rfl rfl)
theorem dX6_isBack_14 : decode cX6_isBack 14 = .ok (.iload_n 1, 1) := dk_27 (dk_at dksX6_isBack_0 14 rfl rfl)
theorem dX6_isBack_15 : decode cX6_isBack 15 = .ok (.ifCond .eq 16, 3) := dk_153 0 16 (dk_at dksX6_isBack_0 15 rfl rfl)
theorem dX6_isBack_18 : decode cX6_isBack 18 = .ok (.iload_n 2, 1) := dk_28 (dk_at dksX6_isBack_0 18 rfl rfl)
theorem dX6_isBack_19 : decode cX6_isBack 19 = .ok (.iload_n 3, 1) := dk_29 (dk_at dksX6_isBack_0 19 rfl rfl)
theorem dX6_isBack_20 : decode cX6_isBack 20 = .ok (.if_icmp .eq 7, 3) := dk_159 0 7 (dk_at dksX6_isBack_0 20 rfl rfl)
theorem dX6_isBack_23 : decode cX6_isBack 23 = .ok (.iconst 1, 1) := dk_4 (dk_at dksX6_isBack_0 23 rfl rfl)
theorem dX6_isBack_24 : decode cX6_isBack 24 = .ok (.goto 21, 3) := dk_167 0 21 (dk_at dksX6_isBack_1 0 rfl rfl)
theorem dX6_isBack_27 : decode cX6_isBack 27 = .ok (.iconst 0, 1) := dk_3 (dk_at dksX6_isBack_1 3 rfl rfl)
theorem dX6_isBack_28 : decode cX6_isBack 28 = .ok (.goto 17, 3) := dk_167 0 17 (dk_at dksX6_isBack_1 4 rfl rfl)
theorem dX6_isBack_31 : decode cX6_isBack 31 = .ok (.iload_n 2, 1) := dk_28 (dk_at dksX6_isBack_1 7 rfl rfl)
theorem dX6_isBack_32 : decode cX6_isBack 32 = .ok (.ifCond .ne 12, 3) := dk_154 0 12 (dk_at dksX6_isBack_1 8 rfl rfl)
theorem dX6_isBack_35 : decode cX6_isBack 35 = .ok (.iload_n 3, 1) := dk_29 (dk_at dksX6_isBack_1 11 rfl rfl)
theorem dX6_isBack_36 : decode cX6_isBack 36 = .ok (.iconst 1, 1) := dk_4 (dk_at dksX6_isBack_1 12 rfl rfl)
theorem dX6_isBack_37 : decode cX6_isBack 37 = .ok (.if_icmp .ne 7, 3) := dk_160 0 7 (dk_at dksX6_isBack_1 13 rfl rfl)
theorem dX6_isBack_40 : decode cX6_isBack 40 = .ok (.iconst 1, 1) := dk_4 (dk_at dksX6_isBack_1 16 rfl rfl)
theorem dX6_isBack_41 : decode cX6_isBack 41 = .ok (.goto 4, 3) := dk_167 0 4 (dk_at dksX6_isBack_1 17 rfl rfl)
theorem dX6_isBack_44 : decode cX6_isBack 44 = .ok (.iconst 0, 1) := dk_3 (dk_at dksX6_isBack_1 20 rfl rfl)
theorem dX6_isBack_45 : decode cX6_isBack 45 = .ok (.istore 4, 2) := dk_54 4 (dk_at dksX6_isBack_1 21 rfl rfl)
theorem dX6_isBack_47 : decode cX6_isBack 47 = .ok (.iload 4, 2) := dk_21 4 (dk_at dksX6_isBack_2 0 rfl rfl)
theorem dX6_isBack_49 : decode cX6_isBack 49 = .ok (.ifCond .eq 57, 3) := dk_153 0 57 (dk_at dksX6_isBack_2 2 rfl rfl)
theorem dX6_isBack_52 : decode cX6_isBack 52 = .ok (.aload_n 0, 1) := dk_42 (dk_at dksX6_isBack_2 5 rfl rfl)
theorem dX6_isBack_53 : decode cX6_isBack 53 = .ok (.getfield 13, 3) := dk_180 0 13 (dk_at dksX6_isBack_2 6 rfl rfl)
theorem dX6_isBack_56 : decode cX6_isBack 56 = .ok (.iconst 0, 1) := dk_3 (dk_at dksX6_isBack_2 9 rfl rfl)
theorem dX6_isBack_57 : decode cX6_isBack 57 = .ok (.aload_n 0, 1) := dk_42 (dk_at dksX6_isBack_2 10 rfl rfl)
theorem dX6_isBack_58 : decode cX6_isBack 58 = .ok (.getfield 7, 3) := dk_180 0 7 (dk_at dksX6_isBack_2 11 rfl rfl)
theorem dX6_isBack_61 : decode cX6_isBack 61 = .ok (.iload_n 2, 1) := dk_28 (dk_at dksX6_isBack_2 14 rfl rfl)
theorem dX6_isBack_62 : decode cX6_isBack 62 = .ok (.invokestatic 419, 3) := dk_184 1 163 (dk_at dksX6_isBack_2 15 rfl rfl)
theorem dX6_isBack_65 : decode cX6_isBack 65 = .ok (.ifCond .eq 41, 3) := dk_153 0 41 (dk_at dksX6_isBack_2 18 rfl rfl)
theorem dX6_isBack_68 : decode cX6_isBack 68 = .ok (.aload_n 0, 1) := dk_42 (dk_at dksX6_isBack_2 21 rfl rfl)
theorem dX6_isBack_69 : decode cX6_isBack 69 = .ok (.getfield 13, 3) := dk_180 0 13 (dk_at dksX6_isBack_3 0 rfl rfl)
theorem dX6_isBack_72 : decode cX6_isBack 72 = .ok (.iconst 1, 1) := dk_4 (dk_at dksX6_isBack_3 3 rfl rfl)
theorem dX6_isBack_73 : decode cX6_isBack 73 = .ok (.aload_n 0, 1) := dk_42 (dk_at dksX6_isBack_3 4 rfl rfl)
theorem dX6_isBack_74 : decode cX6_isBack 74 = .ok (.getfield 7, 3) := dk_180 0 7 (dk_at dksX6_isBack_3 5 rfl rfl)
theorem dX6_isBack_77 : decode cX6_isBack 77 = .ok (.iload_n 3, 1) := dk_29 (dk_at dksX6_isBack_3 8 rfl rfl)
theorem dX6_isBack_78 : decode cX6_isBack 78 = .ok (.invokestatic 419, 3) := dk_184 1 163 (dk_at dksX6_isBack_3 9 rfl rfl)
theorem dX6_isBack_81 : decode cX6_isBack 81 = .ok (.ifCond .eq 25, 3) := dk_153 0 25 (dk_at dksX6_isBack_3 12 rfl rfl)
theorem dX6_isBack_84 : decode cX6_isBack 84 = .ok (.aload_n 0, 1) := dk_42 (dk_at dksX6_isBack_3 15 rfl rfl)
theorem dX6_isBack_85 : decode cX6_isBack 85 = .ok (.getfield 13, 3) := dk_180 0 13 (dk_at dksX6_isBack_3 16 rfl rfl)
theorem dX6_isBack_88 : decode cX6_isBack 88 = .ok (.iconst 2, 1) := dk_5 (dk_at dksX6_isBack_3 19 rfl rfl)
theorem dX6_isBack_89 : decode cX6_isBack 89 = .ok (.aload_n 0, 1) := dk_42 (dk_at dksX6_isBack_3 20 rfl rfl)
theorem dX6_isBack_90 : decode cX6_isBack 90 = .ok (.getfield 7, 3) := dk_180 0 7 (dk_at dksX6_isBack_3 21 rfl rfl)
theorem dX6_isBack_93 : decode cX6_isBack 93 = .ok (.iconst 3, 1) := dk_6 (dk_at dksX6_isBack_4 0 rfl rfl)
theorem dX6_isBack_94 : decode cX6_isBack 94 = .ok (.iload_n 2, 1) := dk_28 (dk_at dksX6_isBack_4 1 rfl rfl)
theorem dX6_isBack_95 : decode cX6_isBack 95 = .ok (.isub, 1) := dk_100 (dk_at dksX6_isBack_4 2 rfl rfl)
theorem dX6_isBack_96 : decode cX6_isBack 96 = .ok (.iload_n 3, 1) := dk_29 (dk_at dksX6_isBack_4 3 rfl rfl)
theorem dX6_isBack_97 : decode cX6_isBack 97 = .ok (.isub, 1) := dk_100 (dk_at dksX6_isBack_4 4 rfl rfl)
theorem dX6_isBack_98 : decode cX6_isBack 98 = .ok (.invokestatic 419, 3) := dk_184 1 163 (dk_at dksX6_isBack_4 5 rfl rfl)
theorem dX6_isBack_101 : decode cX6_isBack 101 = .ok (.ifCond .eq 5, 3) := dk_153 0 5 (dk_at dksX6_isBack_4 8 rfl rfl)
theorem dX6_isBack_104 : decode cX6_isBack 104 = .ok (.iconst 1, 1) := dk_4 (dk_at dksX6_isBack_4 11 rfl rfl)
theorem dX6_isBack_105 : decode cX6_isBack 105 = .ok (.ireturn, 1) := dk_172 (dk_at dksX6_isBack_4 12 rfl rfl)
theorem dX6_isBack_106 : decode cX6_isBack 106 = .ok (.iinc 3 1, 3) := dk_132 3 1 (dk_at dksX6_isBack_4 13 rfl rfl)
theorem dX6_isBack_109 : decode cX6_isBack 109 = .ok (.goto (-100), 3) := dk_167 255 156 (dk_at dksX6_isBack_4 16 rfl rfl)
theorem dX6_isBack_112 : decode cX6_isBack 112 = .ok (.iinc 2 1, 3) := dk_132 2 1 (dk_at dksX6_isBack_4 19 rfl rfl)
theorem dX6_isBack_115 : decode cX6_isBack 115 = .ok (.goto (-113), 3) := dk_167 255 143 (dk_at dksX6_isBack_5 0 rfl rfl)
theorem dX6_isBack_118 : decode cX6_isBack 118 = .ok (.iconst 0, 1) := dk_3 (dk_at dksX6_isBack_5 3 rfl rfl)
theorem dX6_isBack_119 : decode cX6_isBack 119 = .ok (.ireturn, 1) := dk_172 (dk_at dksX6_isBack_5 4 rfl rfl)
abbrev cX6_isLike : ByteArray := prog_25_method_105_code
def yX6_isLike : MethodName := ⟨RX6, "isLike", "([JI[JI)Z"⟩
def dkwX6_isLike_1 : List UInt8 := [47, 148, 153, 0, 5, 3, 172, 132, 4, 1, 167, 255, 225, 4, 172]
abbrev dktX6_isLike_1 : List UInt8 := dkwX6_isLike_1 ++ []
def dkwX6_isLike_0 : List UInt8 := [3, 54, 4, 21, 4, 8, 162, 0, 31, 42, 27, 21, 4, 184, 0, 79, 47, 44, 29, 21, 4, 184, 0, 79]
abbrev dktX6_isLike_0 : List UInt8 := dkwX6_isLike_0 ++ dktX6_isLike_1
theorem dksX6_isLike_0 : cX6_isLike.data.toList.drop 0 = dktX6_isLike_0 := by decide +kernel
theorem dksX6_isLike_1 : cX6_isLike.data.toList.drop 24 = dktX6_isLike_1 := dk_seg dksX6_isLike_0 24 rfl rfl
theorem dX6_isLike_0 : decode cX6_isLike 0 = .ok (.iconst 0, 1) := dk_3 (dk_at dksX6_isLike_0 0 rfl rfl)
theorem dX6_isLike_1 : decode cX6_isLike 1 = .ok (.istore 4, 2) := dk_54 4 (dk_at dksX6_isLike_0 1 rfl rfl)
theorem dX6_isLike_3 : decode cX6_isLike 3 = .ok (.iload 4, 2) := dk_21 4 (dk_at dksX6_isLike_0 3 rfl rfl)
theorem dX6_isLike_5 : decode cX6_isLike 5 = .ok (.iconst 5, 1) := dk_8 (dk_at dksX6_isLike_0 5 rfl rfl)
theorem dX6_isLike_6 : decode cX6_isLike 6 = .ok (.if_icmp .ge 31, 3) := dk_162 0 31 (dk_at dksX6_isLike_0 6 rfl rfl)
theorem dX6_isLike_9 : decode cX6_isLike 9 = .ok (.aload_n 0, 1) := dk_42 (dk_at dksX6_isLike_0 9 rfl rfl)
theorem dX6_isLike_10 : decode cX6_isLike 10 = .ok (.iload_n 1, 1) := dk_27 (dk_at dksX6_isLike_0 10 rfl rfl)
theorem dX6_isLike_11 : decode cX6_isLike 11 = .ok (.iload 4, 2) := dk_21 4 (dk_at dksX6_isLike_0 11 rfl rfl)
theorem dX6_isLike_13 : decode cX6_isLike 13 = .ok (.invokestatic 79, 3) := dk_184 0 79 (dk_at dksX6_isLike_0 13 rfl rfl)
theorem dX6_isLike_16 : decode cX6_isLike 16 = .ok (.laload, 1) := dk_47 (dk_at dksX6_isLike_0 16 rfl rfl)
theorem dX6_isLike_17 : decode cX6_isLike 17 = .ok (.aload_n 2, 1) := dk_44 (dk_at dksX6_isLike_0 17 rfl rfl)
theorem dX6_isLike_18 : decode cX6_isLike 18 = .ok (.iload_n 3, 1) := dk_29 (dk_at dksX6_isLike_0 18 rfl rfl)
theorem dX6_isLike_19 : decode cX6_isLike 19 = .ok (.iload 4, 2) := dk_21 4 (dk_at dksX6_isLike_0 19 rfl rfl)
theorem dX6_isLike_21 : decode cX6_isLike 21 = .ok (.invokestatic 79, 3) := dk_184 0 79 (dk_at dksX6_isLike_0 21 rfl rfl)
theorem dX6_isLike_24 : decode cX6_isLike 24 = .ok (.laload, 1) := dk_47 (dk_at dksX6_isLike_1 0 rfl rfl)
theorem dX6_isLike_25 : decode cX6_isLike 25 = .ok (.lcmp, 1) := dk_148 (dk_at dksX6_isLike_1 1 rfl rfl)
theorem dX6_isLike_26 : decode cX6_isLike 26 = .ok (.ifCond .eq 5, 3) := dk_153 0 5 (dk_at dksX6_isLike_1 2 rfl rfl)
theorem dX6_isLike_29 : decode cX6_isLike 29 = .ok (.iconst 0, 1) := dk_3 (dk_at dksX6_isLike_1 5 rfl rfl)
theorem dX6_isLike_30 : decode cX6_isLike 30 = .ok (.ireturn, 1) := dk_172 (dk_at dksX6_isLike_1 6 rfl rfl)
theorem dX6_isLike_31 : decode cX6_isLike 31 = .ok (.iinc 4 1, 3) := dk_132 4 1 (dk_at dksX6_isLike_1 7 rfl rfl)
theorem dX6_isLike_34 : decode cX6_isLike 34 = .ok (.goto (-31), 3) := dk_167 255 225 (dk_at dksX6_isLike_1 10 rfl rfl)
theorem dX6_isLike_37 : decode cX6_isLike 37 = .ok (.iconst 1, 1) := dk_4 (dk_at dksX6_isLike_1 13 rfl rfl)
theorem dX6_isLike_38 : decode cX6_isLike 38 = .ok (.ireturn, 1) := dk_172 (dk_at dksX6_isLike_1 14 rfl rfl)
abbrev cX6_cellCount : ByteArray := prog_25_method_109_code
def yX6_cellCount : MethodName := ⟨RX6, "cellCount", "(III)I"⟩
def dkwX6_cellCount_2 : List UInt8 := [3, 172, 42, 27, 28, 29, 182, 1, 174, 153, 0, 10, 42, 180, 1, 171, 167, 0, 4, 2, 172]
abbrev dktX6_cellCount_2 : List UInt8 := dkwX6_cellCount_2 ++ []
def dkwX6_cellCount_1 : List UInt8 := [20, 0, 83, 20, 0, 230, 184, 0, 183, 153, 0, 7, 4, 167, 0, 4, 3, 5, 182, 0, 236, 153, 0, 5]
abbrev dktX6_cellCount_1 : List UInt8 := dkwX6_cellCount_1 ++ dktX6_cellCount_2
def dkwX6_cellCount_0 : List UInt8 := [42, 27, 182, 1, 69, 154, 0, 42, 42, 28, 133, 9, 20, 1, 138, 184, 0, 183, 153, 0, 21, 29, 133]
abbrev dktX6_cellCount_0 : List UInt8 := dkwX6_cellCount_0 ++ dktX6_cellCount_1
theorem dksX6_cellCount_0 : cX6_cellCount.data.toList.drop 0 = dktX6_cellCount_0 := by decide +kernel
theorem dksX6_cellCount_1 : cX6_cellCount.data.toList.drop 23 = dktX6_cellCount_1 := dk_seg dksX6_cellCount_0 23 rfl rfl
theorem dksX6_cellCount_2 : cX6_cellCount.data.toList.drop 47 = dktX6_cellCount_2 := dk_seg dksX6_cellCount_1 24 rfl rfl
theorem dX6_cellCount_0 : decode cX6_cellCount 0 = .ok (.aload_n 0, 1) := dk_42 (dk_at dksX6_cellCount_0 0 rfl rfl)
theorem dX6_cellCount_1 : decode cX6_cellCount 1 = .ok (.iload_n 1, 1) := dk_27 (dk_at dksX6_cellCount_0 1 rfl rfl)
theorem dX6_cellCount_2 : decode cX6_cellCount 2 = .ok (.invokevirtual 325, 3) := dk_182 1 69 (dk_at dksX6_cellCount_0 2 rfl rfl)
theorem dX6_cellCount_5 : decode cX6_cellCount 5 = .ok (.ifCond .ne 42, 3) := dk_154 0 42 (dk_at dksX6_cellCount_0 5 rfl rfl)
theorem dX6_cellCount_8 : decode cX6_cellCount 8 = .ok (.aload_n 0, 1) := dk_42 (dk_at dksX6_cellCount_0 8 rfl rfl)
theorem dX6_cellCount_9 : decode cX6_cellCount 9 = .ok (.iload_n 2, 1) := dk_28 (dk_at dksX6_cellCount_0 9 rfl rfl)
theorem dX6_cellCount_10 : decode cX6_cellCount 10 = .ok (.i2l, 1) := dk_133 (dk_at dksX6_cellCount_0 10 rfl rfl)
theorem dX6_cellCount_11 : decode cX6_cellCount 11 = .ok (.lconst 0, 1) := dk_9 (dk_at dksX6_cellCount_0 11 rfl rfl)
theorem dX6_cellCount_12 : decode cX6_cellCount 12 = .ok (.ldc2_w 394, 3) := dk_20 1 138 (dk_at dksX6_cellCount_0 12 rfl rfl)
theorem dX6_cellCount_15 : decode cX6_cellCount 15 = .ok (.invokestatic 183, 3) := dk_184 0 183 (dk_at dksX6_cellCount_0 15 rfl rfl)
theorem dX6_cellCount_18 : decode cX6_cellCount 18 = .ok (.ifCond .eq 21, 3) := dk_153 0 21 (dk_at dksX6_cellCount_0 18 rfl rfl)
theorem dX6_cellCount_21 : decode cX6_cellCount 21 = .ok (.iload_n 3, 1) := dk_29 (dk_at dksX6_cellCount_0 21 rfl rfl)
theorem dX6_cellCount_22 : decode cX6_cellCount 22 = .ok (.i2l, 1) := dk_133 (dk_at dksX6_cellCount_0 22 rfl rfl)
theorem dX6_cellCount_23 : decode cX6_cellCount 23 = .ok (.ldc2_w 83, 3) := dk_20 0 83 (dk_at dksX6_cellCount_1 0 rfl rfl)
theorem dX6_cellCount_26 : decode cX6_cellCount 26 = .ok (.ldc2_w 230, 3) := dk_20 0 230 (dk_at dksX6_cellCount_1 3 rfl rfl)
theorem dX6_cellCount_29 : decode cX6_cellCount 29 = .ok (.invokestatic 183, 3) := dk_184 0 183 (dk_at dksX6_cellCount_1 6 rfl rfl)
theorem dX6_cellCount_32 : decode cX6_cellCount 32 = .ok (.ifCond .eq 7, 3) := dk_153 0 7 (dk_at dksX6_cellCount_1 9 rfl rfl)
theorem dX6_cellCount_35 : decode cX6_cellCount 35 = .ok (.iconst 1, 1) := dk_4 (dk_at dksX6_cellCount_1 12 rfl rfl)
theorem dX6_cellCount_36 : decode cX6_cellCount 36 = .ok (.goto 4, 3) := dk_167 0 4 (dk_at dksX6_cellCount_1 13 rfl rfl)
theorem dX6_cellCount_39 : decode cX6_cellCount 39 = .ok (.iconst 0, 1) := dk_3 (dk_at dksX6_cellCount_1 16 rfl rfl)
theorem dX6_cellCount_40 : decode cX6_cellCount 40 = .ok (.iconst 2, 1) := dk_5 (dk_at dksX6_cellCount_1 17 rfl rfl)
theorem dX6_cellCount_41 : decode cX6_cellCount 41 = .ok (.invokevirtual 236, 3) := dk_182 0 236 (dk_at dksX6_cellCount_1 18 rfl rfl)
theorem dX6_cellCount_44 : decode cX6_cellCount 44 = .ok (.ifCond .eq 5, 3) := dk_153 0 5 (dk_at dksX6_cellCount_1 21 rfl rfl)
theorem dX6_cellCount_47 : decode cX6_cellCount 47 = .ok (.iconst 0, 1) := dk_3 (dk_at dksX6_cellCount_2 0 rfl rfl)
theorem dX6_cellCount_48 : decode cX6_cellCount 48 = .ok (.ireturn, 1) := dk_172 (dk_at dksX6_cellCount_2 1 rfl rfl)
theorem dX6_cellCount_49 : decode cX6_cellCount 49 = .ok (.aload_n 0, 1) := dk_42 (dk_at dksX6_cellCount_2 2 rfl rfl)
theorem dX6_cellCount_50 : decode cX6_cellCount 50 = .ok (.iload_n 1, 1) := dk_27 (dk_at dksX6_cellCount_2 3 rfl rfl)
theorem dX6_cellCount_51 : decode cX6_cellCount 51 = .ok (.iload_n 2, 1) := dk_28 (dk_at dksX6_cellCount_2 4 rfl rfl)
theorem dX6_cellCount_52 : decode cX6_cellCount 52 = .ok (.iload_n 3, 1) := dk_29 (dk_at dksX6_cellCount_2 5 rfl rfl)
theorem dX6_cellCount_53 : decode cX6_cellCount 53 = .ok (.invokevirtual 430, 3) := dk_182 1 174 (dk_at dksX6_cellCount_2 6 rfl rfl)
theorem dX6_cellCount_56 : decode cX6_cellCount 56 = .ok (.ifCond .eq 10, 3) := dk_153 0 10 (dk_at dksX6_cellCount_2 9 rfl rfl)
theorem dX6_cellCount_59 : decode cX6_cellCount 59 = .ok (.aload_n 0, 1) := dk_42 (dk_at dksX6_cellCount_2 12 rfl rfl)
theorem dX6_cellCount_60 : decode cX6_cellCount 60 = .ok (.getfield 427, 3) := dk_180 1 171 (dk_at dksX6_cellCount_2 13 rfl rfl)
theorem dX6_cellCount_63 : decode cX6_cellCount 63 = .ok (.goto 4, 3) := dk_167 0 4 (dk_at dksX6_cellCount_2 16 rfl rfl)
theorem dX6_cellCount_66 : decode cX6_cellCount 66 = .ok (.iconst (-1), 1) := dk_2 (dk_at dksX6_cellCount_2 19 rfl rfl)
theorem dX6_cellCount_67 : decode cX6_cellCount 67 = .ok (.ireturn, 1) := dk_172 (dk_at dksX6_cellCount_2 20 rfl rfl)
abbrev cX6_laysCells : ByteArray := prog_25_method_108_code
def yX6_laysCells : MethodName := ⟨RX6, "laysCells", "(III)Z"⟩
def dkwX6_laysCells_7 : List UInt8 := [167, 255, 119, 4, 172]
abbrev dktX6_laysCells_7 : List UInt8 := dkwX6_laysCells_7 ++ []
def dkwX6_laysCells_6 : List UInt8 := [180, 1, 171, 4, 96, 181, 1, 171, 42, 180, 0, 60, 21, 9, 92, 46, 4, 96, 79, 132, 4, 1]
abbrev dktX6_laysCells_6 : List UInt8 := dkwX6_laysCells_6 ++ dktX6_laysCells_7
def dkwX6_laysCells_5 : List UInt8 := [22, 5, 80, 42, 180, 0, 57, 21, 9, 22, 7, 80, 42, 180, 0, 60, 21, 9, 3, 79, 42, 89]
abbrev dktX6_laysCells_5 : List UInt8 := dkwX6_laysCells_5 ++ dktX6_laysCells_6
def dkwX6_laysCells_4 : List UInt8 := [153, 0, 9, 132, 9, 1, 167, 255, 218, 21, 9, 42, 180, 1, 171, 160, 0, 39, 42, 180, 0, 54, 21, 9]
abbrev dktX6_laysCells_4 : List UInt8 := dkwX6_laysCells_4 ++ dktX6_laysCells_5
def dkwX6_laysCells_3 : List UInt8 := [180, 0, 54, 21, 9, 47, 22, 5, 148, 154, 0, 16, 42, 180, 0, 57, 21, 9, 47, 22, 7, 148]
abbrev dktX6_laysCells_3 : List UInt8 := dkwX6_laysCells_3 ++ dktX6_laysCells_4
def dkwX6_laysCells_2 : List UInt8 := [182, 1, 108, 29, 133, 184, 1, 18, 55, 7, 3, 54, 9, 21, 9, 42, 180, 1, 171, 162, 0, 35, 42]
abbrev dktX6_laysCells_2 : List UInt8 := dkwX6_laysCells_2 ++ dktX6_laysCells_3
def dkwX6_laysCells_1 : List UInt8 := [21, 4, 28, 163, 0, 137, 42, 21, 4, 27, 182, 1, 104, 29, 133, 184, 1, 18, 55, 5, 42, 21, 4, 27]
abbrev dktX6_laysCells_1 : List UInt8 := dkwX6_laysCells_1 ++ dktX6_laysCells_2
def dkwX6_laysCells_0 : List UInt8 := [42, 3, 181, 1, 171, 42, 42, 180, 0, 7, 28, 182, 1, 127, 28, 162, 0, 5, 3, 172, 3, 54, 4]
abbrev dktX6_laysCells_0 : List UInt8 := dkwX6_laysCells_0 ++ dktX6_laysCells_1
theorem dksX6_laysCells_0 : cX6_laysCells.data.toList.drop 0 = dktX6_laysCells_0 := by decide +kernel
theorem dksX6_laysCells_1 : cX6_laysCells.data.toList.drop 23 = dktX6_laysCells_1 := dk_seg dksX6_laysCells_0 23 rfl rfl
theorem dksX6_laysCells_2 : cX6_laysCells.data.toList.drop 47 = dktX6_laysCells_2 := dk_seg dksX6_laysCells_1 24 rfl rfl
theorem dksX6_laysCells_3 : cX6_laysCells.data.toList.drop 70 = dktX6_laysCells_3 := dk_seg dksX6_laysCells_2 23 rfl rfl
theorem dksX6_laysCells_4 : cX6_laysCells.data.toList.drop 92 = dktX6_laysCells_4 := dk_seg dksX6_laysCells_3 22 rfl rfl
theorem dksX6_laysCells_5 : cX6_laysCells.data.toList.drop 116 = dktX6_laysCells_5 := dk_seg dksX6_laysCells_4 24 rfl rfl
theorem dksX6_laysCells_6 : cX6_laysCells.data.toList.drop 138 = dktX6_laysCells_6 := dk_seg dksX6_laysCells_5 22 rfl rfl
theorem dksX6_laysCells_7 : cX6_laysCells.data.toList.drop 160 = dktX6_laysCells_7 := dk_seg dksX6_laysCells_6 22 rfl rfl
theorem dX6_laysCells_0 : decode cX6_laysCells 0 = .ok (.aload_n 0, 1) := dk_42 (dk_at dksX6_laysCells_0 0 rfl rfl)
theorem dX6_laysCells_1 : decode cX6_laysCells 1 = .ok (.iconst 0, 1) := dk_3 (dk_at dksX6_laysCells_0 1 rfl rfl)
theorem dX6_laysCells_2 : decode cX6_laysCells 2 = .ok (.putfield 427, 3) := dk_181 1 171 (dk_at dksX6_laysCells_0 2 rfl rfl)
theorem dX6_laysCells_5 : decode cX6_laysCells 5 = .ok (.aload_n 0, 1) := dk_42 (dk_at dksX6_laysCells_0 5 rfl rfl)
theorem dX6_laysCells_6 : decode cX6_laysCells 6 = .ok (.aload_n 0, 1) := dk_42 (dk_at dksX6_laysCells_0 6 rfl rfl)
theorem dX6_laysCells_7 : decode cX6_laysCells 7 = .ok (.getfield 7, 3) := dk_180 0 7 (dk_at dksX6_laysCells_0 7 rfl rfl)
theorem dX6_laysCells_10 : decode cX6_laysCells 10 = .ok (.iload_n 2, 1) := dk_28 (dk_at dksX6_laysCells_0 10 rfl rfl)
theorem dX6_laysCells_11 : decode cX6_laysCells 11 = .ok (.invokevirtual 383, 3) := dk_182 1 127 (dk_at dksX6_laysCells_0 11 rfl rfl)
theorem dX6_laysCells_14 : decode cX6_laysCells 14 = .ok (.iload_n 2, 1) := dk_28 (dk_at dksX6_laysCells_0 14 rfl rfl)
theorem dX6_laysCells_15 : decode cX6_laysCells 15 = .ok (.if_icmp .ge 5, 3) := dk_162 0 5 (dk_at dksX6_laysCells_0 15 rfl rfl)
theorem dX6_laysCells_18 : decode cX6_laysCells 18 = .ok (.iconst 0, 1) := dk_3 (dk_at dksX6_laysCells_0 18 rfl rfl)
theorem dX6_laysCells_19 : decode cX6_laysCells 19 = .ok (.ireturn, 1) := dk_172 (dk_at dksX6_laysCells_0 19 rfl rfl)
theorem dX6_laysCells_20 : decode cX6_laysCells 20 = .ok (.iconst 0, 1) := dk_3 (dk_at dksX6_laysCells_0 20 rfl rfl)
theorem dX6_laysCells_21 : decode cX6_laysCells 21 = .ok (.istore 4, 2) := dk_54 4 (dk_at dksX6_laysCells_0 21 rfl rfl)
theorem dX6_laysCells_23 : decode cX6_laysCells 23 = .ok (.iload 4, 2) := dk_21 4 (dk_at dksX6_laysCells_1 0 rfl rfl)
theorem dX6_laysCells_25 : decode cX6_laysCells 25 = .ok (.iload_n 2, 1) := dk_28 (dk_at dksX6_laysCells_1 2 rfl rfl)
theorem dX6_laysCells_26 : decode cX6_laysCells 26 = .ok (.if_icmp .gt 137, 3) := dk_163 0 137 (dk_at dksX6_laysCells_1 3 rfl rfl)
theorem dX6_laysCells_29 : decode cX6_laysCells 29 = .ok (.aload_n 0, 1) := dk_42 (dk_at dksX6_laysCells_1 6 rfl rfl)
theorem dX6_laysCells_30 : decode cX6_laysCells 30 = .ok (.iload 4, 2) := dk_21 4 (dk_at dksX6_laysCells_1 7 rfl rfl)
theorem dX6_laysCells_32 : decode cX6_laysCells 32 = .ok (.iload_n 1, 1) := dk_27 (dk_at dksX6_laysCells_1 9 rfl rfl)
theorem dX6_laysCells_33 : decode cX6_laysCells 33 = .ok (.invokevirtual 360, 3) := dk_182 1 104 (dk_at dksX6_laysCells_1 10 rfl rfl)
theorem dX6_laysCells_36 : decode cX6_laysCells 36 = .ok (.iload_n 3, 1) := dk_29 (dk_at dksX6_laysCells_1 13 rfl rfl)
theorem dX6_laysCells_37 : decode cX6_laysCells 37 = .ok (.i2l, 1) := dk_133 (dk_at dksX6_laysCells_1 14 rfl rfl)
theorem dX6_laysCells_38 : decode cX6_laysCells 38 = .ok (.invokestatic 274, 3) := dk_184 1 18 (dk_at dksX6_laysCells_1 15 rfl rfl)
theorem dX6_laysCells_41 : decode cX6_laysCells 41 = .ok (.lstore 5, 2) := dk_55 5 (dk_at dksX6_laysCells_1 18 rfl rfl)
theorem dX6_laysCells_43 : decode cX6_laysCells 43 = .ok (.aload_n 0, 1) := dk_42 (dk_at dksX6_laysCells_1 20 rfl rfl)
theorem dX6_laysCells_44 : decode cX6_laysCells 44 = .ok (.iload 4, 2) := dk_21 4 (dk_at dksX6_laysCells_1 21 rfl rfl)
theorem dX6_laysCells_46 : decode cX6_laysCells 46 = .ok (.iload_n 1, 1) := dk_27 (dk_at dksX6_laysCells_1 23 rfl rfl)
theorem dX6_laysCells_47 : decode cX6_laysCells 47 = .ok (.invokevirtual 364, 3) := dk_182 1 108 (dk_at dksX6_laysCells_2 0 rfl rfl)
theorem dX6_laysCells_50 : decode cX6_laysCells 50 = .ok (.iload_n 3, 1) := dk_29 (dk_at dksX6_laysCells_2 3 rfl rfl)
theorem dX6_laysCells_51 : decode cX6_laysCells 51 = .ok (.i2l, 1) := dk_133 (dk_at dksX6_laysCells_2 4 rfl rfl)
theorem dX6_laysCells_52 : decode cX6_laysCells 52 = .ok (.invokestatic 274, 3) := dk_184 1 18 (dk_at dksX6_laysCells_2 5 rfl rfl)
theorem dX6_laysCells_55 : decode cX6_laysCells 55 = .ok (.lstore 7, 2) := dk_55 7 (dk_at dksX6_laysCells_2 8 rfl rfl)
theorem dX6_laysCells_57 : decode cX6_laysCells 57 = .ok (.iconst 0, 1) := dk_3 (dk_at dksX6_laysCells_2 10 rfl rfl)
theorem dX6_laysCells_58 : decode cX6_laysCells 58 = .ok (.istore 9, 2) := dk_54 9 (dk_at dksX6_laysCells_2 11 rfl rfl)
theorem dX6_laysCells_60 : decode cX6_laysCells 60 = .ok (.iload 9, 2) := dk_21 9 (dk_at dksX6_laysCells_2 13 rfl rfl)
theorem dX6_laysCells_62 : decode cX6_laysCells 62 = .ok (.aload_n 0, 1) := dk_42 (dk_at dksX6_laysCells_2 15 rfl rfl)
theorem dX6_laysCells_63 : decode cX6_laysCells 63 = .ok (.getfield 427, 3) := dk_180 1 171 (dk_at dksX6_laysCells_2 16 rfl rfl)
theorem dX6_laysCells_66 : decode cX6_laysCells 66 = .ok (.if_icmp .ge 35, 3) := dk_162 0 35 (dk_at dksX6_laysCells_2 19 rfl rfl)
theorem dX6_laysCells_69 : decode cX6_laysCells 69 = .ok (.aload_n 0, 1) := dk_42 (dk_at dksX6_laysCells_2 22 rfl rfl)
theorem dX6_laysCells_70 : decode cX6_laysCells 70 = .ok (.getfield 54, 3) := dk_180 0 54 (dk_at dksX6_laysCells_3 0 rfl rfl)
theorem dX6_laysCells_73 : decode cX6_laysCells 73 = .ok (.iload 9, 2) := dk_21 9 (dk_at dksX6_laysCells_3 3 rfl rfl)
theorem dX6_laysCells_75 : decode cX6_laysCells 75 = .ok (.laload, 1) := dk_47 (dk_at dksX6_laysCells_3 5 rfl rfl)
theorem dX6_laysCells_76 : decode cX6_laysCells 76 = .ok (.lload 5, 2) := dk_22 5 (dk_at dksX6_laysCells_3 6 rfl rfl)
theorem dX6_laysCells_78 : decode cX6_laysCells 78 = .ok (.lcmp, 1) := dk_148 (dk_at dksX6_laysCells_3 8 rfl rfl)
theorem dX6_laysCells_79 : decode cX6_laysCells 79 = .ok (.ifCond .ne 16, 3) := dk_154 0 16 (dk_at dksX6_laysCells_3 9 rfl rfl)
theorem dX6_laysCells_82 : decode cX6_laysCells 82 = .ok (.aload_n 0, 1) := dk_42 (dk_at dksX6_laysCells_3 12 rfl rfl)
theorem dX6_laysCells_83 : decode cX6_laysCells 83 = .ok (.getfield 57, 3) := dk_180 0 57 (dk_at dksX6_laysCells_3 13 rfl rfl)
theorem dX6_laysCells_86 : decode cX6_laysCells 86 = .ok (.iload 9, 2) := dk_21 9 (dk_at dksX6_laysCells_3 16 rfl rfl)
theorem dX6_laysCells_88 : decode cX6_laysCells 88 = .ok (.laload, 1) := dk_47 (dk_at dksX6_laysCells_3 18 rfl rfl)
theorem dX6_laysCells_89 : decode cX6_laysCells 89 = .ok (.lload 7, 2) := dk_22 7 (dk_at dksX6_laysCells_3 19 rfl rfl)
theorem dX6_laysCells_91 : decode cX6_laysCells 91 = .ok (.lcmp, 1) := dk_148 (dk_at dksX6_laysCells_3 21 rfl rfl)
theorem dX6_laysCells_92 : decode cX6_laysCells 92 = .ok (.ifCond .eq 9, 3) := dk_153 0 9 (dk_at dksX6_laysCells_4 0 rfl rfl)
theorem dX6_laysCells_95 : decode cX6_laysCells 95 = .ok (.iinc 9 1, 3) := dk_132 9 1 (dk_at dksX6_laysCells_4 3 rfl rfl)
theorem dX6_laysCells_98 : decode cX6_laysCells 98 = .ok (.goto (-38), 3) := dk_167 255 218 (dk_at dksX6_laysCells_4 6 rfl rfl)
theorem dX6_laysCells_101 : decode cX6_laysCells 101 = .ok (.iload 9, 2) := dk_21 9 (dk_at dksX6_laysCells_4 9 rfl rfl)
theorem dX6_laysCells_103 : decode cX6_laysCells 103 = .ok (.aload_n 0, 1) := dk_42 (dk_at dksX6_laysCells_4 11 rfl rfl)
theorem dX6_laysCells_104 : decode cX6_laysCells 104 = .ok (.getfield 427, 3) := dk_180 1 171 (dk_at dksX6_laysCells_4 12 rfl rfl)
theorem dX6_laysCells_107 : decode cX6_laysCells 107 = .ok (.if_icmp .ne 39, 3) := dk_160 0 39 (dk_at dksX6_laysCells_4 15 rfl rfl)
theorem dX6_laysCells_110 : decode cX6_laysCells 110 = .ok (.aload_n 0, 1) := dk_42 (dk_at dksX6_laysCells_4 18 rfl rfl)
theorem dX6_laysCells_111 : decode cX6_laysCells 111 = .ok (.getfield 54, 3) := dk_180 0 54 (dk_at dksX6_laysCells_4 19 rfl rfl)
theorem dX6_laysCells_114 : decode cX6_laysCells 114 = .ok (.iload 9, 2) := dk_21 9 (dk_at dksX6_laysCells_4 22 rfl rfl)
theorem dX6_laysCells_116 : decode cX6_laysCells 116 = .ok (.lload 5, 2) := dk_22 5 (dk_at dksX6_laysCells_5 0 rfl rfl)
theorem dX6_laysCells_118 : decode cX6_laysCells 118 = .ok (.lastore, 1) := dk_80 (dk_at dksX6_laysCells_5 2 rfl rfl)
theorem dX6_laysCells_119 : decode cX6_laysCells 119 = .ok (.aload_n 0, 1) := dk_42 (dk_at dksX6_laysCells_5 3 rfl rfl)
theorem dX6_laysCells_120 : decode cX6_laysCells 120 = .ok (.getfield 57, 3) := dk_180 0 57 (dk_at dksX6_laysCells_5 4 rfl rfl)
theorem dX6_laysCells_123 : decode cX6_laysCells 123 = .ok (.iload 9, 2) := dk_21 9 (dk_at dksX6_laysCells_5 7 rfl rfl)
theorem dX6_laysCells_125 : decode cX6_laysCells 125 = .ok (.lload 7, 2) := dk_22 7 (dk_at dksX6_laysCells_5 9 rfl rfl)
theorem dX6_laysCells_127 : decode cX6_laysCells 127 = .ok (.lastore, 1) := dk_80 (dk_at dksX6_laysCells_5 11 rfl rfl)
theorem dX6_laysCells_128 : decode cX6_laysCells 128 = .ok (.aload_n 0, 1) := dk_42 (dk_at dksX6_laysCells_5 12 rfl rfl)
theorem dX6_laysCells_129 : decode cX6_laysCells 129 = .ok (.getfield 60, 3) := dk_180 0 60 (dk_at dksX6_laysCells_5 13 rfl rfl)
theorem dX6_laysCells_132 : decode cX6_laysCells 132 = .ok (.iload 9, 2) := dk_21 9 (dk_at dksX6_laysCells_5 16 rfl rfl)
theorem dX6_laysCells_134 : decode cX6_laysCells 134 = .ok (.iconst 0, 1) := dk_3 (dk_at dksX6_laysCells_5 18 rfl rfl)
theorem dX6_laysCells_135 : decode cX6_laysCells 135 = .ok (.iastore, 1) := dk_79 (dk_at dksX6_laysCells_5 19 rfl rfl)
theorem dX6_laysCells_136 : decode cX6_laysCells 136 = .ok (.aload_n 0, 1) := dk_42 (dk_at dksX6_laysCells_5 20 rfl rfl)
theorem dX6_laysCells_137 : decode cX6_laysCells 137 = .ok (.dup, 1) := dk_89 (dk_at dksX6_laysCells_5 21 rfl rfl)
theorem dX6_laysCells_138 : decode cX6_laysCells 138 = .ok (.getfield 427, 3) := dk_180 1 171 (dk_at dksX6_laysCells_6 0 rfl rfl)
theorem dX6_laysCells_141 : decode cX6_laysCells 141 = .ok (.iconst 1, 1) := dk_4 (dk_at dksX6_laysCells_6 3 rfl rfl)
theorem dX6_laysCells_142 : decode cX6_laysCells 142 = .ok (.iadd, 1) := dk_96 (dk_at dksX6_laysCells_6 4 rfl rfl)
theorem dX6_laysCells_143 : decode cX6_laysCells 143 = .ok (.putfield 427, 3) := dk_181 1 171 (dk_at dksX6_laysCells_6 5 rfl rfl)
theorem dX6_laysCells_146 : decode cX6_laysCells 146 = .ok (.aload_n 0, 1) := dk_42 (dk_at dksX6_laysCells_6 8 rfl rfl)
theorem dX6_laysCells_147 : decode cX6_laysCells 147 = .ok (.getfield 60, 3) := dk_180 0 60 (dk_at dksX6_laysCells_6 9 rfl rfl)
theorem dX6_laysCells_150 : decode cX6_laysCells 150 = .ok (.iload 9, 2) := dk_21 9 (dk_at dksX6_laysCells_6 12 rfl rfl)
theorem dX6_laysCells_152 : decode cX6_laysCells 152 = .ok (.dup2, 1) := dk_92 (dk_at dksX6_laysCells_6 14 rfl rfl)
theorem dX6_laysCells_153 : decode cX6_laysCells 153 = .ok (.iaload, 1) := dk_46 (dk_at dksX6_laysCells_6 15 rfl rfl)
theorem dX6_laysCells_154 : decode cX6_laysCells 154 = .ok (.iconst 1, 1) := dk_4 (dk_at dksX6_laysCells_6 16 rfl rfl)
theorem dX6_laysCells_155 : decode cX6_laysCells 155 = .ok (.iadd, 1) := dk_96 (dk_at dksX6_laysCells_6 17 rfl rfl)
theorem dX6_laysCells_156 : decode cX6_laysCells 156 = .ok (.iastore, 1) := dk_79 (dk_at dksX6_laysCells_6 18 rfl rfl)
theorem dX6_laysCells_157 : decode cX6_laysCells 157 = .ok (.iinc 4 1, 3) := dk_132 4 1 (dk_at dksX6_laysCells_6 19 rfl rfl)
theorem dX6_laysCells_160 : decode cX6_laysCells 160 = .ok (.goto (-137), 3) := dk_167 255 119 (dk_at dksX6_laysCells_7 0 rfl rfl)
theorem dX6_laysCells_163 : decode cX6_laysCells 163 = .ok (.iconst 1, 1) := dk_4 (dk_at dksX6_laysCells_7 3 rfl rfl)
theorem dX6_laysCells_164 : decode cX6_laysCells 164 = .ok (.ireturn, 1) := dk_172 (dk_at dksX6_laysCells_7 4 rfl rfl)
abbrev cX6_cell : ByteArray := prog_25_method_110_code
def yX6_cell : MethodName := ⟨RX6, "cell", "(IIIII)I"⟩
def dkwX6_cell_6 : List UInt8 := [21, 4, 46, 172]
abbrev dktX6_cell_6 : List UInt8 := dkwX6_cell_6 ++ []
def dkwX6_cell_5 : List UInt8 := [167, 0, 27, 21, 5, 4, 160, 0, 14, 42, 180, 0, 57, 21, 4, 47, 136, 167, 0, 10, 42, 180, 0, 60]
abbrev dktX6_cell_5 : List UInt8 := dkwX6_cell_5 ++ dktX6_cell_6
def dkwX6_cell_4 : List UInt8 := [180, 1, 171, 161, 0, 7, 19, 1, 178, 172, 21, 5, 154, 0, 14, 42, 180, 0, 54, 21, 4, 47, 136]
abbrev dktX6_cell_4 : List UInt8 := dkwX6_cell_4 ++ dktX6_cell_5
def dkwX6_cell_3 : List UInt8 := [3, 5, 182, 0, 236, 153, 0, 5, 3, 172, 42, 27, 28, 29, 182, 1, 174, 153, 0, 12, 21, 4, 42]
abbrev dktX6_cell_3 : List UInt8 := dkwX6_cell_3 ++ dktX6_cell_4
def dkwX6_cell_2 : List UInt8 := [184, 0, 183, 153, 0, 21, 29, 133, 20, 0, 83, 20, 0, 230, 184, 0, 183, 153, 0, 7, 4, 167, 0, 4]
abbrev dktX6_cell_2 : List UInt8 := dkwX6_cell_2 ++ dktX6_cell_3
def dkwX6_cell_1 : List UInt8 := [153, 0, 7, 4, 167, 0, 4, 3, 4, 182, 0, 236, 154, 0, 42, 42, 28, 133, 9, 20, 1, 138]
abbrev dktX6_cell_1 : List UInt8 := dkwX6_cell_1 ++ dktX6_cell_2
def dkwX6_cell_0 : List UInt8 := [42, 27, 182, 1, 69, 154, 0, 73, 42, 21, 4, 155, 0, 20, 21, 5, 133, 9, 20, 0, 203, 184, 0, 183]
abbrev dktX6_cell_0 : List UInt8 := dkwX6_cell_0 ++ dktX6_cell_1
theorem dksX6_cell_0 : cX6_cell.data.toList.drop 0 = dktX6_cell_0 := by decide +kernel
theorem dksX6_cell_1 : cX6_cell.data.toList.drop 24 = dktX6_cell_1 := dk_seg dksX6_cell_0 24 rfl rfl
theorem dksX6_cell_2 : cX6_cell.data.toList.drop 46 = dktX6_cell_2 := dk_seg dksX6_cell_1 22 rfl rfl
theorem dksX6_cell_3 : cX6_cell.data.toList.drop 70 = dktX6_cell_3 := dk_seg dksX6_cell_2 24 rfl rfl
theorem dksX6_cell_4 : cX6_cell.data.toList.drop 93 = dktX6_cell_4 := dk_seg dksX6_cell_3 23 rfl rfl
theorem dksX6_cell_5 : cX6_cell.data.toList.drop 116 = dktX6_cell_5 := dk_seg dksX6_cell_4 23 rfl rfl
theorem dksX6_cell_6 : cX6_cell.data.toList.drop 140 = dktX6_cell_6 := dk_seg dksX6_cell_5 24 rfl rfl
theorem dX6_cell_0 : decode cX6_cell 0 = .ok (.aload_n 0, 1) := dk_42 (dk_at dksX6_cell_0 0 rfl rfl)
theorem dX6_cell_1 : decode cX6_cell 1 = .ok (.iload_n 1, 1) := dk_27 (dk_at dksX6_cell_0 1 rfl rfl)
theorem dX6_cell_2 : decode cX6_cell 2 = .ok (.invokevirtual 325, 3) := dk_182 1 69 (dk_at dksX6_cell_0 2 rfl rfl)
theorem dX6_cell_5 : decode cX6_cell 5 = .ok (.ifCond .ne 73, 3) := dk_154 0 73 (dk_at dksX6_cell_0 5 rfl rfl)
theorem dX6_cell_8 : decode cX6_cell 8 = .ok (.aload_n 0, 1) := dk_42 (dk_at dksX6_cell_0 8 rfl rfl)
theorem dX6_cell_9 : decode cX6_cell 9 = .ok (.iload 4, 2) := dk_21 4 (dk_at dksX6_cell_0 9 rfl rfl)
theorem dX6_cell_11 : decode cX6_cell 11 = .ok (.ifCond .lt 20, 3) := dk_155 0 20 (dk_at dksX6_cell_0 11 rfl rfl)
theorem dX6_cell_14 : decode cX6_cell 14 = .ok (.iload 5, 2) := dk_21 5 (dk_at dksX6_cell_0 14 rfl rfl)
theorem dX6_cell_16 : decode cX6_cell 16 = .ok (.i2l, 1) := dk_133 (dk_at dksX6_cell_0 16 rfl rfl)
theorem dX6_cell_17 : decode cX6_cell 17 = .ok (.lconst 0, 1) := dk_9 (dk_at dksX6_cell_0 17 rfl rfl)
theorem dX6_cell_18 : decode cX6_cell 18 = .ok (.ldc2_w 203, 3) := dk_20 0 203 (dk_at dksX6_cell_0 18 rfl rfl)
theorem dX6_cell_21 : decode cX6_cell 21 = .ok (.invokestatic 183, 3) := dk_184 0 183 (dk_at dksX6_cell_0 21 rfl rfl)
theorem dX6_cell_24 : decode cX6_cell 24 = .ok (.ifCond .eq 7, 3) := dk_153 0 7 (dk_at dksX6_cell_1 0 rfl rfl)
theorem dX6_cell_27 : decode cX6_cell 27 = .ok (.iconst 1, 1) := dk_4 (dk_at dksX6_cell_1 3 rfl rfl)
theorem dX6_cell_28 : decode cX6_cell 28 = .ok (.goto 4, 3) := dk_167 0 4 (dk_at dksX6_cell_1 4 rfl rfl)
theorem dX6_cell_31 : decode cX6_cell 31 = .ok (.iconst 0, 1) := dk_3 (dk_at dksX6_cell_1 7 rfl rfl)
theorem dX6_cell_32 : decode cX6_cell 32 = .ok (.iconst 1, 1) := dk_4 (dk_at dksX6_cell_1 8 rfl rfl)
theorem dX6_cell_33 : decode cX6_cell 33 = .ok (.invokevirtual 236, 3) := dk_182 0 236 (dk_at dksX6_cell_1 9 rfl rfl)
theorem dX6_cell_36 : decode cX6_cell 36 = .ok (.ifCond .ne 42, 3) := dk_154 0 42 (dk_at dksX6_cell_1 12 rfl rfl)
theorem dX6_cell_39 : decode cX6_cell 39 = .ok (.aload_n 0, 1) := dk_42 (dk_at dksX6_cell_1 15 rfl rfl)
theorem dX6_cell_40 : decode cX6_cell 40 = .ok (.iload_n 2, 1) := dk_28 (dk_at dksX6_cell_1 16 rfl rfl)
theorem dX6_cell_41 : decode cX6_cell 41 = .ok (.i2l, 1) := dk_133 (dk_at dksX6_cell_1 17 rfl rfl)
theorem dX6_cell_42 : decode cX6_cell 42 = .ok (.lconst 0, 1) := dk_9 (dk_at dksX6_cell_1 18 rfl rfl)
theorem dX6_cell_43 : decode cX6_cell 43 = .ok (.ldc2_w 394, 3) := dk_20 1 138 (dk_at dksX6_cell_1 19 rfl rfl)
theorem dX6_cell_46 : decode cX6_cell 46 = .ok (.invokestatic 183, 3) := dk_184 0 183 (dk_at dksX6_cell_2 0 rfl rfl)
theorem dX6_cell_49 : decode cX6_cell 49 = .ok (.ifCond .eq 21, 3) := dk_153 0 21 (dk_at dksX6_cell_2 3 rfl rfl)
theorem dX6_cell_52 : decode cX6_cell 52 = .ok (.iload_n 3, 1) := dk_29 (dk_at dksX6_cell_2 6 rfl rfl)
theorem dX6_cell_53 : decode cX6_cell 53 = .ok (.i2l, 1) := dk_133 (dk_at dksX6_cell_2 7 rfl rfl)
theorem dX6_cell_54 : decode cX6_cell 54 = .ok (.ldc2_w 83, 3) := dk_20 0 83 (dk_at dksX6_cell_2 8 rfl rfl)
theorem dX6_cell_57 : decode cX6_cell 57 = .ok (.ldc2_w 230, 3) := dk_20 0 230 (dk_at dksX6_cell_2 11 rfl rfl)
theorem dX6_cell_60 : decode cX6_cell 60 = .ok (.invokestatic 183, 3) := dk_184 0 183 (dk_at dksX6_cell_2 14 rfl rfl)
theorem dX6_cell_63 : decode cX6_cell 63 = .ok (.ifCond .eq 7, 3) := dk_153 0 7 (dk_at dksX6_cell_2 17 rfl rfl)
theorem dX6_cell_66 : decode cX6_cell 66 = .ok (.iconst 1, 1) := dk_4 (dk_at dksX6_cell_2 20 rfl rfl)
theorem dX6_cell_67 : decode cX6_cell 67 = .ok (.goto 4, 3) := dk_167 0 4 (dk_at dksX6_cell_2 21 rfl rfl)
theorem dX6_cell_70 : decode cX6_cell 70 = .ok (.iconst 0, 1) := dk_3 (dk_at dksX6_cell_3 0 rfl rfl)
theorem dX6_cell_71 : decode cX6_cell 71 = .ok (.iconst 2, 1) := dk_5 (dk_at dksX6_cell_3 1 rfl rfl)
theorem dX6_cell_72 : decode cX6_cell 72 = .ok (.invokevirtual 236, 3) := dk_182 0 236 (dk_at dksX6_cell_3 2 rfl rfl)
theorem dX6_cell_75 : decode cX6_cell 75 = .ok (.ifCond .eq 5, 3) := dk_153 0 5 (dk_at dksX6_cell_3 5 rfl rfl)
theorem dX6_cell_78 : decode cX6_cell 78 = .ok (.iconst 0, 1) := dk_3 (dk_at dksX6_cell_3 8 rfl rfl)
theorem dX6_cell_79 : decode cX6_cell 79 = .ok (.ireturn, 1) := dk_172 (dk_at dksX6_cell_3 9 rfl rfl)
theorem dX6_cell_80 : decode cX6_cell 80 = .ok (.aload_n 0, 1) := dk_42 (dk_at dksX6_cell_3 10 rfl rfl)
theorem dX6_cell_81 : decode cX6_cell 81 = .ok (.iload_n 1, 1) := dk_27 (dk_at dksX6_cell_3 11 rfl rfl)
theorem dX6_cell_82 : decode cX6_cell 82 = .ok (.iload_n 2, 1) := dk_28 (dk_at dksX6_cell_3 12 rfl rfl)
theorem dX6_cell_83 : decode cX6_cell 83 = .ok (.iload_n 3, 1) := dk_29 (dk_at dksX6_cell_3 13 rfl rfl)
theorem dX6_cell_84 : decode cX6_cell 84 = .ok (.invokevirtual 430, 3) := dk_182 1 174 (dk_at dksX6_cell_3 14 rfl rfl)
theorem dX6_cell_87 : decode cX6_cell 87 = .ok (.ifCond .eq 12, 3) := dk_153 0 12 (dk_at dksX6_cell_3 17 rfl rfl)
theorem dX6_cell_90 : decode cX6_cell 90 = .ok (.iload 4, 2) := dk_21 4 (dk_at dksX6_cell_3 20 rfl rfl)
theorem dX6_cell_92 : decode cX6_cell 92 = .ok (.aload_n 0, 1) := dk_42 (dk_at dksX6_cell_3 22 rfl rfl)
theorem dX6_cell_93 : decode cX6_cell 93 = .ok (.getfield 427, 3) := dk_180 1 171 (dk_at dksX6_cell_4 0 rfl rfl)
theorem dX6_cell_96 : decode cX6_cell 96 = .ok (.if_icmp .lt 7, 3) := dk_161 0 7 (dk_at dksX6_cell_4 3 rfl rfl)
theorem dX6_cell_99 : decode cX6_cell 99 = .ok (.ldc_w 434, 3) := dk_19 1 178 (dk_at dksX6_cell_4 6 rfl rfl)
theorem dX6_cell_102 : decode cX6_cell 102 = .ok (.ireturn, 1) := dk_172 (dk_at dksX6_cell_4 9 rfl rfl)
theorem dX6_cell_103 : decode cX6_cell 103 = .ok (.iload 5, 2) := dk_21 5 (dk_at dksX6_cell_4 10 rfl rfl)
theorem dX6_cell_105 : decode cX6_cell 105 = .ok (.ifCond .ne 14, 3) := dk_154 0 14 (dk_at dksX6_cell_4 12 rfl rfl)
theorem dX6_cell_108 : decode cX6_cell 108 = .ok (.aload_n 0, 1) := dk_42 (dk_at dksX6_cell_4 15 rfl rfl)
theorem dX6_cell_109 : decode cX6_cell 109 = .ok (.getfield 54, 3) := dk_180 0 54 (dk_at dksX6_cell_4 16 rfl rfl)
theorem dX6_cell_112 : decode cX6_cell 112 = .ok (.iload 4, 2) := dk_21 4 (dk_at dksX6_cell_4 19 rfl rfl)
theorem dX6_cell_114 : decode cX6_cell 114 = .ok (.laload, 1) := dk_47 (dk_at dksX6_cell_4 21 rfl rfl)
theorem dX6_cell_115 : decode cX6_cell 115 = .ok (.l2i, 1) := dk_136 (dk_at dksX6_cell_4 22 rfl rfl)
theorem dX6_cell_116 : decode cX6_cell 116 = .ok (.goto 27, 3) := dk_167 0 27 (dk_at dksX6_cell_5 0 rfl rfl)
theorem dX6_cell_119 : decode cX6_cell 119 = .ok (.iload 5, 2) := dk_21 5 (dk_at dksX6_cell_5 3 rfl rfl)
theorem dX6_cell_121 : decode cX6_cell 121 = .ok (.iconst 1, 1) := dk_4 (dk_at dksX6_cell_5 5 rfl rfl)
theorem dX6_cell_122 : decode cX6_cell 122 = .ok (.if_icmp .ne 14, 3) := dk_160 0 14 (dk_at dksX6_cell_5 6 rfl rfl)
theorem dX6_cell_125 : decode cX6_cell 125 = .ok (.aload_n 0, 1) := dk_42 (dk_at dksX6_cell_5 9 rfl rfl)
theorem dX6_cell_126 : decode cX6_cell 126 = .ok (.getfield 57, 3) := dk_180 0 57 (dk_at dksX6_cell_5 10 rfl rfl)
theorem dX6_cell_129 : decode cX6_cell 129 = .ok (.iload 4, 2) := dk_21 4 (dk_at dksX6_cell_5 13 rfl rfl)
theorem dX6_cell_131 : decode cX6_cell 131 = .ok (.laload, 1) := dk_47 (dk_at dksX6_cell_5 15 rfl rfl)
theorem dX6_cell_132 : decode cX6_cell 132 = .ok (.l2i, 1) := dk_136 (dk_at dksX6_cell_5 16 rfl rfl)
theorem dX6_cell_133 : decode cX6_cell 133 = .ok (.goto 10, 3) := dk_167 0 10 (dk_at dksX6_cell_5 17 rfl rfl)
theorem dX6_cell_136 : decode cX6_cell 136 = .ok (.aload_n 0, 1) := dk_42 (dk_at dksX6_cell_5 20 rfl rfl)
theorem dX6_cell_137 : decode cX6_cell 137 = .ok (.getfield 60, 3) := dk_180 0 60 (dk_at dksX6_cell_5 21 rfl rfl)
theorem dX6_cell_140 : decode cX6_cell 140 = .ok (.iload 4, 2) := dk_21 4 (dk_at dksX6_cell_6 0 rfl rfl)
theorem dX6_cell_142 : decode cX6_cell 142 = .ok (.iaload, 1) := dk_46 (dk_at dksX6_cell_6 2 rfl rfl)
theorem dX6_cell_143 : decode cX6_cell 143 = .ok (.ireturn, 1) := dk_172 (dk_at dksX6_cell_6 3 rfl rfl)
abbrev cX6_virial : ByteArray := prog_25_method_111_code
def yX6_virial : MethodName := ⟨RX6, "virial", "()D"⟩
def dkwX6_virial_1 : List UInt8 := [42, 180, 0, 7, 184, 1, 12, 138, 31, 117, 138, 111, 175]
abbrev dktX6_virial_1 : List UInt8 := dkwX6_virial_1 ++ []
def dkwX6_virial_0 : List UInt8 := [42, 3, 181, 0, 88, 42, 42, 180, 0, 7, 182, 1, 15, 64, 31, 9, 148, 154, 0, 7, 14, 167, 0, 15]
abbrev dktX6_virial_0 : List UInt8 := dkwX6_virial_0 ++ dktX6_virial_1
theorem dksX6_virial_0 : cX6_virial.data.toList.drop 0 = dktX6_virial_0 := by decide +kernel
theorem dksX6_virial_1 : cX6_virial.data.toList.drop 24 = dktX6_virial_1 := dk_seg dksX6_virial_0 24 rfl rfl
theorem dX6_virial_0 : decode cX6_virial 0 = .ok (.aload_n 0, 1) := dk_42 (dk_at dksX6_virial_0 0 rfl rfl)
theorem dX6_virial_1 : decode cX6_virial 1 = .ok (.iconst 0, 1) := dk_3 (dk_at dksX6_virial_0 1 rfl rfl)
theorem dX6_virial_2 : decode cX6_virial 2 = .ok (.putfield 88, 3) := dk_181 0 88 (dk_at dksX6_virial_0 2 rfl rfl)
theorem dX6_virial_5 : decode cX6_virial 5 = .ok (.aload_n 0, 1) := dk_42 (dk_at dksX6_virial_0 5 rfl rfl)
theorem dX6_virial_6 : decode cX6_virial 6 = .ok (.aload_n 0, 1) := dk_42 (dk_at dksX6_virial_0 6 rfl rfl)
theorem dX6_virial_7 : decode cX6_virial 7 = .ok (.getfield 7, 3) := dk_180 0 7 (dk_at dksX6_virial_0 7 rfl rfl)
theorem dX6_virial_10 : decode cX6_virial 10 = .ok (.invokevirtual 271, 3) := dk_182 1 15 (dk_at dksX6_virial_0 10 rfl rfl)
theorem dX6_virial_13 : decode cX6_virial 13 = .ok (.lstore_n 1, 1) := dk_64 (dk_at dksX6_virial_0 13 rfl rfl)
theorem dX6_virial_14 : decode cX6_virial 14 = .ok (.lload_n 1, 1) := dk_31 (dk_at dksX6_virial_0 14 rfl rfl)
theorem dX6_virial_15 : decode cX6_virial 15 = .ok (.lconst 0, 1) := dk_9 (dk_at dksX6_virial_0 15 rfl rfl)
theorem dX6_virial_16 : decode cX6_virial 16 = .ok (.lcmp, 1) := dk_148 (dk_at dksX6_virial_0 16 rfl rfl)
theorem dX6_virial_17 : decode cX6_virial 17 = .ok (.ifCond .ne 7, 3) := dk_154 0 7 (dk_at dksX6_virial_0 17 rfl rfl)
theorem dX6_virial_20 : decode cX6_virial 20 = .ok (.dconst 0, 1) := dk_14 (dk_at dksX6_virial_0 20 rfl rfl)
theorem dX6_virial_21 : decode cX6_virial 21 = .ok (.goto 15, 3) := dk_167 0 15 (dk_at dksX6_virial_0 21 rfl rfl)
theorem dX6_virial_24 : decode cX6_virial 24 = .ok (.aload_n 0, 1) := dk_42 (dk_at dksX6_virial_1 0 rfl rfl)
theorem dX6_virial_25 : decode cX6_virial 25 = .ok (.getfield 7, 3) := dk_180 0 7 (dk_at dksX6_virial_1 1 rfl rfl)
theorem dX6_virial_28 : decode cX6_virial 28 = .ok (.invokestatic 268, 3) := dk_184 1 12 (dk_at dksX6_virial_1 4 rfl rfl)
theorem dX6_virial_31 : decode cX6_virial 31 = .ok (.l2d, 1) := dk_138 (dk_at dksX6_virial_1 7 rfl rfl)
theorem dX6_virial_32 : decode cX6_virial 32 = .ok (.lload_n 1, 1) := dk_31 (dk_at dksX6_virial_1 8 rfl rfl)
theorem dX6_virial_33 : decode cX6_virial 33 = .ok (.lneg, 1) := dk_117 (dk_at dksX6_virial_1 9 rfl rfl)
theorem dX6_virial_34 : decode cX6_virial 34 = .ok (.l2d, 1) := dk_138 (dk_at dksX6_virial_1 10 rfl rfl)
theorem dX6_virial_35 : decode cX6_virial 35 = .ok (.ddiv, 1) := dk_111 (dk_at dksX6_virial_1 11 rfl rfl)
theorem dX6_virial_36 : decode cX6_virial 36 = .ok (.dreturn, 1) := dk_175 (dk_at dksX6_virial_1 12 rfl rfl)
abbrev cX6_meanDistance : ByteArray := prog_25_method_112_code
def yX6_meanDistance : MethodName := ⟨RX6, "meanDistance", "()F"⟩
def dkwX6_meanDistance_1 : List UInt8 := [180, 0, 7, 5, 184, 1, 5, 97, 64, 31, 137, 19, 1, 179, 110, 174]
abbrev dktX6_meanDistance_1 : List UInt8 := dkwX6_meanDistance_1 ++ []
def dkwX6_meanDistance_0 : List UInt8 := [42, 3, 181, 0, 88, 42, 180, 0, 7, 3, 184, 1, 5, 42, 180, 0, 7, 4, 184, 1, 5, 97, 42]
abbrev dktX6_meanDistance_0 : List UInt8 := dkwX6_meanDistance_0 ++ dktX6_meanDistance_1
theorem dksX6_meanDistance_0 : cX6_meanDistance.data.toList.drop 0 = dktX6_meanDistance_0 := by decide +kernel
theorem dksX6_meanDistance_1 : cX6_meanDistance.data.toList.drop 23 = dktX6_meanDistance_1 := dk_seg dksX6_meanDistance_0 23 rfl rfl
theorem dX6_meanDistance_0 : decode cX6_meanDistance 0 = .ok (.aload_n 0, 1) := dk_42 (dk_at dksX6_meanDistance_0 0 rfl rfl)
theorem dX6_meanDistance_1 : decode cX6_meanDistance 1 = .ok (.iconst 0, 1) := dk_3 (dk_at dksX6_meanDistance_0 1 rfl rfl)
theorem dX6_meanDistance_2 : decode cX6_meanDistance 2 = .ok (.putfield 88, 3) := dk_181 0 88 (dk_at dksX6_meanDistance_0 2 rfl rfl)
theorem dX6_meanDistance_5 : decode cX6_meanDistance 5 = .ok (.aload_n 0, 1) := dk_42 (dk_at dksX6_meanDistance_0 5 rfl rfl)
theorem dX6_meanDistance_6 : decode cX6_meanDistance 6 = .ok (.getfield 7, 3) := dk_180 0 7 (dk_at dksX6_meanDistance_0 6 rfl rfl)
theorem dX6_meanDistance_9 : decode cX6_meanDistance 9 = .ok (.iconst 0, 1) := dk_3 (dk_at dksX6_meanDistance_0 9 rfl rfl)
theorem dX6_meanDistance_10 : decode cX6_meanDistance 10 = .ok (.invokestatic 261, 3) := dk_184 1 5 (dk_at dksX6_meanDistance_0 10 rfl rfl)
theorem dX6_meanDistance_13 : decode cX6_meanDistance 13 = .ok (.aload_n 0, 1) := dk_42 (dk_at dksX6_meanDistance_0 13 rfl rfl)
theorem dX6_meanDistance_14 : decode cX6_meanDistance 14 = .ok (.getfield 7, 3) := dk_180 0 7 (dk_at dksX6_meanDistance_0 14 rfl rfl)
theorem dX6_meanDistance_17 : decode cX6_meanDistance 17 = .ok (.iconst 1, 1) := dk_4 (dk_at dksX6_meanDistance_0 17 rfl rfl)
theorem dX6_meanDistance_18 : decode cX6_meanDistance 18 = .ok (.invokestatic 261, 3) := dk_184 1 5 (dk_at dksX6_meanDistance_0 18 rfl rfl)
theorem dX6_meanDistance_21 : decode cX6_meanDistance 21 = .ok (.ladd, 1) := dk_97 (dk_at dksX6_meanDistance_0 21 rfl rfl)
theorem dX6_meanDistance_22 : decode cX6_meanDistance 22 = .ok (.aload_n 0, 1) := dk_42 (dk_at dksX6_meanDistance_0 22 rfl rfl)
theorem dX6_meanDistance_23 : decode cX6_meanDistance 23 = .ok (.getfield 7, 3) := dk_180 0 7 (dk_at dksX6_meanDistance_1 0 rfl rfl)
theorem dX6_meanDistance_26 : decode cX6_meanDistance 26 = .ok (.iconst 2, 1) := dk_5 (dk_at dksX6_meanDistance_1 3 rfl rfl)
theorem dX6_meanDistance_27 : decode cX6_meanDistance 27 = .ok (.invokestatic 261, 3) := dk_184 1 5 (dk_at dksX6_meanDistance_1 4 rfl rfl)
theorem dX6_meanDistance_30 : decode cX6_meanDistance 30 = .ok (.ladd, 1) := dk_97 (dk_at dksX6_meanDistance_1 7 rfl rfl)
theorem dX6_meanDistance_31 : decode cX6_meanDistance 31 = .ok (.lstore_n 1, 1) := dk_64 (dk_at dksX6_meanDistance_1 8 rfl rfl)
theorem dX6_meanDistance_32 : decode cX6_meanDistance 32 = .ok (.lload_n 1, 1) := dk_31 (dk_at dksX6_meanDistance_1 9 rfl rfl)
theorem dX6_meanDistance_33 : decode cX6_meanDistance 33 = .ok (.l2f, 1) := dk_137 (dk_at dksX6_meanDistance_1 10 rfl rfl)
theorem dX6_meanDistance_34 : decode cX6_meanDistance 34 = .ok (.ldc_w 435, 3) := dk_19 1 179 (dk_at dksX6_meanDistance_1 11 rfl rfl)
theorem dX6_meanDistance_37 : decode cX6_meanDistance 37 = .ok (.fdiv, 1) := dk_110 (dk_at dksX6_meanDistance_1 14 rfl rfl)
theorem dX6_meanDistance_38 : decode cX6_meanDistance 38 = .ok (.freturn, 1) := dk_174 (dk_at dksX6_meanDistance_1 15 rfl rfl)
abbrev cX6_format : ByteArray := prog_25_method_115_code
def yX6_format : MethodName := ⟨RX6, "format", "(I)I"⟩
def dkwX6_format_6 : List UInt8 := [42, 180, 0, 7, 27, 7, 184, 0, 79, 47, 182, 1, 188, 42, 16, 93, 182, 1, 183, 42, 180, 1, 180, 172]
abbrev dktX6_format_6 : List UInt8 := dkwX6_format_6 ++ []
def dkwX6_format_5 : List UInt8 := [182, 1, 183, 42, 42, 180, 0, 7, 27, 6, 184, 0, 79, 47, 182, 1, 188, 42, 16, 32, 182, 1, 183, 42]
abbrev dktX6_format_5 : List UInt8 := dkwX6_format_5 ++ dktX6_format_6
def dkwX6_format_4 : List UInt8 := [184, 0, 79, 47, 182, 1, 188, 42, 16, 41, 182, 1, 183, 42, 16, 32, 182, 1, 183, 42, 16, 91]
abbrev dktX6_format_4 : List UInt8 := dkwX6_format_4 ++ dktX6_format_5
def dkwX6_format_3 : List UInt8 := [27, 4, 184, 0, 79, 47, 182, 1, 188, 42, 16, 32, 182, 1, 183, 42, 42, 180, 0, 7, 27, 5]
abbrev dktX6_format_3 : List UInt8 := dkwX6_format_3 ++ dktX6_format_4
def dkwX6_format_2 : List UInt8 := [184, 0, 79, 47, 182, 1, 188, 42, 16, 32, 182, 1, 183, 42, 16, 40, 182, 1, 183, 42, 42, 180, 0, 7]
abbrev dktX6_format_2 : List UInt8 := dkwX6_format_2 ++ dktX6_format_3
def dkwX6_format_1 : List UInt8 := [182, 1, 188, 42, 16, 32, 182, 1, 183, 42, 16, 109, 182, 1, 183, 42, 42, 180, 0, 7, 27, 3]
abbrev dktX6_format_1 : List UInt8 := dkwX6_format_1 ++ dktX6_format_2
def dkwX6_format_0 : List UInt8 := [42, 27, 182, 1, 69, 153, 0, 5, 3, 172, 42, 3, 181, 1, 180, 42, 16, 98, 182, 1, 183, 42, 27, 133]
abbrev dktX6_format_0 : List UInt8 := dkwX6_format_0 ++ dktX6_format_1
theorem dksX6_format_0 : cX6_format.data.toList.drop 0 = dktX6_format_0 := by decide +kernel
theorem dksX6_format_1 : cX6_format.data.toList.drop 24 = dktX6_format_1 := dk_seg dksX6_format_0 24 rfl rfl
theorem dksX6_format_2 : cX6_format.data.toList.drop 46 = dktX6_format_2 := dk_seg dksX6_format_1 22 rfl rfl
theorem dksX6_format_3 : cX6_format.data.toList.drop 70 = dktX6_format_3 := dk_seg dksX6_format_2 24 rfl rfl
theorem dksX6_format_4 : cX6_format.data.toList.drop 92 = dktX6_format_4 := dk_seg dksX6_format_3 22 rfl rfl
theorem dksX6_format_5 : cX6_format.data.toList.drop 114 = dktX6_format_5 := dk_seg dksX6_format_4 22 rfl rfl
theorem dksX6_format_6 : cX6_format.data.toList.drop 138 = dktX6_format_6 := dk_seg dksX6_format_5 24 rfl rfl
theorem dX6_format_0 : decode cX6_format 0 = .ok (.aload_n 0, 1) := dk_42 (dk_at dksX6_format_0 0 rfl rfl)
theorem dX6_format_1 : decode cX6_format 1 = .ok (.iload_n 1, 1) := dk_27 (dk_at dksX6_format_0 1 rfl rfl)
theorem dX6_format_2 : decode cX6_format 2 = .ok (.invokevirtual 325, 3) := dk_182 1 69 (dk_at dksX6_format_0 2 rfl rfl)
theorem dX6_format_5 : decode cX6_format 5 = .ok (.ifCond .eq 5, 3) := dk_153 0 5 (dk_at dksX6_format_0 5 rfl rfl)
theorem dX6_format_8 : decode cX6_format 8 = .ok (.iconst 0, 1) := dk_3 (dk_at dksX6_format_0 8 rfl rfl)
theorem dX6_format_9 : decode cX6_format 9 = .ok (.ireturn, 1) := dk_172 (dk_at dksX6_format_0 9 rfl rfl)
theorem dX6_format_10 : decode cX6_format 10 = .ok (.aload_n 0, 1) := dk_42 (dk_at dksX6_format_0 10 rfl rfl)
theorem dX6_format_11 : decode cX6_format 11 = .ok (.iconst 0, 1) := dk_3 (dk_at dksX6_format_0 11 rfl rfl)
theorem dX6_format_12 : decode cX6_format 12 = .ok (.putfield 436, 3) := dk_181 1 180 (dk_at dksX6_format_0 12 rfl rfl)
theorem dX6_format_15 : decode cX6_format 15 = .ok (.aload_n 0, 1) := dk_42 (dk_at dksX6_format_0 15 rfl rfl)
theorem dX6_format_16 : decode cX6_format 16 = .ok (.bipush 98, 2) := dk_16 98 (dk_at dksX6_format_0 16 rfl rfl)
theorem dX6_format_18 : decode cX6_format 18 = .ok (.invokevirtual 439, 3) := dk_182 1 183 (dk_at dksX6_format_0 18 rfl rfl)
theorem dX6_format_21 : decode cX6_format 21 = .ok (.aload_n 0, 1) := dk_42 (dk_at dksX6_format_0 21 rfl rfl)
theorem dX6_format_22 : decode cX6_format 22 = .ok (.iload_n 1, 1) := dk_27 (dk_at dksX6_format_0 22 rfl rfl)
theorem dX6_format_23 : decode cX6_format 23 = .ok (.i2l, 1) := dk_133 (dk_at dksX6_format_0 23 rfl rfl)
theorem dX6_format_24 : decode cX6_format 24 = .ok (.invokevirtual 444, 3) := dk_182 1 188 (dk_at dksX6_format_1 0 rfl rfl)
theorem dX6_format_27 : decode cX6_format 27 = .ok (.aload_n 0, 1) := dk_42 (dk_at dksX6_format_1 3 rfl rfl)
theorem dX6_format_28 : decode cX6_format 28 = .ok (.bipush 32, 2) := dk_16 32 (dk_at dksX6_format_1 4 rfl rfl)
theorem dX6_format_30 : decode cX6_format 30 = .ok (.invokevirtual 439, 3) := dk_182 1 183 (dk_at dksX6_format_1 6 rfl rfl)
theorem dX6_format_33 : decode cX6_format 33 = .ok (.aload_n 0, 1) := dk_42 (dk_at dksX6_format_1 9 rfl rfl)
theorem dX6_format_34 : decode cX6_format 34 = .ok (.bipush 109, 2) := dk_16 109 (dk_at dksX6_format_1 10 rfl rfl)
theorem dX6_format_36 : decode cX6_format 36 = .ok (.invokevirtual 439, 3) := dk_182 1 183 (dk_at dksX6_format_1 12 rfl rfl)
theorem dX6_format_39 : decode cX6_format 39 = .ok (.aload_n 0, 1) := dk_42 (dk_at dksX6_format_1 15 rfl rfl)
theorem dX6_format_40 : decode cX6_format 40 = .ok (.aload_n 0, 1) := dk_42 (dk_at dksX6_format_1 16 rfl rfl)
theorem dX6_format_41 : decode cX6_format 41 = .ok (.getfield 7, 3) := dk_180 0 7 (dk_at dksX6_format_1 17 rfl rfl)
theorem dX6_format_44 : decode cX6_format 44 = .ok (.iload_n 1, 1) := dk_27 (dk_at dksX6_format_1 20 rfl rfl)
theorem dX6_format_45 : decode cX6_format 45 = .ok (.iconst 0, 1) := dk_3 (dk_at dksX6_format_1 21 rfl rfl)
theorem dX6_format_46 : decode cX6_format 46 = .ok (.invokestatic 79, 3) := dk_184 0 79 (dk_at dksX6_format_2 0 rfl rfl)
theorem dX6_format_49 : decode cX6_format 49 = .ok (.laload, 1) := dk_47 (dk_at dksX6_format_2 3 rfl rfl)
theorem dX6_format_50 : decode cX6_format 50 = .ok (.invokevirtual 444, 3) := dk_182 1 188 (dk_at dksX6_format_2 4 rfl rfl)
theorem dX6_format_53 : decode cX6_format 53 = .ok (.aload_n 0, 1) := dk_42 (dk_at dksX6_format_2 7 rfl rfl)
theorem dX6_format_54 : decode cX6_format 54 = .ok (.bipush 32, 2) := dk_16 32 (dk_at dksX6_format_2 8 rfl rfl)
theorem dX6_format_56 : decode cX6_format 56 = .ok (.invokevirtual 439, 3) := dk_182 1 183 (dk_at dksX6_format_2 10 rfl rfl)
theorem dX6_format_59 : decode cX6_format 59 = .ok (.aload_n 0, 1) := dk_42 (dk_at dksX6_format_2 13 rfl rfl)
theorem dX6_format_60 : decode cX6_format 60 = .ok (.bipush 40, 2) := dk_16 40 (dk_at dksX6_format_2 14 rfl rfl)
theorem dX6_format_62 : decode cX6_format 62 = .ok (.invokevirtual 439, 3) := dk_182 1 183 (dk_at dksX6_format_2 16 rfl rfl)
theorem dX6_format_65 : decode cX6_format 65 = .ok (.aload_n 0, 1) := dk_42 (dk_at dksX6_format_2 19 rfl rfl)
theorem dX6_format_66 : decode cX6_format 66 = .ok (.aload_n 0, 1) := dk_42 (dk_at dksX6_format_2 20 rfl rfl)
theorem dX6_format_67 : decode cX6_format 67 = .ok (.getfield 7, 3) := dk_180 0 7 (dk_at dksX6_format_2 21 rfl rfl)
theorem dX6_format_70 : decode cX6_format 70 = .ok (.iload_n 1, 1) := dk_27 (dk_at dksX6_format_3 0 rfl rfl)
theorem dX6_format_71 : decode cX6_format 71 = .ok (.iconst 1, 1) := dk_4 (dk_at dksX6_format_3 1 rfl rfl)
theorem dX6_format_72 : decode cX6_format 72 = .ok (.invokestatic 79, 3) := dk_184 0 79 (dk_at dksX6_format_3 2 rfl rfl)
theorem dX6_format_75 : decode cX6_format 75 = .ok (.laload, 1) := dk_47 (dk_at dksX6_format_3 5 rfl rfl)
theorem dX6_format_76 : decode cX6_format 76 = .ok (.invokevirtual 444, 3) := dk_182 1 188 (dk_at dksX6_format_3 6 rfl rfl)
theorem dX6_format_79 : decode cX6_format 79 = .ok (.aload_n 0, 1) := dk_42 (dk_at dksX6_format_3 9 rfl rfl)
theorem dX6_format_80 : decode cX6_format 80 = .ok (.bipush 32, 2) := dk_16 32 (dk_at dksX6_format_3 10 rfl rfl)
theorem dX6_format_82 : decode cX6_format 82 = .ok (.invokevirtual 439, 3) := dk_182 1 183 (dk_at dksX6_format_3 12 rfl rfl)
theorem dX6_format_85 : decode cX6_format 85 = .ok (.aload_n 0, 1) := dk_42 (dk_at dksX6_format_3 15 rfl rfl)
theorem dX6_format_86 : decode cX6_format 86 = .ok (.aload_n 0, 1) := dk_42 (dk_at dksX6_format_3 16 rfl rfl)
theorem dX6_format_87 : decode cX6_format 87 = .ok (.getfield 7, 3) := dk_180 0 7 (dk_at dksX6_format_3 17 rfl rfl)
theorem dX6_format_90 : decode cX6_format 90 = .ok (.iload_n 1, 1) := dk_27 (dk_at dksX6_format_3 20 rfl rfl)
theorem dX6_format_91 : decode cX6_format 91 = .ok (.iconst 2, 1) := dk_5 (dk_at dksX6_format_3 21 rfl rfl)
theorem dX6_format_92 : decode cX6_format 92 = .ok (.invokestatic 79, 3) := dk_184 0 79 (dk_at dksX6_format_4 0 rfl rfl)
theorem dX6_format_95 : decode cX6_format 95 = .ok (.laload, 1) := dk_47 (dk_at dksX6_format_4 3 rfl rfl)
theorem dX6_format_96 : decode cX6_format 96 = .ok (.invokevirtual 444, 3) := dk_182 1 188 (dk_at dksX6_format_4 4 rfl rfl)
theorem dX6_format_99 : decode cX6_format 99 = .ok (.aload_n 0, 1) := dk_42 (dk_at dksX6_format_4 7 rfl rfl)
theorem dX6_format_100 : decode cX6_format 100 = .ok (.bipush 41, 2) := dk_16 41 (dk_at dksX6_format_4 8 rfl rfl)
theorem dX6_format_102 : decode cX6_format 102 = .ok (.invokevirtual 439, 3) := dk_182 1 183 (dk_at dksX6_format_4 10 rfl rfl)
theorem dX6_format_105 : decode cX6_format 105 = .ok (.aload_n 0, 1) := dk_42 (dk_at dksX6_format_4 13 rfl rfl)
theorem dX6_format_106 : decode cX6_format 106 = .ok (.bipush 32, 2) := dk_16 32 (dk_at dksX6_format_4 14 rfl rfl)
theorem dX6_format_108 : decode cX6_format 108 = .ok (.invokevirtual 439, 3) := dk_182 1 183 (dk_at dksX6_format_4 16 rfl rfl)
theorem dX6_format_111 : decode cX6_format 111 = .ok (.aload_n 0, 1) := dk_42 (dk_at dksX6_format_4 19 rfl rfl)
theorem dX6_format_112 : decode cX6_format 112 = .ok (.bipush 91, 2) := dk_16 91 (dk_at dksX6_format_4 20 rfl rfl)
theorem dX6_format_114 : decode cX6_format 114 = .ok (.invokevirtual 439, 3) := dk_182 1 183 (dk_at dksX6_format_5 0 rfl rfl)
theorem dX6_format_117 : decode cX6_format 117 = .ok (.aload_n 0, 1) := dk_42 (dk_at dksX6_format_5 3 rfl rfl)
theorem dX6_format_118 : decode cX6_format 118 = .ok (.aload_n 0, 1) := dk_42 (dk_at dksX6_format_5 4 rfl rfl)
theorem dX6_format_119 : decode cX6_format 119 = .ok (.getfield 7, 3) := dk_180 0 7 (dk_at dksX6_format_5 5 rfl rfl)
theorem dX6_format_122 : decode cX6_format 122 = .ok (.iload_n 1, 1) := dk_27 (dk_at dksX6_format_5 8 rfl rfl)
theorem dX6_format_123 : decode cX6_format 123 = .ok (.iconst 3, 1) := dk_6 (dk_at dksX6_format_5 9 rfl rfl)
theorem dX6_format_124 : decode cX6_format 124 = .ok (.invokestatic 79, 3) := dk_184 0 79 (dk_at dksX6_format_5 10 rfl rfl)
theorem dX6_format_127 : decode cX6_format 127 = .ok (.laload, 1) := dk_47 (dk_at dksX6_format_5 13 rfl rfl)
theorem dX6_format_128 : decode cX6_format 128 = .ok (.invokevirtual 444, 3) := dk_182 1 188 (dk_at dksX6_format_5 14 rfl rfl)
theorem dX6_format_131 : decode cX6_format 131 = .ok (.aload_n 0, 1) := dk_42 (dk_at dksX6_format_5 17 rfl rfl)
theorem dX6_format_132 : decode cX6_format 132 = .ok (.bipush 32, 2) := dk_16 32 (dk_at dksX6_format_5 18 rfl rfl)
theorem dX6_format_134 : decode cX6_format 134 = .ok (.invokevirtual 439, 3) := dk_182 1 183 (dk_at dksX6_format_5 20 rfl rfl)
theorem dX6_format_137 : decode cX6_format 137 = .ok (.aload_n 0, 1) := dk_42 (dk_at dksX6_format_5 23 rfl rfl)
theorem dX6_format_138 : decode cX6_format 138 = .ok (.aload_n 0, 1) := dk_42 (dk_at dksX6_format_6 0 rfl rfl)
theorem dX6_format_139 : decode cX6_format 139 = .ok (.getfield 7, 3) := dk_180 0 7 (dk_at dksX6_format_6 1 rfl rfl)
theorem dX6_format_142 : decode cX6_format 142 = .ok (.iload_n 1, 1) := dk_27 (dk_at dksX6_format_6 4 rfl rfl)
theorem dX6_format_143 : decode cX6_format 143 = .ok (.iconst 4, 1) := dk_7 (dk_at dksX6_format_6 5 rfl rfl)
theorem dX6_format_144 : decode cX6_format 144 = .ok (.invokestatic 79, 3) := dk_184 0 79 (dk_at dksX6_format_6 6 rfl rfl)
theorem dX6_format_147 : decode cX6_format 147 = .ok (.laload, 1) := dk_47 (dk_at dksX6_format_6 9 rfl rfl)
theorem dX6_format_148 : decode cX6_format 148 = .ok (.invokevirtual 444, 3) := dk_182 1 188 (dk_at dksX6_format_6 10 rfl rfl)
theorem dX6_format_151 : decode cX6_format 151 = .ok (.aload_n 0, 1) := dk_42 (dk_at dksX6_format_6 13 rfl rfl)
theorem dX6_format_152 : decode cX6_format 152 = .ok (.bipush 93, 2) := dk_16 93 (dk_at dksX6_format_6 14 rfl rfl)
theorem dX6_format_154 : decode cX6_format 154 = .ok (.invokevirtual 439, 3) := dk_182 1 183 (dk_at dksX6_format_6 16 rfl rfl)
theorem dX6_format_157 : decode cX6_format 157 = .ok (.aload_n 0, 1) := dk_42 (dk_at dksX6_format_6 19 rfl rfl)
theorem dX6_format_158 : decode cX6_format 158 = .ok (.getfield 436, 3) := dk_180 1 180 (dk_at dksX6_format_6 20 rfl rfl)
theorem dX6_format_161 : decode cX6_format 161 = .ok (.ireturn, 1) := dk_172 (dk_at dksX6_format_6 23 rfl rfl)
abbrev cX6_says : ByteArray := prog_25_method_113_code
def yX6_says : MethodName := ⟨RX6, "says", "(I)V"⟩
def dkwX6_says_0 : List UInt8 := [42, 180, 0, 63, 42, 180, 1, 180, 27, 145, 84, 42, 89, 180, 1, 180, 4, 96, 181, 1, 180, 177]
abbrev dktX6_says_0 : List UInt8 := dkwX6_says_0 ++ []
theorem dksX6_says_0 : cX6_says.data.toList.drop 0 = dktX6_says_0 := by decide +kernel
theorem dX6_says_0 : decode cX6_says 0 = .ok (.aload_n 0, 1) := dk_42 (dk_at dksX6_says_0 0 rfl rfl)
theorem dX6_says_1 : decode cX6_says 1 = .ok (.getfield 63, 3) := dk_180 0 63 (dk_at dksX6_says_0 1 rfl rfl)
theorem dX6_says_4 : decode cX6_says 4 = .ok (.aload_n 0, 1) := dk_42 (dk_at dksX6_says_0 4 rfl rfl)
theorem dX6_says_5 : decode cX6_says 5 = .ok (.getfield 436, 3) := dk_180 1 180 (dk_at dksX6_says_0 5 rfl rfl)
theorem dX6_says_8 : decode cX6_says 8 = .ok (.iload_n 1, 1) := dk_27 (dk_at dksX6_says_0 8 rfl rfl)
theorem dX6_says_9 : decode cX6_says 9 = .ok (.i2b, 1) := dk_145 (dk_at dksX6_says_0 9 rfl rfl)
theorem dX6_says_10 : decode cX6_says 10 = .ok (.bastore, 1) := dk_84 (dk_at dksX6_says_0 10 rfl rfl)
theorem dX6_says_11 : decode cX6_says 11 = .ok (.aload_n 0, 1) := dk_42 (dk_at dksX6_says_0 11 rfl rfl)
theorem dX6_says_12 : decode cX6_says 12 = .ok (.dup, 1) := dk_89 (dk_at dksX6_says_0 12 rfl rfl)
theorem dX6_says_13 : decode cX6_says 13 = .ok (.getfield 436, 3) := dk_180 1 180 (dk_at dksX6_says_0 13 rfl rfl)
theorem dX6_says_16 : decode cX6_says 16 = .ok (.iconst 1, 1) := dk_4 (dk_at dksX6_says_0 16 rfl rfl)
theorem dX6_says_17 : decode cX6_says 17 = .ok (.iadd, 1) := dk_96 (dk_at dksX6_says_0 17 rfl rfl)
theorem dX6_says_18 : decode cX6_says 18 = .ok (.putfield 436, 3) := dk_181 1 180 (dk_at dksX6_says_0 18 rfl rfl)
theorem dX6_says_21 : decode cX6_says 21 = .ok (.return_, 1) := dk_177 (dk_at dksX6_says_0 21 rfl rfl)
abbrev cX6_saysNumber : ByteArray := prog_25_method_114_code
def yX6_saysNumber : MethodName := ⟨RX6, "saysNumber", "(J)V"⟩
def dkwX6_saysNumber_3 : List UInt8 := [20, 0, 91, 109, 55, 5, 167, 255, 224, 177]
abbrev dktX6_saysNumber_3 : List UInt8 := dkwX6_saysNumber_3 ++ []
def dkwX6_saysNumber_2 : List UInt8 := [158, 0, 31, 42, 20, 0, 155, 33, 22, 5, 109, 20, 0, 91, 113, 97, 136, 182, 1, 183, 22, 5]
abbrev dktX6_saysNumber_2 : List UInt8 := dkwX6_saysNumber_2 ++ dktX6_saysNumber_3
def dkwX6_saysNumber_1 : List UInt8 := [20, 1, 186, 148, 158, 0, 14, 22, 5, 20, 0, 91, 105, 55, 5, 167, 255, 237, 22, 5, 9, 148]
abbrev dktX6_saysNumber_1 : List UInt8 := dkwX6_saysNumber_1 ++ dktX6_saysNumber_2
def dkwX6_saysNumber_0 : List UInt8 := [31, 9, 148, 156, 0, 9, 42, 16, 45, 182, 1, 183, 31, 184, 1, 98, 66, 10, 55, 5, 33, 22, 5, 109]
abbrev dktX6_saysNumber_0 : List UInt8 := dkwX6_saysNumber_0 ++ dktX6_saysNumber_1
theorem dksX6_saysNumber_0 : cX6_saysNumber.data.toList.drop 0 = dktX6_saysNumber_0 := by decide +kernel
theorem dksX6_saysNumber_1 : cX6_saysNumber.data.toList.drop 24 = dktX6_saysNumber_1 := dk_seg dksX6_saysNumber_0 24 rfl rfl
theorem dksX6_saysNumber_2 : cX6_saysNumber.data.toList.drop 46 = dktX6_saysNumber_2 := dk_seg dksX6_saysNumber_1 22 rfl rfl
theorem dksX6_saysNumber_3 : cX6_saysNumber.data.toList.drop 68 = dktX6_saysNumber_3 := dk_seg dksX6_saysNumber_2 22 rfl rfl
theorem dX6_saysNumber_0 : decode cX6_saysNumber 0 = .ok (.lload_n 1, 1) := dk_31 (dk_at dksX6_saysNumber_0 0 rfl rfl)
theorem dX6_saysNumber_1 : decode cX6_saysNumber 1 = .ok (.lconst 0, 1) := dk_9 (dk_at dksX6_saysNumber_0 1 rfl rfl)
theorem dX6_saysNumber_2 : decode cX6_saysNumber 2 = .ok (.lcmp, 1) := dk_148 (dk_at dksX6_saysNumber_0 2 rfl rfl)
theorem dX6_saysNumber_3 : decode cX6_saysNumber 3 = .ok (.ifCond .ge 9, 3) := dk_156 0 9 (dk_at dksX6_saysNumber_0 3 rfl rfl)
theorem dX6_saysNumber_6 : decode cX6_saysNumber 6 = .ok (.aload_n 0, 1) := dk_42 (dk_at dksX6_saysNumber_0 6 rfl rfl)
theorem dX6_saysNumber_7 : decode cX6_saysNumber 7 = .ok (.bipush 45, 2) := dk_16 45 (dk_at dksX6_saysNumber_0 7 rfl rfl)
theorem dX6_saysNumber_9 : decode cX6_saysNumber 9 = .ok (.invokevirtual 439, 3) := dk_182 1 183 (dk_at dksX6_saysNumber_0 9 rfl rfl)
theorem dX6_saysNumber_12 : decode cX6_saysNumber 12 = .ok (.lload_n 1, 1) := dk_31 (dk_at dksX6_saysNumber_0 12 rfl rfl)
theorem dX6_saysNumber_13 : decode cX6_saysNumber 13 = .ok (.invokestatic 354, 3) := dk_184 1 98 (dk_at dksX6_saysNumber_0 13 rfl rfl)
theorem dX6_saysNumber_16 : decode cX6_saysNumber 16 = .ok (.lstore_n 3, 1) := dk_66 (dk_at dksX6_saysNumber_0 16 rfl rfl)
theorem dX6_saysNumber_17 : decode cX6_saysNumber 17 = .ok (.lconst 1, 1) := dk_10 (dk_at dksX6_saysNumber_0 17 rfl rfl)
theorem dX6_saysNumber_18 : decode cX6_saysNumber 18 = .ok (.lstore 5, 2) := dk_55 5 (dk_at dksX6_saysNumber_0 18 rfl rfl)
theorem dX6_saysNumber_20 : decode cX6_saysNumber 20 = .ok (.lload_n 3, 1) := dk_33 (dk_at dksX6_saysNumber_0 20 rfl rfl)
theorem dX6_saysNumber_21 : decode cX6_saysNumber 21 = .ok (.lload 5, 2) := dk_22 5 (dk_at dksX6_saysNumber_0 21 rfl rfl)
theorem dX6_saysNumber_23 : decode cX6_saysNumber 23 = .ok (.ldiv, 1) := dk_109 (dk_at dksX6_saysNumber_0 23 rfl rfl)
theorem dX6_saysNumber_24 : decode cX6_saysNumber 24 = .ok (.ldc2_w 442, 3) := dk_20 1 186 (dk_at dksX6_saysNumber_1 0 rfl rfl)
theorem dX6_saysNumber_27 : decode cX6_saysNumber 27 = .ok (.lcmp, 1) := dk_148 (dk_at dksX6_saysNumber_1 3 rfl rfl)
theorem dX6_saysNumber_28 : decode cX6_saysNumber 28 = .ok (.ifCond .le 14, 3) := dk_158 0 14 (dk_at dksX6_saysNumber_1 4 rfl rfl)
theorem dX6_saysNumber_31 : decode cX6_saysNumber 31 = .ok (.lload 5, 2) := dk_22 5 (dk_at dksX6_saysNumber_1 7 rfl rfl)
theorem dX6_saysNumber_33 : decode cX6_saysNumber 33 = .ok (.ldc2_w 91, 3) := dk_20 0 91 (dk_at dksX6_saysNumber_1 9 rfl rfl)
theorem dX6_saysNumber_36 : decode cX6_saysNumber 36 = .ok (.lmul, 1) := dk_105 (dk_at dksX6_saysNumber_1 12 rfl rfl)
theorem dX6_saysNumber_37 : decode cX6_saysNumber 37 = .ok (.lstore 5, 2) := dk_55 5 (dk_at dksX6_saysNumber_1 13 rfl rfl)
theorem dX6_saysNumber_39 : decode cX6_saysNumber 39 = .ok (.goto (-19), 3) := dk_167 255 237 (dk_at dksX6_saysNumber_1 15 rfl rfl)
theorem dX6_saysNumber_42 : decode cX6_saysNumber 42 = .ok (.lload 5, 2) := dk_22 5 (dk_at dksX6_saysNumber_1 18 rfl rfl)
theorem dX6_saysNumber_44 : decode cX6_saysNumber 44 = .ok (.lconst 0, 1) := dk_9 (dk_at dksX6_saysNumber_1 20 rfl rfl)
theorem dX6_saysNumber_45 : decode cX6_saysNumber 45 = .ok (.lcmp, 1) := dk_148 (dk_at dksX6_saysNumber_1 21 rfl rfl)
theorem dX6_saysNumber_46 : decode cX6_saysNumber 46 = .ok (.ifCond .le 31, 3) := dk_158 0 31 (dk_at dksX6_saysNumber_2 0 rfl rfl)
theorem dX6_saysNumber_49 : decode cX6_saysNumber 49 = .ok (.aload_n 0, 1) := dk_42 (dk_at dksX6_saysNumber_2 3 rfl rfl)
theorem dX6_saysNumber_50 : decode cX6_saysNumber 50 = .ok (.ldc2_w 155, 3) := dk_20 0 155 (dk_at dksX6_saysNumber_2 4 rfl rfl)
theorem dX6_saysNumber_53 : decode cX6_saysNumber 53 = .ok (.lload_n 3, 1) := dk_33 (dk_at dksX6_saysNumber_2 7 rfl rfl)
theorem dX6_saysNumber_54 : decode cX6_saysNumber 54 = .ok (.lload 5, 2) := dk_22 5 (dk_at dksX6_saysNumber_2 8 rfl rfl)
theorem dX6_saysNumber_56 : decode cX6_saysNumber 56 = .ok (.ldiv, 1) := dk_109 (dk_at dksX6_saysNumber_2 10 rfl rfl)
theorem dX6_saysNumber_57 : decode cX6_saysNumber 57 = .ok (.ldc2_w 91, 3) := dk_20 0 91 (dk_at dksX6_saysNumber_2 11 rfl rfl)
theorem dX6_saysNumber_60 : decode cX6_saysNumber 60 = .ok (.lrem, 1) := dk_113 (dk_at dksX6_saysNumber_2 14 rfl rfl)
theorem dX6_saysNumber_61 : decode cX6_saysNumber 61 = .ok (.ladd, 1) := dk_97 (dk_at dksX6_saysNumber_2 15 rfl rfl)
theorem dX6_saysNumber_62 : decode cX6_saysNumber 62 = .ok (.l2i, 1) := dk_136 (dk_at dksX6_saysNumber_2 16 rfl rfl)
theorem dX6_saysNumber_63 : decode cX6_saysNumber 63 = .ok (.invokevirtual 439, 3) := dk_182 1 183 (dk_at dksX6_saysNumber_2 17 rfl rfl)
theorem dX6_saysNumber_66 : decode cX6_saysNumber 66 = .ok (.lload 5, 2) := dk_22 5 (dk_at dksX6_saysNumber_2 20 rfl rfl)
theorem dX6_saysNumber_68 : decode cX6_saysNumber 68 = .ok (.ldc2_w 91, 3) := dk_20 0 91 (dk_at dksX6_saysNumber_3 0 rfl rfl)
theorem dX6_saysNumber_71 : decode cX6_saysNumber 71 = .ok (.ldiv, 1) := dk_109 (dk_at dksX6_saysNumber_3 3 rfl rfl)
theorem dX6_saysNumber_72 : decode cX6_saysNumber 72 = .ok (.lstore 5, 2) := dk_55 5 (dk_at dksX6_saysNumber_3 4 rfl rfl)
theorem dX6_saysNumber_74 : decode cX6_saysNumber 74 = .ok (.goto (-32), 3) := dk_167 255 224 (dk_at dksX6_saysNumber_3 6 rfl rfl)
theorem dX6_saysNumber_77 : decode cX6_saysNumber 77 = .ok (.return_, 1) := dk_177 (dk_at dksX6_saysNumber_3 9 rfl rfl)
abbrev cX6_formattedByte : ByteArray := prog_25_method_116_code
def yX6_formattedByte : MethodName := ⟨RX6, "formattedByte", "(I)I"⟩
def dkwX6_formattedByte_1 : List UInt8 := [180, 0, 63, 27, 51, 167, 0, 4, 2, 172]
abbrev dktX6_formattedByte_1 : List UInt8 := dkwX6_formattedByte_1 ++ []
def dkwX6_formattedByte_0 : List UInt8 := [42, 3, 181, 0, 88, 27, 133, 9, 42, 180, 1, 180, 4, 100, 133, 184, 0, 183, 153, 0, 12, 42]
abbrev dktX6_formattedByte_0 : List UInt8 := dkwX6_formattedByte_0 ++ dktX6_formattedByte_1
theorem dksX6_formattedByte_0 : cX6_formattedByte.data.toList.drop 0 = dktX6_formattedByte_0 := by decide +kernel
theorem dksX6_formattedByte_1 : cX6_formattedByte.data.toList.drop 22 = dktX6_formattedByte_1 := dk_seg dksX6_formattedByte_0 22 rfl rfl
theorem dX6_formattedByte_0 : decode cX6_formattedByte 0 = .ok (.aload_n 0, 1) := dk_42 (dk_at dksX6_formattedByte_0 0 rfl rfl)
theorem dX6_formattedByte_1 : decode cX6_formattedByte 1 = .ok (.iconst 0, 1) := dk_3 (dk_at dksX6_formattedByte_0 1 rfl rfl)
theorem dX6_formattedByte_2 : decode cX6_formattedByte 2 = .ok (.putfield 88, 3) := dk_181 0 88 (dk_at dksX6_formattedByte_0 2 rfl rfl)
theorem dX6_formattedByte_5 : decode cX6_formattedByte 5 = .ok (.iload_n 1, 1) := dk_27 (dk_at dksX6_formattedByte_0 5 rfl rfl)
theorem dX6_formattedByte_6 : decode cX6_formattedByte 6 = .ok (.i2l, 1) := dk_133 (dk_at dksX6_formattedByte_0 6 rfl rfl)
theorem dX6_formattedByte_7 : decode cX6_formattedByte 7 = .ok (.lconst 0, 1) := dk_9 (dk_at dksX6_formattedByte_0 7 rfl rfl)
theorem dX6_formattedByte_8 : decode cX6_formattedByte 8 = .ok (.aload_n 0, 1) := dk_42 (dk_at dksX6_formattedByte_0 8 rfl rfl)
theorem dX6_formattedByte_9 : decode cX6_formattedByte 9 = .ok (.getfield 436, 3) := dk_180 1 180 (dk_at dksX6_formattedByte_0 9 rfl rfl)
theorem dX6_formattedByte_12 : decode cX6_formattedByte 12 = .ok (.iconst 1, 1) := dk_4 (dk_at dksX6_formattedByte_0 12 rfl rfl)
theorem dX6_formattedByte_13 : decode cX6_formattedByte 13 = .ok (.isub, 1) := dk_100 (dk_at dksX6_formattedByte_0 13 rfl rfl)
theorem dX6_formattedByte_14 : decode cX6_formattedByte 14 = .ok (.i2l, 1) := dk_133 (dk_at dksX6_formattedByte_0 14 rfl rfl)
theorem dX6_formattedByte_15 : decode cX6_formattedByte 15 = .ok (.invokestatic 183, 3) := dk_184 0 183 (dk_at dksX6_formattedByte_0 15 rfl rfl)
theorem dX6_formattedByte_18 : decode cX6_formattedByte 18 = .ok (.ifCond .eq 12, 3) := dk_153 0 12 (dk_at dksX6_formattedByte_0 18 rfl rfl)
theorem dX6_formattedByte_21 : decode cX6_formattedByte 21 = .ok (.aload_n 0, 1) := dk_42 (dk_at dksX6_formattedByte_0 21 rfl rfl)
theorem dX6_formattedByte_22 : decode cX6_formattedByte 22 = .ok (.getfield 63, 3) := dk_180 0 63 (dk_at dksX6_formattedByte_1 0 rfl rfl)
theorem dX6_formattedByte_25 : decode cX6_formattedByte 25 = .ok (.iload_n 1, 1) := dk_27 (dk_at dksX6_formattedByte_1 3 rfl rfl)
theorem dX6_formattedByte_26 : decode cX6_formattedByte 26 = .ok (.baload, 1) := dk_51 (dk_at dksX6_formattedByte_1 4 rfl rfl)
theorem dX6_formattedByte_27 : decode cX6_formattedByte 27 = .ok (.goto 4, 3) := dk_167 0 4 (dk_at dksX6_formattedByte_1 5 rfl rfl)
theorem dX6_formattedByte_30 : decode cX6_formattedByte 30 = .ok (.iconst (-1), 1) := dk_2 (dk_at dksX6_formattedByte_1 8 rfl rfl)
theorem dX6_formattedByte_31 : decode cX6_formattedByte 31 = .ok (.ireturn, 1) := dk_172 (dk_at dksX6_formattedByte_1 9 rfl rfl)
abbrev cX6_query : ByteArray := prog_25_method_129_code
def yX6_query : MethodName := ⟨RX6, "query", "(I)I"⟩
def dkwX6_query_6 : List UInt8 := [153, 0, 7, 2, 167, 0, 4, 29, 172]
abbrev dktX6_query_6 : List UInt8 := dkwX6_query_6 ++ []
def dkwX6_query_5 : List UInt8 := [154, 0, 6, 167, 0, 13, 28, 153, 0, 6, 21, 4, 172, 132, 3, 1, 132, 4, 1, 167, 255, 218, 28]
abbrev dktX6_query_5 : List UInt8 := dkwX6_query_5 ++ dktX6_query_6
def dkwX6_query_4 : List UInt8 := [3, 62, 3, 54, 4, 21, 4, 133, 42, 180, 0, 7, 8, 47, 148, 156, 0, 31, 42, 21, 4, 182, 2, 3]
abbrev dktX6_query_4 : List UInt8 := dkwX6_query_4 ++ dktX6_query_5
def dkwX6_query_3 : List UInt8 := [182, 0, 180, 87, 42, 182, 2, 0, 42, 182, 0, 169, 154, 0, 12, 19, 1, 178, 42, 180, 0, 163, 100, 172]
abbrev dktX6_query_3 : List UInt8 := dkwX6_query_3 ++ dktX6_query_4
def dkwX6_query_2 : List UInt8 := [20, 1, 252, 182, 0, 191, 61, 28, 154, 0, 19, 42, 20, 1, 254, 182, 0, 191, 154, 0, 9, 42, 4]
abbrev dktX6_query_2 : List UInt8 := dkwX6_query_2 ++ dktX6_query_3
def dkwX6_query_1 : List UInt8 := [167, 0, 6, 20, 1, 250, 184, 0, 183, 4, 182, 0, 236, 153, 0, 5, 3, 172, 42, 27, 182, 0, 240, 42]
abbrev dktX6_query_1 : List UInt8 := dkwX6_query_1 ++ dktX6_query_2
def dkwX6_query_0 : List UInt8 := [42, 3, 181, 0, 88, 42, 27, 133, 9, 42, 180, 0, 113, 17, 0, 200, 162, 0, 11, 42, 180, 0, 113, 133]
abbrev dktX6_query_0 : List UInt8 := dkwX6_query_0 ++ dktX6_query_1
theorem dksX6_query_0 : cX6_query.data.toList.drop 0 = dktX6_query_0 := by decide +kernel
theorem dksX6_query_1 : cX6_query.data.toList.drop 24 = dktX6_query_1 := dk_seg dksX6_query_0 24 rfl rfl
theorem dksX6_query_2 : cX6_query.data.toList.drop 48 = dktX6_query_2 := dk_seg dksX6_query_1 24 rfl rfl
theorem dksX6_query_3 : cX6_query.data.toList.drop 71 = dktX6_query_3 := dk_seg dksX6_query_2 23 rfl rfl
theorem dksX6_query_4 : cX6_query.data.toList.drop 95 = dktX6_query_4 := dk_seg dksX6_query_3 24 rfl rfl
theorem dksX6_query_5 : cX6_query.data.toList.drop 119 = dktX6_query_5 := dk_seg dksX6_query_4 24 rfl rfl
theorem dksX6_query_6 : cX6_query.data.toList.drop 142 = dktX6_query_6 := dk_seg dksX6_query_5 23 rfl rfl
theorem dX6_query_0 : decode cX6_query 0 = .ok (.aload_n 0, 1) := dk_42 (dk_at dksX6_query_0 0 rfl rfl)
theorem dX6_query_1 : decode cX6_query 1 = .ok (.iconst 0, 1) := dk_3 (dk_at dksX6_query_0 1 rfl rfl)
theorem dX6_query_2 : decode cX6_query 2 = .ok (.putfield 88, 3) := dk_181 0 88 (dk_at dksX6_query_0 2 rfl rfl)
theorem dX6_query_5 : decode cX6_query 5 = .ok (.aload_n 0, 1) := dk_42 (dk_at dksX6_query_0 5 rfl rfl)
theorem dX6_query_6 : decode cX6_query 6 = .ok (.iload_n 1, 1) := dk_27 (dk_at dksX6_query_0 6 rfl rfl)
theorem dX6_query_7 : decode cX6_query 7 = .ok (.i2l, 1) := dk_133 (dk_at dksX6_query_0 7 rfl rfl)
theorem dX6_query_8 : decode cX6_query 8 = .ok (.lconst 0, 1) := dk_9 (dk_at dksX6_query_0 8 rfl rfl)
theorem dX6_query_9 : decode cX6_query 9 = .ok (.aload_n 0, 1) := dk_42 (dk_at dksX6_query_0 9 rfl rfl)
theorem dX6_query_10 : decode cX6_query 10 = .ok (.getfield 113, 3) := dk_180 0 113 (dk_at dksX6_query_0 10 rfl rfl)
theorem dX6_query_13 : decode cX6_query 13 = .ok (.sipush 200, 3) := dk_17 0 200 (dk_at dksX6_query_0 13 rfl rfl)
theorem dX6_query_16 : decode cX6_query 16 = .ok (.if_icmp .ge 11, 3) := dk_162 0 11 (dk_at dksX6_query_0 16 rfl rfl)
theorem dX6_query_19 : decode cX6_query 19 = .ok (.aload_n 0, 1) := dk_42 (dk_at dksX6_query_0 19 rfl rfl)
theorem dX6_query_20 : decode cX6_query 20 = .ok (.getfield 113, 3) := dk_180 0 113 (dk_at dksX6_query_0 20 rfl rfl)
theorem dX6_query_23 : decode cX6_query 23 = .ok (.i2l, 1) := dk_133 (dk_at dksX6_query_0 23 rfl rfl)
theorem dX6_query_24 : decode cX6_query 24 = .ok (.goto 6, 3) := dk_167 0 6 (dk_at dksX6_query_1 0 rfl rfl)
theorem dX6_query_27 : decode cX6_query 27 = .ok (.ldc2_w 506, 3) := dk_20 1 250 (dk_at dksX6_query_1 3 rfl rfl)
theorem dX6_query_30 : decode cX6_query 30 = .ok (.invokestatic 183, 3) := dk_184 0 183 (dk_at dksX6_query_1 6 rfl rfl)
theorem dX6_query_33 : decode cX6_query 33 = .ok (.iconst 1, 1) := dk_4 (dk_at dksX6_query_1 9 rfl rfl)
theorem dX6_query_34 : decode cX6_query 34 = .ok (.invokevirtual 236, 3) := dk_182 0 236 (dk_at dksX6_query_1 10 rfl rfl)
theorem dX6_query_37 : decode cX6_query 37 = .ok (.ifCond .eq 5, 3) := dk_153 0 5 (dk_at dksX6_query_1 13 rfl rfl)
theorem dX6_query_40 : decode cX6_query 40 = .ok (.iconst 0, 1) := dk_3 (dk_at dksX6_query_1 16 rfl rfl)
theorem dX6_query_41 : decode cX6_query 41 = .ok (.ireturn, 1) := dk_172 (dk_at dksX6_query_1 17 rfl rfl)
theorem dX6_query_42 : decode cX6_query 42 = .ok (.aload_n 0, 1) := dk_42 (dk_at dksX6_query_1 18 rfl rfl)
theorem dX6_query_43 : decode cX6_query 43 = .ok (.iload_n 1, 1) := dk_27 (dk_at dksX6_query_1 19 rfl rfl)
theorem dX6_query_44 : decode cX6_query 44 = .ok (.invokevirtual 240, 3) := dk_182 0 240 (dk_at dksX6_query_1 20 rfl rfl)
theorem dX6_query_47 : decode cX6_query 47 = .ok (.aload_n 0, 1) := dk_42 (dk_at dksX6_query_1 23 rfl rfl)
theorem dX6_query_48 : decode cX6_query 48 = .ok (.ldc2_w 508, 3) := dk_20 1 252 (dk_at dksX6_query_2 0 rfl rfl)
theorem dX6_query_51 : decode cX6_query 51 = .ok (.invokevirtual 191, 3) := dk_182 0 191 (dk_at dksX6_query_2 3 rfl rfl)
theorem dX6_query_54 : decode cX6_query 54 = .ok (.istore_n 2, 1) := dk_61 (dk_at dksX6_query_2 6 rfl rfl)
theorem dX6_query_55 : decode cX6_query 55 = .ok (.iload_n 2, 1) := dk_28 (dk_at dksX6_query_2 7 rfl rfl)
theorem dX6_query_56 : decode cX6_query 56 = .ok (.ifCond .ne 19, 3) := dk_154 0 19 (dk_at dksX6_query_2 8 rfl rfl)
theorem dX6_query_59 : decode cX6_query 59 = .ok (.aload_n 0, 1) := dk_42 (dk_at dksX6_query_2 11 rfl rfl)
theorem dX6_query_60 : decode cX6_query 60 = .ok (.ldc2_w 510, 3) := dk_20 1 254 (dk_at dksX6_query_2 12 rfl rfl)
theorem dX6_query_63 : decode cX6_query 63 = .ok (.invokevirtual 191, 3) := dk_182 0 191 (dk_at dksX6_query_2 15 rfl rfl)
theorem dX6_query_66 : decode cX6_query 66 = .ok (.ifCond .ne 9, 3) := dk_154 0 9 (dk_at dksX6_query_2 18 rfl rfl)
theorem dX6_query_69 : decode cX6_query 69 = .ok (.aload_n 0, 1) := dk_42 (dk_at dksX6_query_2 21 rfl rfl)
theorem dX6_query_70 : decode cX6_query 70 = .ok (.iconst 1, 1) := dk_4 (dk_at dksX6_query_2 22 rfl rfl)
theorem dX6_query_71 : decode cX6_query 71 = .ok (.invokevirtual 180, 3) := dk_182 0 180 (dk_at dksX6_query_3 0 rfl rfl)
theorem dX6_query_74 : decode cX6_query 74 = .ok (.pop, 1) := dk_87 (dk_at dksX6_query_3 3 rfl rfl)
theorem dX6_query_75 : decode cX6_query 75 = .ok (.aload_n 0, 1) := dk_42 (dk_at dksX6_query_3 4 rfl rfl)
theorem dX6_query_76 : decode cX6_query 76 = .ok (.invokevirtual 512, 3) := dk_182 2 0 (dk_at dksX6_query_3 5 rfl rfl)
theorem dX6_query_79 : decode cX6_query 79 = .ok (.aload_n 0, 1) := dk_42 (dk_at dksX6_query_3 8 rfl rfl)
theorem dX6_query_80 : decode cX6_query 80 = .ok (.invokevirtual 169, 3) := dk_182 0 169 (dk_at dksX6_query_3 9 rfl rfl)
theorem dX6_query_83 : decode cX6_query 83 = .ok (.ifCond .ne 12, 3) := dk_154 0 12 (dk_at dksX6_query_3 12 rfl rfl)
theorem dX6_query_86 : decode cX6_query 86 = .ok (.ldc_w 434, 3) := dk_19 1 178 (dk_at dksX6_query_3 15 rfl rfl)
theorem dX6_query_89 : decode cX6_query 89 = .ok (.aload_n 0, 1) := dk_42 (dk_at dksX6_query_3 18 rfl rfl)
theorem dX6_query_90 : decode cX6_query 90 = .ok (.getfield 163, 3) := dk_180 0 163 (dk_at dksX6_query_3 19 rfl rfl)
theorem dX6_query_93 : decode cX6_query 93 = .ok (.isub, 1) := dk_100 (dk_at dksX6_query_3 22 rfl rfl)
theorem dX6_query_94 : decode cX6_query 94 = .ok (.ireturn, 1) := dk_172 (dk_at dksX6_query_3 23 rfl rfl)
theorem dX6_query_95 : decode cX6_query 95 = .ok (.iconst 0, 1) := dk_3 (dk_at dksX6_query_4 0 rfl rfl)
theorem dX6_query_96 : decode cX6_query 96 = .ok (.istore_n 3, 1) := dk_62 (dk_at dksX6_query_4 1 rfl rfl)
theorem dX6_query_97 : decode cX6_query 97 = .ok (.iconst 0, 1) := dk_3 (dk_at dksX6_query_4 2 rfl rfl)
theorem dX6_query_98 : decode cX6_query 98 = .ok (.istore 4, 2) := dk_54 4 (dk_at dksX6_query_4 3 rfl rfl)
theorem dX6_query_100 : decode cX6_query 100 = .ok (.iload 4, 2) := dk_21 4 (dk_at dksX6_query_4 5 rfl rfl)
theorem dX6_query_102 : decode cX6_query 102 = .ok (.i2l, 1) := dk_133 (dk_at dksX6_query_4 7 rfl rfl)
theorem dX6_query_103 : decode cX6_query 103 = .ok (.aload_n 0, 1) := dk_42 (dk_at dksX6_query_4 8 rfl rfl)
theorem dX6_query_104 : decode cX6_query 104 = .ok (.getfield 7, 3) := dk_180 0 7 (dk_at dksX6_query_4 9 rfl rfl)
theorem dX6_query_107 : decode cX6_query 107 = .ok (.iconst 5, 1) := dk_8 (dk_at dksX6_query_4 12 rfl rfl)
theorem dX6_query_108 : decode cX6_query 108 = .ok (.laload, 1) := dk_47 (dk_at dksX6_query_4 13 rfl rfl)
theorem dX6_query_109 : decode cX6_query 109 = .ok (.lcmp, 1) := dk_148 (dk_at dksX6_query_4 14 rfl rfl)
theorem dX6_query_110 : decode cX6_query 110 = .ok (.ifCond .ge 31, 3) := dk_156 0 31 (dk_at dksX6_query_4 15 rfl rfl)
theorem dX6_query_113 : decode cX6_query 113 = .ok (.aload_n 0, 1) := dk_42 (dk_at dksX6_query_4 18 rfl rfl)
theorem dX6_query_114 : decode cX6_query 114 = .ok (.iload 4, 2) := dk_21 4 (dk_at dksX6_query_4 19 rfl rfl)
theorem dX6_query_116 : decode cX6_query 116 = .ok (.invokevirtual 515, 3) := dk_182 2 3 (dk_at dksX6_query_4 21 rfl rfl)
theorem dX6_query_119 : decode cX6_query 119 = .ok (.ifCond .ne 6, 3) := dk_154 0 6 (dk_at dksX6_query_5 0 rfl rfl)
theorem dX6_query_122 : decode cX6_query 122 = .ok (.goto 13, 3) := dk_167 0 13 (dk_at dksX6_query_5 3 rfl rfl)
theorem dX6_query_125 : decode cX6_query 125 = .ok (.iload_n 2, 1) := dk_28 (dk_at dksX6_query_5 6 rfl rfl)
theorem dX6_query_126 : decode cX6_query 126 = .ok (.ifCond .eq 6, 3) := dk_153 0 6 (dk_at dksX6_query_5 7 rfl rfl)
theorem dX6_query_129 : decode cX6_query 129 = .ok (.iload 4, 2) := dk_21 4 (dk_at dksX6_query_5 10 rfl rfl)
theorem dX6_query_131 : decode cX6_query 131 = .ok (.ireturn, 1) := dk_172 (dk_at dksX6_query_5 12 rfl rfl)
theorem dX6_query_132 : decode cX6_query 132 = .ok (.iinc 3 1, 3) := dk_132 3 1 (dk_at dksX6_query_5 13 rfl rfl)
theorem dX6_query_135 : decode cX6_query 135 = .ok (.iinc 4 1, 3) := dk_132 4 1 (dk_at dksX6_query_5 16 rfl rfl)
theorem dX6_query_138 : decode cX6_query 138 = .ok (.goto (-38), 3) := dk_167 255 218 (dk_at dksX6_query_5 19 rfl rfl)
theorem dX6_query_141 : decode cX6_query 141 = .ok (.iload_n 2, 1) := dk_28 (dk_at dksX6_query_5 22 rfl rfl)
theorem dX6_query_142 : decode cX6_query 142 = .ok (.ifCond .eq 7, 3) := dk_153 0 7 (dk_at dksX6_query_6 0 rfl rfl)
theorem dX6_query_145 : decode cX6_query 145 = .ok (.iconst (-1), 1) := dk_2 (dk_at dksX6_query_6 3 rfl rfl)
theorem dX6_query_146 : decode cX6_query 146 = .ok (.goto 4, 3) := dk_167 0 4 (dk_at dksX6_query_6 4 rfl rfl)
theorem dX6_query_149 : decode cX6_query 149 = .ok (.iload_n 3, 1) := dk_29 (dk_at dksX6_query_6 7 rfl rfl)
theorem dX6_query_150 : decode cX6_query 150 = .ok (.ireturn, 1) := dk_172 (dk_at dksX6_query_6 8 rfl rfl)
abbrev cX6_reads : ByteArray := prog_25_method_126_code
def yX6_reads : MethodName := ⟨RX6, "reads", "()V"⟩
def dkwX6_reads_6 : List UInt8 := [153, 0, 9, 42, 4, 182, 0, 180, 87, 42, 4, 182, 1, 229, 177]
abbrev dktX6_reads_6 : List UInt8 := dkwX6_reads_6 ++ []
def dkwX6_reads_5 : List UInt8 := [182, 0, 166, 167, 255, 155, 42, 182, 0, 169, 153, 0, 23, 42, 182, 1, 232, 154, 0, 10, 42, 180, 0, 144]
abbrev dktX6_reads_5 : List UInt8 := dkwX6_reads_5 ++ dktX6_reads_6
def dkwX6_reads_4 : List UInt8 := [182, 1, 229, 42, 180, 0, 70, 42, 180, 1, 215, 28, 79, 42, 89, 180, 1, 215, 4, 96, 181, 1, 215, 42]
abbrev dktX6_reads_4 : List UInt8 := dkwX6_reads_4 ++ dktX6_reads_5
def dkwX6_reads_3 : List UInt8 := [61, 28, 153, 0, 7, 4, 167, 0, 4, 3, 60, 27, 154, 0, 6, 167, 255, 190, 42, 28, 184, 1, 218]
abbrev dktX6_reads_3 : List UInt8 := dkwX6_reads_3 ++ dktX6_reads_4
def dkwX6_reads_2 : List UInt8 := [153, 0, 8, 16, 24, 167, 0, 19, 42, 20, 1, 243, 182, 0, 173, 153, 0, 8, 16, 25, 167, 0, 4, 3]
abbrev dktX6_reads_2 : List UInt8 := dkwX6_reads_2 ++ dktX6_reads_3
def dkwX6_reads_1 : List UInt8 := [42, 182, 1, 235, 42, 182, 0, 169, 154, 0, 4, 177, 42, 182, 1, 238, 42, 20, 1, 241, 182, 0, 173]
abbrev dktX6_reads_1 : List UInt8 := dkwX6_reads_1 ++ dktX6_reads_2
def dkwX6_reads_0 : List UInt8 := [42, 3, 181, 1, 192, 42, 3, 181, 1, 212, 42, 3, 181, 1, 215, 42, 182, 0, 169, 60, 27, 153, 0, 103]
abbrev dktX6_reads_0 : List UInt8 := dkwX6_reads_0 ++ dktX6_reads_1
theorem dksX6_reads_0 : cX6_reads.data.toList.drop 0 = dktX6_reads_0 := by decide +kernel
theorem dksX6_reads_1 : cX6_reads.data.toList.drop 24 = dktX6_reads_1 := dk_seg dksX6_reads_0 24 rfl rfl
theorem dksX6_reads_2 : cX6_reads.data.toList.drop 47 = dktX6_reads_2 := dk_seg dksX6_reads_1 23 rfl rfl
theorem dksX6_reads_3 : cX6_reads.data.toList.drop 71 = dktX6_reads_3 := dk_seg dksX6_reads_2 24 rfl rfl
theorem dksX6_reads_4 : cX6_reads.data.toList.drop 94 = dktX6_reads_4 := dk_seg dksX6_reads_3 23 rfl rfl
theorem dksX6_reads_5 : cX6_reads.data.toList.drop 118 = dktX6_reads_5 := dk_seg dksX6_reads_4 24 rfl rfl
theorem dksX6_reads_6 : cX6_reads.data.toList.drop 142 = dktX6_reads_6 := dk_seg dksX6_reads_5 24 rfl rfl
theorem dX6_reads_0 : decode cX6_reads 0 = .ok (.aload_n 0, 1) := dk_42 (dk_at dksX6_reads_0 0 rfl rfl)
theorem dX6_reads_1 : decode cX6_reads 1 = .ok (.iconst 0, 1) := dk_3 (dk_at dksX6_reads_0 1 rfl rfl)
theorem dX6_reads_2 : decode cX6_reads 2 = .ok (.putfield 448, 3) := dk_181 1 192 (dk_at dksX6_reads_0 2 rfl rfl)
theorem dX6_reads_5 : decode cX6_reads 5 = .ok (.aload_n 0, 1) := dk_42 (dk_at dksX6_reads_0 5 rfl rfl)
theorem dX6_reads_6 : decode cX6_reads 6 = .ok (.iconst 0, 1) := dk_3 (dk_at dksX6_reads_0 6 rfl rfl)
theorem dX6_reads_7 : decode cX6_reads 7 = .ok (.putfield 468, 3) := dk_181 1 212 (dk_at dksX6_reads_0 7 rfl rfl)
theorem dX6_reads_10 : decode cX6_reads 10 = .ok (.aload_n 0, 1) := dk_42 (dk_at dksX6_reads_0 10 rfl rfl)
theorem dX6_reads_11 : decode cX6_reads 11 = .ok (.iconst 0, 1) := dk_3 (dk_at dksX6_reads_0 11 rfl rfl)
theorem dX6_reads_12 : decode cX6_reads 12 = .ok (.putfield 471, 3) := dk_181 1 215 (dk_at dksX6_reads_0 12 rfl rfl)
theorem dX6_reads_15 : decode cX6_reads 15 = .ok (.aload_n 0, 1) := dk_42 (dk_at dksX6_reads_0 15 rfl rfl)
theorem dX6_reads_16 : decode cX6_reads 16 = .ok (.invokevirtual 169, 3) := dk_182 0 169 (dk_at dksX6_reads_0 16 rfl rfl)
theorem dX6_reads_19 : decode cX6_reads 19 = .ok (.istore_n 1, 1) := dk_60 (dk_at dksX6_reads_0 19 rfl rfl)
theorem dX6_reads_20 : decode cX6_reads 20 = .ok (.iload_n 1, 1) := dk_27 (dk_at dksX6_reads_0 20 rfl rfl)
theorem dX6_reads_21 : decode cX6_reads 21 = .ok (.ifCond .eq 103, 3) := dk_153 0 103 (dk_at dksX6_reads_0 21 rfl rfl)
theorem dX6_reads_24 : decode cX6_reads 24 = .ok (.aload_n 0, 1) := dk_42 (dk_at dksX6_reads_1 0 rfl rfl)
theorem dX6_reads_25 : decode cX6_reads 25 = .ok (.invokevirtual 491, 3) := dk_182 1 235 (dk_at dksX6_reads_1 1 rfl rfl)
theorem dX6_reads_28 : decode cX6_reads 28 = .ok (.aload_n 0, 1) := dk_42 (dk_at dksX6_reads_1 4 rfl rfl)
theorem dX6_reads_29 : decode cX6_reads 29 = .ok (.invokevirtual 169, 3) := dk_182 0 169 (dk_at dksX6_reads_1 5 rfl rfl)
theorem dX6_reads_32 : decode cX6_reads 32 = .ok (.ifCond .ne 4, 3) := dk_154 0 4 (dk_at dksX6_reads_1 8 rfl rfl)
theorem dX6_reads_35 : decode cX6_reads 35 = .ok (.return_, 1) := dk_177 (dk_at dksX6_reads_1 11 rfl rfl)
theorem dX6_reads_36 : decode cX6_reads 36 = .ok (.aload_n 0, 1) := dk_42 (dk_at dksX6_reads_1 12 rfl rfl)
theorem dX6_reads_37 : decode cX6_reads 37 = .ok (.invokevirtual 494, 3) := dk_182 1 238 (dk_at dksX6_reads_1 13 rfl rfl)
theorem dX6_reads_40 : decode cX6_reads 40 = .ok (.aload_n 0, 1) := dk_42 (dk_at dksX6_reads_1 16 rfl rfl)
theorem dX6_reads_41 : decode cX6_reads 41 = .ok (.ldc2_w 497, 3) := dk_20 1 241 (dk_at dksX6_reads_1 17 rfl rfl)
theorem dX6_reads_44 : decode cX6_reads 44 = .ok (.invokevirtual 173, 3) := dk_182 0 173 (dk_at dksX6_reads_1 20 rfl rfl)
theorem dX6_reads_47 : decode cX6_reads 47 = .ok (.ifCond .eq 8, 3) := dk_153 0 8 (dk_at dksX6_reads_2 0 rfl rfl)
theorem dX6_reads_50 : decode cX6_reads 50 = .ok (.bipush 24, 2) := dk_16 24 (dk_at dksX6_reads_2 3 rfl rfl)
theorem dX6_reads_52 : decode cX6_reads 52 = .ok (.goto 19, 3) := dk_167 0 19 (dk_at dksX6_reads_2 5 rfl rfl)
theorem dX6_reads_55 : decode cX6_reads 55 = .ok (.aload_n 0, 1) := dk_42 (dk_at dksX6_reads_2 8 rfl rfl)
theorem dX6_reads_56 : decode cX6_reads 56 = .ok (.ldc2_w 499, 3) := dk_20 1 243 (dk_at dksX6_reads_2 9 rfl rfl)
theorem dX6_reads_59 : decode cX6_reads 59 = .ok (.invokevirtual 173, 3) := dk_182 0 173 (dk_at dksX6_reads_2 12 rfl rfl)
theorem dX6_reads_62 : decode cX6_reads 62 = .ok (.ifCond .eq 8, 3) := dk_153 0 8 (dk_at dksX6_reads_2 15 rfl rfl)
theorem dX6_reads_65 : decode cX6_reads 65 = .ok (.bipush 25, 2) := dk_16 25 (dk_at dksX6_reads_2 18 rfl rfl)
theorem dX6_reads_67 : decode cX6_reads 67 = .ok (.goto 4, 3) := dk_167 0 4 (dk_at dksX6_reads_2 20 rfl rfl)
theorem dX6_reads_70 : decode cX6_reads 70 = .ok (.iconst 0, 1) := dk_3 (dk_at dksX6_reads_2 23 rfl rfl)
theorem dX6_reads_71 : decode cX6_reads 71 = .ok (.istore_n 2, 1) := dk_61 (dk_at dksX6_reads_3 0 rfl rfl)
theorem dX6_reads_72 : decode cX6_reads 72 = .ok (.iload_n 2, 1) := dk_28 (dk_at dksX6_reads_3 1 rfl rfl)
theorem dX6_reads_73 : decode cX6_reads 73 = .ok (.ifCond .eq 7, 3) := dk_153 0 7 (dk_at dksX6_reads_3 2 rfl rfl)
theorem dX6_reads_76 : decode cX6_reads 76 = .ok (.iconst 1, 1) := dk_4 (dk_at dksX6_reads_3 5 rfl rfl)
theorem dX6_reads_77 : decode cX6_reads 77 = .ok (.goto 4, 3) := dk_167 0 4 (dk_at dksX6_reads_3 6 rfl rfl)
theorem dX6_reads_80 : decode cX6_reads 80 = .ok (.iconst 0, 1) := dk_3 (dk_at dksX6_reads_3 9 rfl rfl)
theorem dX6_reads_81 : decode cX6_reads 81 = .ok (.istore_n 1, 1) := dk_60 (dk_at dksX6_reads_3 10 rfl rfl)
theorem dX6_reads_82 : decode cX6_reads 82 = .ok (.iload_n 1, 1) := dk_27 (dk_at dksX6_reads_3 11 rfl rfl)
theorem dX6_reads_83 : decode cX6_reads 83 = .ok (.ifCond .ne 6, 3) := dk_154 0 6 (dk_at dksX6_reads_3 12 rfl rfl)
theorem dX6_reads_86 : decode cX6_reads 86 = .ok (.goto (-66), 3) := dk_167 255 190 (dk_at dksX6_reads_3 15 rfl rfl)
theorem dX6_reads_89 : decode cX6_reads 89 = .ok (.aload_n 0, 1) := dk_42 (dk_at dksX6_reads_3 18 rfl rfl)
theorem dX6_reads_90 : decode cX6_reads 90 = .ok (.iload_n 2, 1) := dk_28 (dk_at dksX6_reads_3 19 rfl rfl)
theorem dX6_reads_91 : decode cX6_reads 91 = .ok (.invokestatic 474, 3) := dk_184 1 218 (dk_at dksX6_reads_3 20 rfl rfl)
theorem dX6_reads_94 : decode cX6_reads 94 = .ok (.invokevirtual 485, 3) := dk_182 1 229 (dk_at dksX6_reads_4 0 rfl rfl)
theorem dX6_reads_97 : decode cX6_reads 97 = .ok (.aload_n 0, 1) := dk_42 (dk_at dksX6_reads_4 3 rfl rfl)
theorem dX6_reads_98 : decode cX6_reads 98 = .ok (.getfield 70, 3) := dk_180 0 70 (dk_at dksX6_reads_4 4 rfl rfl)
theorem dX6_reads_101 : decode cX6_reads 101 = .ok (.aload_n 0, 1) := dk_42 (dk_at dksX6_reads_4 7 rfl rfl)
theorem dX6_reads_102 : decode cX6_reads 102 = .ok (.getfield 471, 3) := dk_180 1 215 (dk_at dksX6_reads_4 8 rfl rfl)
theorem dX6_reads_105 : decode cX6_reads 105 = .ok (.iload_n 2, 1) := dk_28 (dk_at dksX6_reads_4 11 rfl rfl)
theorem dX6_reads_106 : decode cX6_reads 106 = .ok (.iastore, 1) := dk_79 (dk_at dksX6_reads_4 12 rfl rfl)
theorem dX6_reads_107 : decode cX6_reads 107 = .ok (.aload_n 0, 1) := dk_42 (dk_at dksX6_reads_4 13 rfl rfl)
theorem dX6_reads_108 : decode cX6_reads 108 = .ok (.dup, 1) := dk_89 (dk_at dksX6_reads_4 14 rfl rfl)
theorem dX6_reads_109 : decode cX6_reads 109 = .ok (.getfield 471, 3) := dk_180 1 215 (dk_at dksX6_reads_4 15 rfl rfl)
theorem dX6_reads_112 : decode cX6_reads 112 = .ok (.iconst 1, 1) := dk_4 (dk_at dksX6_reads_4 18 rfl rfl)
theorem dX6_reads_113 : decode cX6_reads 113 = .ok (.iadd, 1) := dk_96 (dk_at dksX6_reads_4 19 rfl rfl)
theorem dX6_reads_114 : decode cX6_reads 114 = .ok (.putfield 471, 3) := dk_181 1 215 (dk_at dksX6_reads_4 20 rfl rfl)
theorem dX6_reads_117 : decode cX6_reads 117 = .ok (.aload_n 0, 1) := dk_42 (dk_at dksX6_reads_4 23 rfl rfl)
theorem dX6_reads_118 : decode cX6_reads 118 = .ok (.invokevirtual 166, 3) := dk_182 0 166 (dk_at dksX6_reads_5 0 rfl rfl)
theorem dX6_reads_121 : decode cX6_reads 121 = .ok (.goto (-101), 3) := dk_167 255 155 (dk_at dksX6_reads_5 3 rfl rfl)
theorem dX6_reads_124 : decode cX6_reads 124 = .ok (.aload_n 0, 1) := dk_42 (dk_at dksX6_reads_5 6 rfl rfl)
theorem dX6_reads_125 : decode cX6_reads 125 = .ok (.invokevirtual 169, 3) := dk_182 0 169 (dk_at dksX6_reads_5 7 rfl rfl)
theorem dX6_reads_128 : decode cX6_reads 128 = .ok (.ifCond .eq 23, 3) := dk_153 0 23 (dk_at dksX6_reads_5 10 rfl rfl)
theorem dX6_reads_131 : decode cX6_reads 131 = .ok (.aload_n 0, 1) := dk_42 (dk_at dksX6_reads_5 13 rfl rfl)
theorem dX6_reads_132 : decode cX6_reads 132 = .ok (.invokevirtual 488, 3) := dk_182 1 232 (dk_at dksX6_reads_5 14 rfl rfl)
theorem dX6_reads_135 : decode cX6_reads 135 = .ok (.ifCond .ne 10, 3) := dk_154 0 10 (dk_at dksX6_reads_5 17 rfl rfl)
theorem dX6_reads_138 : decode cX6_reads 138 = .ok (.aload_n 0, 1) := dk_42 (dk_at dksX6_reads_5 20 rfl rfl)
theorem dX6_reads_139 : decode cX6_reads 139 = .ok (.getfield 144, 3) := dk_180 0 144 (dk_at dksX6_reads_5 21 rfl rfl)
theorem dX6_reads_142 : decode cX6_reads 142 = .ok (.ifCond .eq 9, 3) := dk_153 0 9 (dk_at dksX6_reads_6 0 rfl rfl)
theorem dX6_reads_145 : decode cX6_reads 145 = .ok (.aload_n 0, 1) := dk_42 (dk_at dksX6_reads_6 3 rfl rfl)
theorem dX6_reads_146 : decode cX6_reads 146 = .ok (.iconst 1, 1) := dk_4 (dk_at dksX6_reads_6 4 rfl rfl)
theorem dX6_reads_147 : decode cX6_reads 147 = .ok (.invokevirtual 180, 3) := dk_182 0 180 (dk_at dksX6_reads_6 5 rfl rfl)
theorem dX6_reads_150 : decode cX6_reads 150 = .ok (.pop, 1) := dk_87 (dk_at dksX6_reads_6 8 rfl rfl)
theorem dX6_reads_151 : decode cX6_reads 151 = .ok (.aload_n 0, 1) := dk_42 (dk_at dksX6_reads_6 9 rfl rfl)
theorem dX6_reads_152 : decode cX6_reads 152 = .ok (.iconst 1, 1) := dk_4 (dk_at dksX6_reads_6 10 rfl rfl)
theorem dX6_reads_153 : decode cX6_reads 153 = .ok (.invokevirtual 485, 3) := dk_182 1 229 (dk_at dksX6_reads_6 11 rfl rfl)
theorem dX6_reads_156 : decode cX6_reads 156 = .ok (.return_, 1) := dk_177 (dk_at dksX6_reads_6 14 rfl rfl)
abbrev cX6_comparisonRead : ByteArray := prog_25_method_124_code
def yX6_comparisonRead : MethodName := ⟨RX6, "comparisonRead", "()V"⟩
def dkwX6_comparisonRead_5 : List UInt8 := [153, 0, 8, 42, 27, 182, 1, 205, 177]
abbrev dktX6_comparisonRead_5 : List UInt8 := dkwX6_comparisonRead_5 ++ []
def dkwX6_comparisonRead_4 : List UInt8 := [182, 0, 180, 87, 42, 182, 0, 169, 154, 0, 4, 177, 42, 182, 0, 166, 42, 182, 1, 226, 42, 182, 0, 169]
abbrev dktX6_comparisonRead_4 : List UInt8 := dkwX6_comparisonRead_4 ++ dktX6_comparisonRead_5
def dkwX6_comparisonRead_3 : List UInt8 := [167, 0, 5, 16, 21, 60, 27, 16, 21, 160, 0, 18, 42, 16, 61, 182, 0, 177, 154, 0, 9, 42, 4]
abbrev dktX6_comparisonRead_3 : List UInt8 := dkwX6_comparisonRead_3 ++ dktX6_comparisonRead_4
def dkwX6_comparisonRead_2 : List UInt8 := [16, 60, 182, 0, 177, 153, 0, 8, 16, 20, 167, 0, 19, 42, 16, 62, 182, 0, 177, 153, 0, 8, 16, 22]
abbrev dktX6_comparisonRead_2 : List UInt8 := dkwX6_comparisonRead_2 ++ dktX6_comparisonRead_3
def dkwX6_comparisonRead_1 : List UInt8 := [182, 0, 173, 153, 0, 8, 16, 23, 167, 0, 4, 4, 182, 1, 223, 154, 255, 217, 177, 42, 182, 1, 226, 42]
abbrev dktX6_comparisonRead_1 : List UInt8 := dkwX6_comparisonRead_1 ++ dktX6_comparisonRead_2
def dkwX6_comparisonRead_0 : List UInt8 := [42, 20, 1, 221, 182, 0, 173, 154, 0, 12, 42, 16, 40, 182, 0, 177, 153, 0, 27, 42, 42, 20, 1, 221]
abbrev dktX6_comparisonRead_0 : List UInt8 := dkwX6_comparisonRead_0 ++ dktX6_comparisonRead_1
theorem dksX6_comparisonRead_0 : cX6_comparisonRead.data.toList.drop 0 = dktX6_comparisonRead_0 := by decide +kernel
theorem dksX6_comparisonRead_1 : cX6_comparisonRead.data.toList.drop 24 = dktX6_comparisonRead_1 := dk_seg dksX6_comparisonRead_0 24 rfl rfl
theorem dksX6_comparisonRead_2 : cX6_comparisonRead.data.toList.drop 48 = dktX6_comparisonRead_2 := dk_seg dksX6_comparisonRead_1 24 rfl rfl
theorem dksX6_comparisonRead_3 : cX6_comparisonRead.data.toList.drop 72 = dktX6_comparisonRead_3 := dk_seg dksX6_comparisonRead_2 24 rfl rfl
theorem dksX6_comparisonRead_4 : cX6_comparisonRead.data.toList.drop 95 = dktX6_comparisonRead_4 := dk_seg dksX6_comparisonRead_3 23 rfl rfl
theorem dksX6_comparisonRead_5 : cX6_comparisonRead.data.toList.drop 119 = dktX6_comparisonRead_5 := dk_seg dksX6_comparisonRead_4 24 rfl rfl
theorem dX6_comparisonRead_0 : decode cX6_comparisonRead 0 = .ok (.aload_n 0, 1) := dk_42 (dk_at dksX6_comparisonRead_0 0 rfl rfl)
theorem dX6_comparisonRead_1 : decode cX6_comparisonRead 1 = .ok (.ldc2_w 477, 3) := dk_20 1 221 (dk_at dksX6_comparisonRead_0 1 rfl rfl)
theorem dX6_comparisonRead_4 : decode cX6_comparisonRead 4 = .ok (.invokevirtual 173, 3) := dk_182 0 173 (dk_at dksX6_comparisonRead_0 4 rfl rfl)
theorem dX6_comparisonRead_7 : decode cX6_comparisonRead 7 = .ok (.ifCond .ne 12, 3) := dk_154 0 12 (dk_at dksX6_comparisonRead_0 7 rfl rfl)
theorem dX6_comparisonRead_10 : decode cX6_comparisonRead 10 = .ok (.aload_n 0, 1) := dk_42 (dk_at dksX6_comparisonRead_0 10 rfl rfl)
theorem dX6_comparisonRead_11 : decode cX6_comparisonRead 11 = .ok (.bipush 40, 2) := dk_16 40 (dk_at dksX6_comparisonRead_0 11 rfl rfl)
theorem dX6_comparisonRead_13 : decode cX6_comparisonRead 13 = .ok (.invokevirtual 177, 3) := dk_182 0 177 (dk_at dksX6_comparisonRead_0 13 rfl rfl)
theorem dX6_comparisonRead_16 : decode cX6_comparisonRead 16 = .ok (.ifCond .eq 27, 3) := dk_153 0 27 (dk_at dksX6_comparisonRead_0 16 rfl rfl)
theorem dX6_comparisonRead_19 : decode cX6_comparisonRead 19 = .ok (.aload_n 0, 1) := dk_42 (dk_at dksX6_comparisonRead_0 19 rfl rfl)
theorem dX6_comparisonRead_20 : decode cX6_comparisonRead 20 = .ok (.aload_n 0, 1) := dk_42 (dk_at dksX6_comparisonRead_0 20 rfl rfl)
theorem dX6_comparisonRead_21 : decode cX6_comparisonRead 21 = .ok (.ldc2_w 477, 3) := dk_20 1 221 (dk_at dksX6_comparisonRead_0 21 rfl rfl)
theorem dX6_comparisonRead_24 : decode cX6_comparisonRead 24 = .ok (.invokevirtual 173, 3) := dk_182 0 173 (dk_at dksX6_comparisonRead_1 0 rfl rfl)
theorem dX6_comparisonRead_27 : decode cX6_comparisonRead 27 = .ok (.ifCond .eq 8, 3) := dk_153 0 8 (dk_at dksX6_comparisonRead_1 3 rfl rfl)
theorem dX6_comparisonRead_30 : decode cX6_comparisonRead 30 = .ok (.bipush 23, 2) := dk_16 23 (dk_at dksX6_comparisonRead_1 6 rfl rfl)
theorem dX6_comparisonRead_32 : decode cX6_comparisonRead 32 = .ok (.goto 4, 3) := dk_167 0 4 (dk_at dksX6_comparisonRead_1 8 rfl rfl)
theorem dX6_comparisonRead_35 : decode cX6_comparisonRead 35 = .ok (.iconst 1, 1) := dk_4 (dk_at dksX6_comparisonRead_1 11 rfl rfl)
theorem dX6_comparisonRead_36 : decode cX6_comparisonRead 36 = .ok (.invokevirtual 479, 3) := dk_182 1 223 (dk_at dksX6_comparisonRead_1 12 rfl rfl)
theorem dX6_comparisonRead_39 : decode cX6_comparisonRead 39 = .ok (.ifCond .ne (-39), 3) := dk_154 255 217 (dk_at dksX6_comparisonRead_1 15 rfl rfl)
theorem dX6_comparisonRead_42 : decode cX6_comparisonRead 42 = .ok (.return_, 1) := dk_177 (dk_at dksX6_comparisonRead_1 18 rfl rfl)
theorem dX6_comparisonRead_43 : decode cX6_comparisonRead 43 = .ok (.aload_n 0, 1) := dk_42 (dk_at dksX6_comparisonRead_1 19 rfl rfl)
theorem dX6_comparisonRead_44 : decode cX6_comparisonRead 44 = .ok (.invokevirtual 482, 3) := dk_182 1 226 (dk_at dksX6_comparisonRead_1 20 rfl rfl)
theorem dX6_comparisonRead_47 : decode cX6_comparisonRead 47 = .ok (.aload_n 0, 1) := dk_42 (dk_at dksX6_comparisonRead_1 23 rfl rfl)
theorem dX6_comparisonRead_48 : decode cX6_comparisonRead 48 = .ok (.bipush 60, 2) := dk_16 60 (dk_at dksX6_comparisonRead_2 0 rfl rfl)
theorem dX6_comparisonRead_50 : decode cX6_comparisonRead 50 = .ok (.invokevirtual 177, 3) := dk_182 0 177 (dk_at dksX6_comparisonRead_2 2 rfl rfl)
theorem dX6_comparisonRead_53 : decode cX6_comparisonRead 53 = .ok (.ifCond .eq 8, 3) := dk_153 0 8 (dk_at dksX6_comparisonRead_2 5 rfl rfl)
theorem dX6_comparisonRead_56 : decode cX6_comparisonRead 56 = .ok (.bipush 20, 2) := dk_16 20 (dk_at dksX6_comparisonRead_2 8 rfl rfl)
theorem dX6_comparisonRead_58 : decode cX6_comparisonRead 58 = .ok (.goto 19, 3) := dk_167 0 19 (dk_at dksX6_comparisonRead_2 10 rfl rfl)
theorem dX6_comparisonRead_61 : decode cX6_comparisonRead 61 = .ok (.aload_n 0, 1) := dk_42 (dk_at dksX6_comparisonRead_2 13 rfl rfl)
theorem dX6_comparisonRead_62 : decode cX6_comparisonRead 62 = .ok (.bipush 62, 2) := dk_16 62 (dk_at dksX6_comparisonRead_2 14 rfl rfl)
theorem dX6_comparisonRead_64 : decode cX6_comparisonRead 64 = .ok (.invokevirtual 177, 3) := dk_182 0 177 (dk_at dksX6_comparisonRead_2 16 rfl rfl)
theorem dX6_comparisonRead_67 : decode cX6_comparisonRead 67 = .ok (.ifCond .eq 8, 3) := dk_153 0 8 (dk_at dksX6_comparisonRead_2 19 rfl rfl)
theorem dX6_comparisonRead_70 : decode cX6_comparisonRead 70 = .ok (.bipush 22, 2) := dk_16 22 (dk_at dksX6_comparisonRead_2 22 rfl rfl)
theorem dX6_comparisonRead_72 : decode cX6_comparisonRead 72 = .ok (.goto 5, 3) := dk_167 0 5 (dk_at dksX6_comparisonRead_3 0 rfl rfl)
theorem dX6_comparisonRead_75 : decode cX6_comparisonRead 75 = .ok (.bipush 21, 2) := dk_16 21 (dk_at dksX6_comparisonRead_3 3 rfl rfl)
theorem dX6_comparisonRead_77 : decode cX6_comparisonRead 77 = .ok (.istore_n 1, 1) := dk_60 (dk_at dksX6_comparisonRead_3 5 rfl rfl)
theorem dX6_comparisonRead_78 : decode cX6_comparisonRead 78 = .ok (.iload_n 1, 1) := dk_27 (dk_at dksX6_comparisonRead_3 6 rfl rfl)
theorem dX6_comparisonRead_79 : decode cX6_comparisonRead 79 = .ok (.bipush 21, 2) := dk_16 21 (dk_at dksX6_comparisonRead_3 7 rfl rfl)
theorem dX6_comparisonRead_81 : decode cX6_comparisonRead 81 = .ok (.if_icmp .ne 18, 3) := dk_160 0 18 (dk_at dksX6_comparisonRead_3 9 rfl rfl)
theorem dX6_comparisonRead_84 : decode cX6_comparisonRead 84 = .ok (.aload_n 0, 1) := dk_42 (dk_at dksX6_comparisonRead_3 12 rfl rfl)
theorem dX6_comparisonRead_85 : decode cX6_comparisonRead 85 = .ok (.bipush 61, 2) := dk_16 61 (dk_at dksX6_comparisonRead_3 13 rfl rfl)
theorem dX6_comparisonRead_87 : decode cX6_comparisonRead 87 = .ok (.invokevirtual 177, 3) := dk_182 0 177 (dk_at dksX6_comparisonRead_3 15 rfl rfl)
theorem dX6_comparisonRead_90 : decode cX6_comparisonRead 90 = .ok (.ifCond .ne 9, 3) := dk_154 0 9 (dk_at dksX6_comparisonRead_3 18 rfl rfl)
theorem dX6_comparisonRead_93 : decode cX6_comparisonRead 93 = .ok (.aload_n 0, 1) := dk_42 (dk_at dksX6_comparisonRead_3 21 rfl rfl)
theorem dX6_comparisonRead_94 : decode cX6_comparisonRead 94 = .ok (.iconst 1, 1) := dk_4 (dk_at dksX6_comparisonRead_3 22 rfl rfl)
theorem dX6_comparisonRead_95 : decode cX6_comparisonRead 95 = .ok (.invokevirtual 180, 3) := dk_182 0 180 (dk_at dksX6_comparisonRead_4 0 rfl rfl)
theorem dX6_comparisonRead_98 : decode cX6_comparisonRead 98 = .ok (.pop, 1) := dk_87 (dk_at dksX6_comparisonRead_4 3 rfl rfl)
theorem dX6_comparisonRead_99 : decode cX6_comparisonRead 99 = .ok (.aload_n 0, 1) := dk_42 (dk_at dksX6_comparisonRead_4 4 rfl rfl)
theorem dX6_comparisonRead_100 : decode cX6_comparisonRead 100 = .ok (.invokevirtual 169, 3) := dk_182 0 169 (dk_at dksX6_comparisonRead_4 5 rfl rfl)
theorem dX6_comparisonRead_103 : decode cX6_comparisonRead 103 = .ok (.ifCond .ne 4, 3) := dk_154 0 4 (dk_at dksX6_comparisonRead_4 8 rfl rfl)
theorem dX6_comparisonRead_106 : decode cX6_comparisonRead 106 = .ok (.return_, 1) := dk_177 (dk_at dksX6_comparisonRead_4 11 rfl rfl)
theorem dX6_comparisonRead_107 : decode cX6_comparisonRead 107 = .ok (.aload_n 0, 1) := dk_42 (dk_at dksX6_comparisonRead_4 12 rfl rfl)
theorem dX6_comparisonRead_108 : decode cX6_comparisonRead 108 = .ok (.invokevirtual 166, 3) := dk_182 0 166 (dk_at dksX6_comparisonRead_4 13 rfl rfl)
theorem dX6_comparisonRead_111 : decode cX6_comparisonRead 111 = .ok (.aload_n 0, 1) := dk_42 (dk_at dksX6_comparisonRead_4 16 rfl rfl)
theorem dX6_comparisonRead_112 : decode cX6_comparisonRead 112 = .ok (.invokevirtual 482, 3) := dk_182 1 226 (dk_at dksX6_comparisonRead_4 17 rfl rfl)
theorem dX6_comparisonRead_115 : decode cX6_comparisonRead 115 = .ok (.aload_n 0, 1) := dk_42 (dk_at dksX6_comparisonRead_4 20 rfl rfl)
theorem dX6_comparisonRead_116 : decode cX6_comparisonRead 116 = .ok (.invokevirtual 169, 3) := dk_182 0 169 (dk_at dksX6_comparisonRead_4 21 rfl rfl)
theorem dX6_comparisonRead_119 : decode cX6_comparisonRead 119 = .ok (.ifCond .eq 8, 3) := dk_153 0 8 (dk_at dksX6_comparisonRead_5 0 rfl rfl)
theorem dX6_comparisonRead_122 : decode cX6_comparisonRead 122 = .ok (.aload_n 0, 1) := dk_42 (dk_at dksX6_comparisonRead_5 3 rfl rfl)
theorem dX6_comparisonRead_123 : decode cX6_comparisonRead 123 = .ok (.iload_n 1, 1) := dk_27 (dk_at dksX6_comparisonRead_5 4 rfl rfl)
theorem dX6_comparisonRead_124 : decode cX6_comparisonRead 124 = .ok (.invokevirtual 461, 3) := dk_182 1 205 (dk_at dksX6_comparisonRead_5 5 rfl rfl)
theorem dX6_comparisonRead_127 : decode cX6_comparisonRead 127 = .ok (.return_, 1) := dk_177 (dk_at dksX6_comparisonRead_5 8 rfl rfl)
abbrev cX6_goesIn : ByteArray := prog_25_method_120_code
def yX6_goesIn : MethodName := ⟨RX6, "goesIn", "(I)Z"⟩
def dkwX6_goesIn_2 : List UInt8 := [182, 0, 166, 4, 172]
abbrev dktX6_goesIn_2 : List UInt8 := dkwX6_goesIn_2 ++ []
def dkwX6_goesIn_1 : List UInt8 := [181, 1, 212, 42, 180, 0, 70, 42, 180, 1, 215, 27, 79, 42, 89, 180, 1, 215, 4, 96, 181, 1, 215, 42]
abbrev dktX6_goesIn_1 : List UInt8 := dkwX6_goesIn_1 ++ dktX6_goesIn_2
def dkwX6_goesIn_0 : List UInt8 := [42, 180, 1, 212, 16, 6, 160, 0, 9, 42, 6, 182, 0, 180, 172, 42, 89, 180, 1, 212, 4, 96]
abbrev dktX6_goesIn_0 : List UInt8 := dkwX6_goesIn_0 ++ dktX6_goesIn_1
theorem dksX6_goesIn_0 : cX6_goesIn.data.toList.drop 0 = dktX6_goesIn_0 := by decide +kernel
theorem dksX6_goesIn_1 : cX6_goesIn.data.toList.drop 22 = dktX6_goesIn_1 := dk_seg dksX6_goesIn_0 22 rfl rfl
theorem dksX6_goesIn_2 : cX6_goesIn.data.toList.drop 46 = dktX6_goesIn_2 := dk_seg dksX6_goesIn_1 24 rfl rfl
theorem dX6_goesIn_0 : decode cX6_goesIn 0 = .ok (.aload_n 0, 1) := dk_42 (dk_at dksX6_goesIn_0 0 rfl rfl)
theorem dX6_goesIn_1 : decode cX6_goesIn 1 = .ok (.getfield 468, 3) := dk_180 1 212 (dk_at dksX6_goesIn_0 1 rfl rfl)
theorem dX6_goesIn_4 : decode cX6_goesIn 4 = .ok (.bipush 6, 2) := dk_16 6 (dk_at dksX6_goesIn_0 4 rfl rfl)
theorem dX6_goesIn_6 : decode cX6_goesIn 6 = .ok (.if_icmp .ne 9, 3) := dk_160 0 9 (dk_at dksX6_goesIn_0 6 rfl rfl)
theorem dX6_goesIn_9 : decode cX6_goesIn 9 = .ok (.aload_n 0, 1) := dk_42 (dk_at dksX6_goesIn_0 9 rfl rfl)
theorem dX6_goesIn_10 : decode cX6_goesIn 10 = .ok (.iconst 3, 1) := dk_6 (dk_at dksX6_goesIn_0 10 rfl rfl)
theorem dX6_goesIn_11 : decode cX6_goesIn 11 = .ok (.invokevirtual 180, 3) := dk_182 0 180 (dk_at dksX6_goesIn_0 11 rfl rfl)
theorem dX6_goesIn_14 : decode cX6_goesIn 14 = .ok (.ireturn, 1) := dk_172 (dk_at dksX6_goesIn_0 14 rfl rfl)
theorem dX6_goesIn_15 : decode cX6_goesIn 15 = .ok (.aload_n 0, 1) := dk_42 (dk_at dksX6_goesIn_0 15 rfl rfl)
theorem dX6_goesIn_16 : decode cX6_goesIn 16 = .ok (.dup, 1) := dk_89 (dk_at dksX6_goesIn_0 16 rfl rfl)
theorem dX6_goesIn_17 : decode cX6_goesIn 17 = .ok (.getfield 468, 3) := dk_180 1 212 (dk_at dksX6_goesIn_0 17 rfl rfl)
theorem dX6_goesIn_20 : decode cX6_goesIn 20 = .ok (.iconst 1, 1) := dk_4 (dk_at dksX6_goesIn_0 20 rfl rfl)
theorem dX6_goesIn_21 : decode cX6_goesIn 21 = .ok (.iadd, 1) := dk_96 (dk_at dksX6_goesIn_0 21 rfl rfl)
theorem dX6_goesIn_22 : decode cX6_goesIn 22 = .ok (.putfield 468, 3) := dk_181 1 212 (dk_at dksX6_goesIn_1 0 rfl rfl)
theorem dX6_goesIn_25 : decode cX6_goesIn 25 = .ok (.aload_n 0, 1) := dk_42 (dk_at dksX6_goesIn_1 3 rfl rfl)
theorem dX6_goesIn_26 : decode cX6_goesIn 26 = .ok (.getfield 70, 3) := dk_180 0 70 (dk_at dksX6_goesIn_1 4 rfl rfl)
theorem dX6_goesIn_29 : decode cX6_goesIn 29 = .ok (.aload_n 0, 1) := dk_42 (dk_at dksX6_goesIn_1 7 rfl rfl)
theorem dX6_goesIn_30 : decode cX6_goesIn 30 = .ok (.getfield 471, 3) := dk_180 1 215 (dk_at dksX6_goesIn_1 8 rfl rfl)
theorem dX6_goesIn_33 : decode cX6_goesIn 33 = .ok (.iload_n 1, 1) := dk_27 (dk_at dksX6_goesIn_1 11 rfl rfl)
theorem dX6_goesIn_34 : decode cX6_goesIn 34 = .ok (.iastore, 1) := dk_79 (dk_at dksX6_goesIn_1 12 rfl rfl)
theorem dX6_goesIn_35 : decode cX6_goesIn 35 = .ok (.aload_n 0, 1) := dk_42 (dk_at dksX6_goesIn_1 13 rfl rfl)
theorem dX6_goesIn_36 : decode cX6_goesIn 36 = .ok (.dup, 1) := dk_89 (dk_at dksX6_goesIn_1 14 rfl rfl)
theorem dX6_goesIn_37 : decode cX6_goesIn 37 = .ok (.getfield 471, 3) := dk_180 1 215 (dk_at dksX6_goesIn_1 15 rfl rfl)
theorem dX6_goesIn_40 : decode cX6_goesIn 40 = .ok (.iconst 1, 1) := dk_4 (dk_at dksX6_goesIn_1 18 rfl rfl)
theorem dX6_goesIn_41 : decode cX6_goesIn 41 = .ok (.iadd, 1) := dk_96 (dk_at dksX6_goesIn_1 19 rfl rfl)
theorem dX6_goesIn_42 : decode cX6_goesIn 42 = .ok (.putfield 471, 3) := dk_181 1 215 (dk_at dksX6_goesIn_1 20 rfl rfl)
theorem dX6_goesIn_45 : decode cX6_goesIn 45 = .ok (.aload_n 0, 1) := dk_42 (dk_at dksX6_goesIn_1 23 rfl rfl)
theorem dX6_goesIn_46 : decode cX6_goesIn 46 = .ok (.invokevirtual 166, 3) := dk_182 0 166 (dk_at dksX6_goesIn_2 0 rfl rfl)
theorem dX6_goesIn_49 : decode cX6_goesIn 49 = .ok (.iconst 1, 1) := dk_4 (dk_at dksX6_goesIn_2 3 rfl rfl)
theorem dX6_goesIn_50 : decode cX6_goesIn 50 = .ok (.ireturn, 1) := dk_172 (dk_at dksX6_goesIn_2 4 rfl rfl)
abbrev cX6_valueRead : ByteArray := prog_25_method_119_code
def yX6_valueRead : MethodName := ⟨RX6, "valueRead", "()V"⟩
def dkwX6_valueRead_2 : List UInt8 := [182, 0, 180, 87, 177, 42, 27, 182, 1, 205, 42, 182, 0, 166, 177]
abbrev dktX6_valueRead_2 : List UInt8 := dkwX6_valueRead_2 ++ []
def dkwX6_valueRead_1 : List UInt8 := [136, 60, 42, 16, 100, 27, 96, 182, 1, 205, 177, 42, 182, 1, 208, 60, 27, 2, 160, 0, 10, 42, 4]
abbrev dktX6_valueRead_1 : List UInt8 := dkwX6_valueRead_1 ++ dktX6_valueRead_2
def dkwX6_valueRead_0 : List UInt8 := [42, 182, 0, 169, 154, 0, 4, 177, 42, 180, 0, 144, 5, 160, 0, 22, 42, 9, 20, 1, 203, 182, 0, 187]
abbrev dktX6_valueRead_0 : List UInt8 := dkwX6_valueRead_0 ++ dktX6_valueRead_1
theorem dksX6_valueRead_0 : cX6_valueRead.data.toList.drop 0 = dktX6_valueRead_0 := by decide +kernel
theorem dksX6_valueRead_1 : cX6_valueRead.data.toList.drop 24 = dktX6_valueRead_1 := dk_seg dksX6_valueRead_0 24 rfl rfl
theorem dksX6_valueRead_2 : cX6_valueRead.data.toList.drop 47 = dktX6_valueRead_2 := dk_seg dksX6_valueRead_1 23 rfl rfl
theorem dX6_valueRead_0 : decode cX6_valueRead 0 = .ok (.aload_n 0, 1) := dk_42 (dk_at dksX6_valueRead_0 0 rfl rfl)
theorem dX6_valueRead_1 : decode cX6_valueRead 1 = .ok (.invokevirtual 169, 3) := dk_182 0 169 (dk_at dksX6_valueRead_0 1 rfl rfl)
theorem dX6_valueRead_4 : decode cX6_valueRead 4 = .ok (.ifCond .ne 4, 3) := dk_154 0 4 (dk_at dksX6_valueRead_0 4 rfl rfl)
theorem dX6_valueRead_7 : decode cX6_valueRead 7 = .ok (.return_, 1) := dk_177 (dk_at dksX6_valueRead_0 7 rfl rfl)
theorem dX6_valueRead_8 : decode cX6_valueRead 8 = .ok (.aload_n 0, 1) := dk_42 (dk_at dksX6_valueRead_0 8 rfl rfl)
theorem dX6_valueRead_9 : decode cX6_valueRead 9 = .ok (.getfield 144, 3) := dk_180 0 144 (dk_at dksX6_valueRead_0 9 rfl rfl)
theorem dX6_valueRead_12 : decode cX6_valueRead 12 = .ok (.iconst 2, 1) := dk_5 (dk_at dksX6_valueRead_0 12 rfl rfl)
theorem dX6_valueRead_13 : decode cX6_valueRead 13 = .ok (.if_icmp .ne 22, 3) := dk_160 0 22 (dk_at dksX6_valueRead_0 13 rfl rfl)
theorem dX6_valueRead_16 : decode cX6_valueRead 16 = .ok (.aload_n 0, 1) := dk_42 (dk_at dksX6_valueRead_0 16 rfl rfl)
theorem dX6_valueRead_17 : decode cX6_valueRead 17 = .ok (.lconst 0, 1) := dk_9 (dk_at dksX6_valueRead_0 17 rfl rfl)
theorem dX6_valueRead_18 : decode cX6_valueRead 18 = .ok (.ldc2_w 459, 3) := dk_20 1 203 (dk_at dksX6_valueRead_0 18 rfl rfl)
theorem dX6_valueRead_21 : decode cX6_valueRead 21 = .ok (.invokevirtual 187, 3) := dk_182 0 187 (dk_at dksX6_valueRead_0 21 rfl rfl)
theorem dX6_valueRead_24 : decode cX6_valueRead 24 = .ok (.l2i, 1) := dk_136 (dk_at dksX6_valueRead_1 0 rfl rfl)
theorem dX6_valueRead_25 : decode cX6_valueRead 25 = .ok (.istore_n 1, 1) := dk_60 (dk_at dksX6_valueRead_1 1 rfl rfl)
theorem dX6_valueRead_26 : decode cX6_valueRead 26 = .ok (.aload_n 0, 1) := dk_42 (dk_at dksX6_valueRead_1 2 rfl rfl)
theorem dX6_valueRead_27 : decode cX6_valueRead 27 = .ok (.bipush 100, 2) := dk_16 100 (dk_at dksX6_valueRead_1 3 rfl rfl)
theorem dX6_valueRead_29 : decode cX6_valueRead 29 = .ok (.iload_n 1, 1) := dk_27 (dk_at dksX6_valueRead_1 5 rfl rfl)
theorem dX6_valueRead_30 : decode cX6_valueRead 30 = .ok (.iadd, 1) := dk_96 (dk_at dksX6_valueRead_1 6 rfl rfl)
theorem dX6_valueRead_31 : decode cX6_valueRead 31 = .ok (.invokevirtual 461, 3) := dk_182 1 205 (dk_at dksX6_valueRead_1 7 rfl rfl)
theorem dX6_valueRead_34 : decode cX6_valueRead 34 = .ok (.return_, 1) := dk_177 (dk_at dksX6_valueRead_1 10 rfl rfl)
theorem dX6_valueRead_35 : decode cX6_valueRead 35 = .ok (.aload_n 0, 1) := dk_42 (dk_at dksX6_valueRead_1 11 rfl rfl)
theorem dX6_valueRead_36 : decode cX6_valueRead 36 = .ok (.invokevirtual 464, 3) := dk_182 1 208 (dk_at dksX6_valueRead_1 12 rfl rfl)
theorem dX6_valueRead_39 : decode cX6_valueRead 39 = .ok (.istore_n 1, 1) := dk_60 (dk_at dksX6_valueRead_1 15 rfl rfl)
theorem dX6_valueRead_40 : decode cX6_valueRead 40 = .ok (.iload_n 1, 1) := dk_27 (dk_at dksX6_valueRead_1 16 rfl rfl)
theorem dX6_valueRead_41 : decode cX6_valueRead 41 = .ok (.iconst (-1), 1) := dk_2 (dk_at dksX6_valueRead_1 17 rfl rfl)
theorem dX6_valueRead_42 : decode cX6_valueRead 42 = .ok (.if_icmp .ne 10, 3) := dk_160 0 10 (dk_at dksX6_valueRead_1 18 rfl rfl)
theorem dX6_valueRead_45 : decode cX6_valueRead 45 = .ok (.aload_n 0, 1) := dk_42 (dk_at dksX6_valueRead_1 21 rfl rfl)
theorem dX6_valueRead_46 : decode cX6_valueRead 46 = .ok (.iconst 1, 1) := dk_4 (dk_at dksX6_valueRead_1 22 rfl rfl)
theorem dX6_valueRead_47 : decode cX6_valueRead 47 = .ok (.invokevirtual 180, 3) := dk_182 0 180 (dk_at dksX6_valueRead_2 0 rfl rfl)
theorem dX6_valueRead_50 : decode cX6_valueRead 50 = .ok (.pop, 1) := dk_87 (dk_at dksX6_valueRead_2 3 rfl rfl)
theorem dX6_valueRead_51 : decode cX6_valueRead 51 = .ok (.return_, 1) := dk_177 (dk_at dksX6_valueRead_2 4 rfl rfl)
theorem dX6_valueRead_52 : decode cX6_valueRead 52 = .ok (.aload_n 0, 1) := dk_42 (dk_at dksX6_valueRead_2 5 rfl rfl)
theorem dX6_valueRead_53 : decode cX6_valueRead 53 = .ok (.iload_n 1, 1) := dk_27 (dk_at dksX6_valueRead_2 6 rfl rfl)
theorem dX6_valueRead_54 : decode cX6_valueRead 54 = .ok (.invokevirtual 461, 3) := dk_182 1 205 (dk_at dksX6_valueRead_2 7 rfl rfl)
theorem dX6_valueRead_57 : decode cX6_valueRead 57 = .ok (.aload_n 0, 1) := dk_42 (dk_at dksX6_valueRead_2 10 rfl rfl)
theorem dX6_valueRead_58 : decode cX6_valueRead 58 = .ok (.invokevirtual 166, 3) := dk_182 0 166 (dk_at dksX6_valueRead_2 11 rfl rfl)
theorem dX6_valueRead_61 : decode cX6_valueRead 61 = .ok (.return_, 1) := dk_177 (dk_at dksX6_valueRead_2 14 rfl rfl)
abbrev cX6_adds : ByteArray := prog_25_method_117_code
def yX6_adds : MethodName := ⟨RX6, "adds", "(I)V"⟩
def dkwX6_adds_0 : List UInt8 := [42, 180, 0, 67, 42, 180, 1, 192, 27, 79, 42, 89, 180, 1, 192, 4, 96, 181, 1, 192, 177]
abbrev dktX6_adds_0 : List UInt8 := dkwX6_adds_0 ++ []
theorem dksX6_adds_0 : cX6_adds.data.toList.drop 0 = dktX6_adds_0 := by decide +kernel
theorem dX6_adds_0 : decode cX6_adds 0 = .ok (.aload_n 0, 1) := dk_42 (dk_at dksX6_adds_0 0 rfl rfl)
theorem dX6_adds_1 : decode cX6_adds 1 = .ok (.getfield 67, 3) := dk_180 0 67 (dk_at dksX6_adds_0 1 rfl rfl)
theorem dX6_adds_4 : decode cX6_adds 4 = .ok (.aload_n 0, 1) := dk_42 (dk_at dksX6_adds_0 4 rfl rfl)
theorem dX6_adds_5 : decode cX6_adds 5 = .ok (.getfield 448, 3) := dk_180 1 192 (dk_at dksX6_adds_0 5 rfl rfl)
theorem dX6_adds_8 : decode cX6_adds 8 = .ok (.iload_n 1, 1) := dk_27 (dk_at dksX6_adds_0 8 rfl rfl)
theorem dX6_adds_9 : decode cX6_adds 9 = .ok (.iastore, 1) := dk_79 (dk_at dksX6_adds_0 9 rfl rfl)
theorem dX6_adds_10 : decode cX6_adds 10 = .ok (.aload_n 0, 1) := dk_42 (dk_at dksX6_adds_0 10 rfl rfl)
theorem dX6_adds_11 : decode cX6_adds 11 = .ok (.dup, 1) := dk_89 (dk_at dksX6_adds_0 11 rfl rfl)
theorem dX6_adds_12 : decode cX6_adds 12 = .ok (.getfield 448, 3) := dk_180 1 192 (dk_at dksX6_adds_0 12 rfl rfl)
theorem dX6_adds_15 : decode cX6_adds 15 = .ok (.iconst 1, 1) := dk_4 (dk_at dksX6_adds_0 15 rfl rfl)
theorem dX6_adds_16 : decode cX6_adds 16 = .ok (.iadd, 1) := dk_96 (dk_at dksX6_adds_0 16 rfl rfl)
theorem dX6_adds_17 : decode cX6_adds 17 = .ok (.putfield 448, 3) := dk_181 1 192 (dk_at dksX6_adds_0 17 rfl rfl)
theorem dX6_adds_20 : decode cX6_adds 20 = .ok (.return_, 1) := dk_177 (dk_at dksX6_adds_0 20 rfl rfl)
abbrev cX6_propertyHere : ByteArray := prog_25_method_118_code
def yX6_propertyHere : MethodName := ⟨RX6, "propertyHere", "()I"⟩
def dkwX6_propertyHere_2 : List UInt8 := [167, 0, 4, 2, 172]
abbrev dktX6_propertyHere_2 : List UInt8 := dkwX6_propertyHere_2 ++ []
def dkwX6_propertyHere_1 : List UInt8 := [42, 20, 1, 199, 182, 0, 173, 153, 0, 5, 5, 172, 42, 20, 1, 201, 182, 0, 173, 153, 0, 7, 6]
abbrev dktX6_propertyHere_1 : List UInt8 := dkwX6_propertyHere_1 ++ dktX6_propertyHere_2
def dkwX6_propertyHere_0 : List UInt8 := [42, 20, 1, 195, 182, 0, 173, 153, 0, 5, 3, 172, 42, 20, 1, 197, 182, 0, 173, 153, 0, 5, 4, 172]
abbrev dktX6_propertyHere_0 : List UInt8 := dkwX6_propertyHere_0 ++ dktX6_propertyHere_1
theorem dksX6_propertyHere_0 : cX6_propertyHere.data.toList.drop 0 = dktX6_propertyHere_0 := by decide +kernel
theorem dksX6_propertyHere_1 : cX6_propertyHere.data.toList.drop 24 = dktX6_propertyHere_1 := dk_seg dksX6_propertyHere_0 24 rfl rfl
theorem dksX6_propertyHere_2 : cX6_propertyHere.data.toList.drop 47 = dktX6_propertyHere_2 := dk_seg dksX6_propertyHere_1 23 rfl rfl
theorem dX6_propertyHere_0 : decode cX6_propertyHere 0 = .ok (.aload_n 0, 1) := dk_42 (dk_at dksX6_propertyHere_0 0 rfl rfl)
theorem dX6_propertyHere_1 : decode cX6_propertyHere 1 = .ok (.ldc2_w 451, 3) := dk_20 1 195 (dk_at dksX6_propertyHere_0 1 rfl rfl)
theorem dX6_propertyHere_4 : decode cX6_propertyHere 4 = .ok (.invokevirtual 173, 3) := dk_182 0 173 (dk_at dksX6_propertyHere_0 4 rfl rfl)
theorem dX6_propertyHere_7 : decode cX6_propertyHere 7 = .ok (.ifCond .eq 5, 3) := dk_153 0 5 (dk_at dksX6_propertyHere_0 7 rfl rfl)
theorem dX6_propertyHere_10 : decode cX6_propertyHere 10 = .ok (.iconst 0, 1) := dk_3 (dk_at dksX6_propertyHere_0 10 rfl rfl)
theorem dX6_propertyHere_11 : decode cX6_propertyHere 11 = .ok (.ireturn, 1) := dk_172 (dk_at dksX6_propertyHere_0 11 rfl rfl)
theorem dX6_propertyHere_12 : decode cX6_propertyHere 12 = .ok (.aload_n 0, 1) := dk_42 (dk_at dksX6_propertyHere_0 12 rfl rfl)
theorem dX6_propertyHere_13 : decode cX6_propertyHere 13 = .ok (.ldc2_w 453, 3) := dk_20 1 197 (dk_at dksX6_propertyHere_0 13 rfl rfl)
theorem dX6_propertyHere_16 : decode cX6_propertyHere 16 = .ok (.invokevirtual 173, 3) := dk_182 0 173 (dk_at dksX6_propertyHere_0 16 rfl rfl)
theorem dX6_propertyHere_19 : decode cX6_propertyHere 19 = .ok (.ifCond .eq 5, 3) := dk_153 0 5 (dk_at dksX6_propertyHere_0 19 rfl rfl)
theorem dX6_propertyHere_22 : decode cX6_propertyHere 22 = .ok (.iconst 1, 1) := dk_4 (dk_at dksX6_propertyHere_0 22 rfl rfl)
theorem dX6_propertyHere_23 : decode cX6_propertyHere 23 = .ok (.ireturn, 1) := dk_172 (dk_at dksX6_propertyHere_0 23 rfl rfl)
theorem dX6_propertyHere_24 : decode cX6_propertyHere 24 = .ok (.aload_n 0, 1) := dk_42 (dk_at dksX6_propertyHere_1 0 rfl rfl)
theorem dX6_propertyHere_25 : decode cX6_propertyHere 25 = .ok (.ldc2_w 455, 3) := dk_20 1 199 (dk_at dksX6_propertyHere_1 1 rfl rfl)
theorem dX6_propertyHere_28 : decode cX6_propertyHere 28 = .ok (.invokevirtual 173, 3) := dk_182 0 173 (dk_at dksX6_propertyHere_1 4 rfl rfl)
theorem dX6_propertyHere_31 : decode cX6_propertyHere 31 = .ok (.ifCond .eq 5, 3) := dk_153 0 5 (dk_at dksX6_propertyHere_1 7 rfl rfl)
theorem dX6_propertyHere_34 : decode cX6_propertyHere 34 = .ok (.iconst 2, 1) := dk_5 (dk_at dksX6_propertyHere_1 10 rfl rfl)
theorem dX6_propertyHere_35 : decode cX6_propertyHere 35 = .ok (.ireturn, 1) := dk_172 (dk_at dksX6_propertyHere_1 11 rfl rfl)
theorem dX6_propertyHere_36 : decode cX6_propertyHere 36 = .ok (.aload_n 0, 1) := dk_42 (dk_at dksX6_propertyHere_1 12 rfl rfl)
theorem dX6_propertyHere_37 : decode cX6_propertyHere 37 = .ok (.ldc2_w 457, 3) := dk_20 1 201 (dk_at dksX6_propertyHere_1 13 rfl rfl)
theorem dX6_propertyHere_40 : decode cX6_propertyHere 40 = .ok (.invokevirtual 173, 3) := dk_182 0 173 (dk_at dksX6_propertyHere_1 16 rfl rfl)
theorem dX6_propertyHere_43 : decode cX6_propertyHere 43 = .ok (.ifCond .eq 7, 3) := dk_153 0 7 (dk_at dksX6_propertyHere_1 19 rfl rfl)
theorem dX6_propertyHere_46 : decode cX6_propertyHere 46 = .ok (.iconst 3, 1) := dk_6 (dk_at dksX6_propertyHere_1 22 rfl rfl)
theorem dX6_propertyHere_47 : decode cX6_propertyHere 47 = .ok (.goto 4, 3) := dk_167 0 4 (dk_at dksX6_propertyHere_2 0 rfl rfl)
theorem dX6_propertyHere_50 : decode cX6_propertyHere 50 = .ok (.iconst (-1), 1) := dk_2 (dk_at dksX6_propertyHere_2 3 rfl rfl)
theorem dX6_propertyHere_51 : decode cX6_propertyHere 51 = .ok (.ireturn, 1) := dk_172 (dk_at dksX6_propertyHere_2 4 rfl rfl)
abbrev cX6_closes : ByteArray := prog_25_method_125_code
def yX6_closes : MethodName := ⟨RX6, "closes", "()V"⟩
def dkwX6_closes_2 : List UInt8 := [182, 0, 166, 42, 6, 182, 1, 229, 167, 255, 206, 177]
abbrev dktX6_closes_2 : List UInt8 := dkwX6_closes_2 ++ []
def dkwX6_closes_1 : List UInt8 := [182, 1, 229, 42, 89, 180, 1, 215, 4, 100, 181, 1, 215, 42, 89, 180, 1, 212, 4, 100, 181, 1, 212, 42]
abbrev dktX6_closes_1 : List UInt8 := dkwX6_closes_1 ++ dktX6_closes_2
def dkwX6_closes_0 : List UInt8 := [42, 6, 182, 1, 229, 42, 16, 41, 182, 0, 177, 153, 0, 47, 42, 182, 1, 232, 153, 0, 40, 42, 4]
abbrev dktX6_closes_0 : List UInt8 := dkwX6_closes_0 ++ dktX6_closes_1
theorem dksX6_closes_0 : cX6_closes.data.toList.drop 0 = dktX6_closes_0 := by decide +kernel
theorem dksX6_closes_1 : cX6_closes.data.toList.drop 23 = dktX6_closes_1 := dk_seg dksX6_closes_0 23 rfl rfl
theorem dksX6_closes_2 : cX6_closes.data.toList.drop 47 = dktX6_closes_2 := dk_seg dksX6_closes_1 24 rfl rfl
theorem dX6_closes_0 : decode cX6_closes 0 = .ok (.aload_n 0, 1) := dk_42 (dk_at dksX6_closes_0 0 rfl rfl)
theorem dX6_closes_1 : decode cX6_closes 1 = .ok (.iconst 3, 1) := dk_6 (dk_at dksX6_closes_0 1 rfl rfl)
theorem dX6_closes_2 : decode cX6_closes 2 = .ok (.invokevirtual 485, 3) := dk_182 1 229 (dk_at dksX6_closes_0 2 rfl rfl)
theorem dX6_closes_5 : decode cX6_closes 5 = .ok (.aload_n 0, 1) := dk_42 (dk_at dksX6_closes_0 5 rfl rfl)
theorem dX6_closes_6 : decode cX6_closes 6 = .ok (.bipush 41, 2) := dk_16 41 (dk_at dksX6_closes_0 6 rfl rfl)
theorem dX6_closes_8 : decode cX6_closes 8 = .ok (.invokevirtual 177, 3) := dk_182 0 177 (dk_at dksX6_closes_0 8 rfl rfl)
theorem dX6_closes_11 : decode cX6_closes 11 = .ok (.ifCond .eq 47, 3) := dk_153 0 47 (dk_at dksX6_closes_0 11 rfl rfl)
theorem dX6_closes_14 : decode cX6_closes 14 = .ok (.aload_n 0, 1) := dk_42 (dk_at dksX6_closes_0 14 rfl rfl)
theorem dX6_closes_15 : decode cX6_closes 15 = .ok (.invokevirtual 488, 3) := dk_182 1 232 (dk_at dksX6_closes_0 15 rfl rfl)
theorem dX6_closes_18 : decode cX6_closes 18 = .ok (.ifCond .eq 40, 3) := dk_153 0 40 (dk_at dksX6_closes_0 18 rfl rfl)
theorem dX6_closes_21 : decode cX6_closes 21 = .ok (.aload_n 0, 1) := dk_42 (dk_at dksX6_closes_0 21 rfl rfl)
theorem dX6_closes_22 : decode cX6_closes 22 = .ok (.iconst 1, 1) := dk_4 (dk_at dksX6_closes_0 22 rfl rfl)
theorem dX6_closes_23 : decode cX6_closes 23 = .ok (.invokevirtual 485, 3) := dk_182 1 229 (dk_at dksX6_closes_1 0 rfl rfl)
theorem dX6_closes_26 : decode cX6_closes 26 = .ok (.aload_n 0, 1) := dk_42 (dk_at dksX6_closes_1 3 rfl rfl)
theorem dX6_closes_27 : decode cX6_closes 27 = .ok (.dup, 1) := dk_89 (dk_at dksX6_closes_1 4 rfl rfl)
theorem dX6_closes_28 : decode cX6_closes 28 = .ok (.getfield 471, 3) := dk_180 1 215 (dk_at dksX6_closes_1 5 rfl rfl)
theorem dX6_closes_31 : decode cX6_closes 31 = .ok (.iconst 1, 1) := dk_4 (dk_at dksX6_closes_1 8 rfl rfl)
theorem dX6_closes_32 : decode cX6_closes 32 = .ok (.isub, 1) := dk_100 (dk_at dksX6_closes_1 9 rfl rfl)
theorem dX6_closes_33 : decode cX6_closes 33 = .ok (.putfield 471, 3) := dk_181 1 215 (dk_at dksX6_closes_1 10 rfl rfl)
theorem dX6_closes_36 : decode cX6_closes 36 = .ok (.aload_n 0, 1) := dk_42 (dk_at dksX6_closes_1 13 rfl rfl)
theorem dX6_closes_37 : decode cX6_closes 37 = .ok (.dup, 1) := dk_89 (dk_at dksX6_closes_1 14 rfl rfl)
theorem dX6_closes_38 : decode cX6_closes 38 = .ok (.getfield 468, 3) := dk_180 1 212 (dk_at dksX6_closes_1 15 rfl rfl)
theorem dX6_closes_41 : decode cX6_closes 41 = .ok (.iconst 1, 1) := dk_4 (dk_at dksX6_closes_1 18 rfl rfl)
theorem dX6_closes_42 : decode cX6_closes 42 = .ok (.isub, 1) := dk_100 (dk_at dksX6_closes_1 19 rfl rfl)
theorem dX6_closes_43 : decode cX6_closes 43 = .ok (.putfield 468, 3) := dk_181 1 212 (dk_at dksX6_closes_1 20 rfl rfl)
theorem dX6_closes_46 : decode cX6_closes 46 = .ok (.aload_n 0, 1) := dk_42 (dk_at dksX6_closes_1 23 rfl rfl)
theorem dX6_closes_47 : decode cX6_closes 47 = .ok (.invokevirtual 166, 3) := dk_182 0 166 (dk_at dksX6_closes_2 0 rfl rfl)
theorem dX6_closes_50 : decode cX6_closes 50 = .ok (.aload_n 0, 1) := dk_42 (dk_at dksX6_closes_2 3 rfl rfl)
theorem dX6_closes_51 : decode cX6_closes 51 = .ok (.iconst 3, 1) := dk_6 (dk_at dksX6_closes_2 4 rfl rfl)
theorem dX6_closes_52 : decode cX6_closes 52 = .ok (.invokevirtual 485, 3) := dk_182 1 229 (dk_at dksX6_closes_2 5 rfl rfl)
theorem dX6_closes_55 : decode cX6_closes 55 = .ok (.goto (-50), 3) := dk_167 255 206 (dk_at dksX6_closes_2 8 rfl rfl)
theorem dX6_closes_58 : decode cX6_closes 58 = .ok (.return_, 1) := dk_177 (dk_at dksX6_closes_2 11 rfl rfl)
abbrev cX6_settles : ByteArray := prog_25_method_122_code
def yX6_settles : MethodName := ⟨RX6, "settles", "(I)V"⟩
def dkwX6_settles_3 : List UInt8 := [180, 1, 212, 4, 100, 181, 1, 212, 167, 255, 177, 177]
abbrev dktX6_settles_3 : List UInt8 := dkwX6_settles_3 ++ []
def dkwX6_settles_2 : List UInt8 := [180, 1, 215, 46, 182, 1, 205, 42, 180, 0, 70, 42, 180, 1, 215, 46, 16, 23, 160, 255, 190, 42, 89]
abbrev dktX6_settles_2 : List UInt8 := dkwX6_settles_2 ++ dktX6_settles_3
def dkwX6_settles_1 : List UInt8 := [46, 184, 1, 218, 27, 161, 0, 53, 42, 89, 180, 1, 215, 4, 100, 181, 1, 215, 42, 42, 180, 0, 70, 42]
abbrev dktX6_settles_1 : List UInt8 := dkwX6_settles_1 ++ dktX6_settles_2
def dkwX6_settles_0 : List UInt8 := [42, 182, 0, 169, 153, 0, 78, 42, 180, 1, 215, 158, 0, 71, 42, 180, 0, 70, 42, 180, 1, 215, 4, 100]
abbrev dktX6_settles_0 : List UInt8 := dkwX6_settles_0 ++ dktX6_settles_1
theorem dksX6_settles_0 : cX6_settles.data.toList.drop 0 = dktX6_settles_0 := by decide +kernel
theorem dksX6_settles_1 : cX6_settles.data.toList.drop 24 = dktX6_settles_1 := dk_seg dksX6_settles_0 24 rfl rfl
theorem dksX6_settles_2 : cX6_settles.data.toList.drop 48 = dktX6_settles_2 := dk_seg dksX6_settles_1 24 rfl rfl
theorem dksX6_settles_3 : cX6_settles.data.toList.drop 71 = dktX6_settles_3 := dk_seg dksX6_settles_2 23 rfl rfl
theorem dX6_settles_0 : decode cX6_settles 0 = .ok (.aload_n 0, 1) := dk_42 (dk_at dksX6_settles_0 0 rfl rfl)
theorem dX6_settles_1 : decode cX6_settles 1 = .ok (.invokevirtual 169, 3) := dk_182 0 169 (dk_at dksX6_settles_0 1 rfl rfl)
theorem dX6_settles_4 : decode cX6_settles 4 = .ok (.ifCond .eq 78, 3) := dk_153 0 78 (dk_at dksX6_settles_0 4 rfl rfl)
theorem dX6_settles_7 : decode cX6_settles 7 = .ok (.aload_n 0, 1) := dk_42 (dk_at dksX6_settles_0 7 rfl rfl)
theorem dX6_settles_8 : decode cX6_settles 8 = .ok (.getfield 471, 3) := dk_180 1 215 (dk_at dksX6_settles_0 8 rfl rfl)
theorem dX6_settles_11 : decode cX6_settles 11 = .ok (.ifCond .le 71, 3) := dk_158 0 71 (dk_at dksX6_settles_0 11 rfl rfl)
theorem dX6_settles_14 : decode cX6_settles 14 = .ok (.aload_n 0, 1) := dk_42 (dk_at dksX6_settles_0 14 rfl rfl)
theorem dX6_settles_15 : decode cX6_settles 15 = .ok (.getfield 70, 3) := dk_180 0 70 (dk_at dksX6_settles_0 15 rfl rfl)
theorem dX6_settles_18 : decode cX6_settles 18 = .ok (.aload_n 0, 1) := dk_42 (dk_at dksX6_settles_0 18 rfl rfl)
theorem dX6_settles_19 : decode cX6_settles 19 = .ok (.getfield 471, 3) := dk_180 1 215 (dk_at dksX6_settles_0 19 rfl rfl)
theorem dX6_settles_22 : decode cX6_settles 22 = .ok (.iconst 1, 1) := dk_4 (dk_at dksX6_settles_0 22 rfl rfl)
theorem dX6_settles_23 : decode cX6_settles 23 = .ok (.isub, 1) := dk_100 (dk_at dksX6_settles_0 23 rfl rfl)
theorem dX6_settles_24 : decode cX6_settles 24 = .ok (.iaload, 1) := dk_46 (dk_at dksX6_settles_1 0 rfl rfl)
theorem dX6_settles_25 : decode cX6_settles 25 = .ok (.invokestatic 474, 3) := dk_184 1 218 (dk_at dksX6_settles_1 1 rfl rfl)
theorem dX6_settles_28 : decode cX6_settles 28 = .ok (.iload_n 1, 1) := dk_27 (dk_at dksX6_settles_1 4 rfl rfl)
theorem dX6_settles_29 : decode cX6_settles 29 = .ok (.if_icmp .lt 53, 3) := dk_161 0 53 (dk_at dksX6_settles_1 5 rfl rfl)
theorem dX6_settles_32 : decode cX6_settles 32 = .ok (.aload_n 0, 1) := dk_42 (dk_at dksX6_settles_1 8 rfl rfl)
theorem dX6_settles_33 : decode cX6_settles 33 = .ok (.dup, 1) := dk_89 (dk_at dksX6_settles_1 9 rfl rfl)
theorem dX6_settles_34 : decode cX6_settles 34 = .ok (.getfield 471, 3) := dk_180 1 215 (dk_at dksX6_settles_1 10 rfl rfl)
theorem dX6_settles_37 : decode cX6_settles 37 = .ok (.iconst 1, 1) := dk_4 (dk_at dksX6_settles_1 13 rfl rfl)
theorem dX6_settles_38 : decode cX6_settles 38 = .ok (.isub, 1) := dk_100 (dk_at dksX6_settles_1 14 rfl rfl)
theorem dX6_settles_39 : decode cX6_settles 39 = .ok (.putfield 471, 3) := dk_181 1 215 (dk_at dksX6_settles_1 15 rfl rfl)
theorem dX6_settles_42 : decode cX6_settles 42 = .ok (.aload_n 0, 1) := dk_42 (dk_at dksX6_settles_1 18 rfl rfl)
theorem dX6_settles_43 : decode cX6_settles 43 = .ok (.aload_n 0, 1) := dk_42 (dk_at dksX6_settles_1 19 rfl rfl)
theorem dX6_settles_44 : decode cX6_settles 44 = .ok (.getfield 70, 3) := dk_180 0 70 (dk_at dksX6_settles_1 20 rfl rfl)
theorem dX6_settles_47 : decode cX6_settles 47 = .ok (.aload_n 0, 1) := dk_42 (dk_at dksX6_settles_1 23 rfl rfl)
theorem dX6_settles_48 : decode cX6_settles 48 = .ok (.getfield 471, 3) := dk_180 1 215 (dk_at dksX6_settles_2 0 rfl rfl)
theorem dX6_settles_51 : decode cX6_settles 51 = .ok (.iaload, 1) := dk_46 (dk_at dksX6_settles_2 3 rfl rfl)
theorem dX6_settles_52 : decode cX6_settles 52 = .ok (.invokevirtual 461, 3) := dk_182 1 205 (dk_at dksX6_settles_2 4 rfl rfl)
theorem dX6_settles_55 : decode cX6_settles 55 = .ok (.aload_n 0, 1) := dk_42 (dk_at dksX6_settles_2 7 rfl rfl)
theorem dX6_settles_56 : decode cX6_settles 56 = .ok (.getfield 70, 3) := dk_180 0 70 (dk_at dksX6_settles_2 8 rfl rfl)
theorem dX6_settles_59 : decode cX6_settles 59 = .ok (.aload_n 0, 1) := dk_42 (dk_at dksX6_settles_2 11 rfl rfl)
theorem dX6_settles_60 : decode cX6_settles 60 = .ok (.getfield 471, 3) := dk_180 1 215 (dk_at dksX6_settles_2 12 rfl rfl)
theorem dX6_settles_63 : decode cX6_settles 63 = .ok (.iaload, 1) := dk_46 (dk_at dksX6_settles_2 15 rfl rfl)
theorem dX6_settles_64 : decode cX6_settles 64 = .ok (.bipush 23, 2) := dk_16 23 (dk_at dksX6_settles_2 16 rfl rfl)
theorem dX6_settles_66 : decode cX6_settles 66 = .ok (.if_icmp .ne (-66), 3) := dk_160 255 190 (dk_at dksX6_settles_2 18 rfl rfl)
theorem dX6_settles_69 : decode cX6_settles 69 = .ok (.aload_n 0, 1) := dk_42 (dk_at dksX6_settles_2 21 rfl rfl)
theorem dX6_settles_70 : decode cX6_settles 70 = .ok (.dup, 1) := dk_89 (dk_at dksX6_settles_2 22 rfl rfl)
theorem dX6_settles_71 : decode cX6_settles 71 = .ok (.getfield 468, 3) := dk_180 1 212 (dk_at dksX6_settles_3 0 rfl rfl)
theorem dX6_settles_74 : decode cX6_settles 74 = .ok (.iconst 1, 1) := dk_4 (dk_at dksX6_settles_3 3 rfl rfl)
theorem dX6_settles_75 : decode cX6_settles 75 = .ok (.isub, 1) := dk_100 (dk_at dksX6_settles_3 4 rfl rfl)
theorem dX6_settles_76 : decode cX6_settles 76 = .ok (.putfield 468, 3) := dk_181 1 212 (dk_at dksX6_settles_3 5 rfl rfl)
theorem dX6_settles_79 : decode cX6_settles 79 = .ok (.goto (-79), 3) := dk_167 255 177 (dk_at dksX6_settles_3 8 rfl rfl)
theorem dX6_settles_82 : decode cX6_settles 82 = .ok (.return_, 1) := dk_177 (dk_at dksX6_settles_3 11 rfl rfl)
abbrev cX6_strength : ByteArray := prog_25_method_121_code
def yX6_strength : MethodName := ⟨RX6, "strength", "(I)I"⟩
def dkwX6_strength_1 : List UInt8 := [160, 0, 7, 6, 167, 0, 4, 3, 172]
abbrev dktX6_strength_1 : List UInt8 := dkwX6_strength_1 ++ []
def dkwX6_strength_0 : List UInt8 := [26, 16, 25, 160, 0, 7, 4, 167, 0, 24, 26, 16, 24, 160, 0, 7, 5, 167, 0, 14, 26, 16, 23]
abbrev dktX6_strength_0 : List UInt8 := dkwX6_strength_0 ++ dktX6_strength_1
theorem dksX6_strength_0 : cX6_strength.data.toList.drop 0 = dktX6_strength_0 := by decide +kernel
theorem dksX6_strength_1 : cX6_strength.data.toList.drop 23 = dktX6_strength_1 := dk_seg dksX6_strength_0 23 rfl rfl
theorem dX6_strength_0 : decode cX6_strength 0 = .ok (.iload_n 0, 1) := dk_26 (dk_at dksX6_strength_0 0 rfl rfl)
theorem dX6_strength_1 : decode cX6_strength 1 = .ok (.bipush 25, 2) := dk_16 25 (dk_at dksX6_strength_0 1 rfl rfl)
theorem dX6_strength_3 : decode cX6_strength 3 = .ok (.if_icmp .ne 7, 3) := dk_160 0 7 (dk_at dksX6_strength_0 3 rfl rfl)
theorem dX6_strength_6 : decode cX6_strength 6 = .ok (.iconst 1, 1) := dk_4 (dk_at dksX6_strength_0 6 rfl rfl)
theorem dX6_strength_7 : decode cX6_strength 7 = .ok (.goto 24, 3) := dk_167 0 24 (dk_at dksX6_strength_0 7 rfl rfl)
theorem dX6_strength_10 : decode cX6_strength 10 = .ok (.iload_n 0, 1) := dk_26 (dk_at dksX6_strength_0 10 rfl rfl)
theorem dX6_strength_11 : decode cX6_strength 11 = .ok (.bipush 24, 2) := dk_16 24 (dk_at dksX6_strength_0 11 rfl rfl)
theorem dX6_strength_13 : decode cX6_strength 13 = .ok (.if_icmp .ne 7, 3) := dk_160 0 7 (dk_at dksX6_strength_0 13 rfl rfl)
theorem dX6_strength_16 : decode cX6_strength 16 = .ok (.iconst 2, 1) := dk_5 (dk_at dksX6_strength_0 16 rfl rfl)
theorem dX6_strength_17 : decode cX6_strength 17 = .ok (.goto 14, 3) := dk_167 0 14 (dk_at dksX6_strength_0 17 rfl rfl)
theorem dX6_strength_20 : decode cX6_strength 20 = .ok (.iload_n 0, 1) := dk_26 (dk_at dksX6_strength_0 20 rfl rfl)
theorem dX6_strength_21 : decode cX6_strength 21 = .ok (.bipush 23, 2) := dk_16 23 (dk_at dksX6_strength_0 21 rfl rfl)
theorem dX6_strength_23 : decode cX6_strength 23 = .ok (.if_icmp .ne 7, 3) := dk_160 0 7 (dk_at dksX6_strength_1 0 rfl rfl)
theorem dX6_strength_26 : decode cX6_strength 26 = .ok (.iconst 3, 1) := dk_6 (dk_at dksX6_strength_1 3 rfl rfl)
theorem dX6_strength_27 : decode cX6_strength 27 = .ok (.goto 4, 3) := dk_167 0 4 (dk_at dksX6_strength_1 4 rfl rfl)
theorem dX6_strength_30 : decode cX6_strength 30 = .ok (.iconst 0, 1) := dk_3 (dk_at dksX6_strength_1 7 rfl rfl)
theorem dX6_strength_31 : decode cX6_strength 31 = .ok (.ireturn, 1) := dk_172 (dk_at dksX6_strength_1 8 rfl rfl)
abbrev cX6_isInside : ByteArray := prog_25_method_123_code
def yX6_isInside : MethodName := ⟨RX6, "isInside", "()Z"⟩
def dkwX6_isInside_1 : List UInt8 := [132, 1, 1, 167, 255, 233, 3, 172]
abbrev dktX6_isInside_1 : List UInt8 := dkwX6_isInside_1 ++ []
def dkwX6_isInside_0 : List UInt8 := [3, 60, 27, 42, 180, 1, 215, 162, 0, 21, 42, 180, 0, 70, 27, 46, 4, 160, 0, 5, 4, 172]
abbrev dktX6_isInside_0 : List UInt8 := dkwX6_isInside_0 ++ dktX6_isInside_1
theorem dksX6_isInside_0 : cX6_isInside.data.toList.drop 0 = dktX6_isInside_0 := by decide +kernel
theorem dksX6_isInside_1 : cX6_isInside.data.toList.drop 22 = dktX6_isInside_1 := dk_seg dksX6_isInside_0 22 rfl rfl
theorem dX6_isInside_0 : decode cX6_isInside 0 = .ok (.iconst 0, 1) := dk_3 (dk_at dksX6_isInside_0 0 rfl rfl)
theorem dX6_isInside_1 : decode cX6_isInside 1 = .ok (.istore_n 1, 1) := dk_60 (dk_at dksX6_isInside_0 1 rfl rfl)
theorem dX6_isInside_2 : decode cX6_isInside 2 = .ok (.iload_n 1, 1) := dk_27 (dk_at dksX6_isInside_0 2 rfl rfl)
theorem dX6_isInside_3 : decode cX6_isInside 3 = .ok (.aload_n 0, 1) := dk_42 (dk_at dksX6_isInside_0 3 rfl rfl)
theorem dX6_isInside_4 : decode cX6_isInside 4 = .ok (.getfield 471, 3) := dk_180 1 215 (dk_at dksX6_isInside_0 4 rfl rfl)
theorem dX6_isInside_7 : decode cX6_isInside 7 = .ok (.if_icmp .ge 21, 3) := dk_162 0 21 (dk_at dksX6_isInside_0 7 rfl rfl)
theorem dX6_isInside_10 : decode cX6_isInside 10 = .ok (.aload_n 0, 1) := dk_42 (dk_at dksX6_isInside_0 10 rfl rfl)
theorem dX6_isInside_11 : decode cX6_isInside 11 = .ok (.getfield 70, 3) := dk_180 0 70 (dk_at dksX6_isInside_0 11 rfl rfl)
theorem dX6_isInside_14 : decode cX6_isInside 14 = .ok (.iload_n 1, 1) := dk_27 (dk_at dksX6_isInside_0 14 rfl rfl)
theorem dX6_isInside_15 : decode cX6_isInside 15 = .ok (.iaload, 1) := dk_46 (dk_at dksX6_isInside_0 15 rfl rfl)
theorem dX6_isInside_16 : decode cX6_isInside 16 = .ok (.iconst 1, 1) := dk_4 (dk_at dksX6_isInside_0 16 rfl rfl)
theorem dX6_isInside_17 : decode cX6_isInside 17 = .ok (.if_icmp .ne 5, 3) := dk_160 0 5 (dk_at dksX6_isInside_0 17 rfl rfl)
theorem dX6_isInside_20 : decode cX6_isInside 20 = .ok (.iconst 1, 1) := dk_4 (dk_at dksX6_isInside_0 20 rfl rfl)
theorem dX6_isInside_21 : decode cX6_isInside 21 = .ok (.ireturn, 1) := dk_172 (dk_at dksX6_isInside_0 21 rfl rfl)
theorem dX6_isInside_22 : decode cX6_isInside 22 = .ok (.iinc 1 1, 3) := dk_132 1 1 (dk_at dksX6_isInside_1 0 rfl rfl)
theorem dX6_isInside_25 : decode cX6_isInside 25 = .ok (.goto (-23), 3) := dk_167 255 233 (dk_at dksX6_isInside_1 3 rfl rfl)
theorem dX6_isInside_28 : decode cX6_isInside 28 = .ok (.iconst 0, 1) := dk_3 (dk_at dksX6_isInside_1 6 rfl rfl)
theorem dX6_isInside_29 : decode cX6_isInside 29 = .ok (.ireturn, 1) := dk_172 (dk_at dksX6_isInside_1 7 rfl rfl)
abbrev cX6_holds : ByteArray := prog_25_method_128_code
def yX6_holds : MethodName := ⟨RX6, "holds", "(I)Z"⟩
def dkwX6_holds_7 : List UInt8 := [160, 0, 7, 4, 167, 0, 4, 3, 172]
abbrev dktX6_holds_7 : List UInt8 := dkwX6_holds_7 ++ []
def dkwX6_holds_6 : List UInt8 := [21, 4, 96, 4, 100, 47, 136, 79, 132, 2, 1, 132, 3, 1, 167, 255, 103, 42, 180, 0, 73, 3, 46, 4]
abbrev dktX6_holds_6 : List UInt8 := dkwX6_holds_6 ++ dktX6_holds_7
def dkwX6_holds_5 : List UInt8 := [100, 167, 0, 29, 21, 4, 154, 0, 7, 27, 167, 0, 20, 42, 180, 0, 7, 16, 21, 6, 27, 104, 96]
abbrev dktX6_holds_5 : List UInt8 := dkwX6_holds_5 ++ dktX6_holds_6
def dkwX6_holds_4 : List UInt8 := [167, 0, 4, 3, 79, 167, 0, 53, 42, 180, 0, 73, 28, 21, 4, 16, 100, 161, 0, 11, 21, 4, 16, 100]
abbrev dktX6_holds_4 : List UInt8 := dkwX6_holds_4 ++ dktX6_holds_5
def dkwX6_holds_3 : List UInt8 := [100, 21, 4, 42, 180, 0, 73, 28, 4, 100, 46, 42, 180, 0, 73, 28, 46, 184, 1, 247, 153, 0, 7, 4]
abbrev dktX6_holds_3 : List UInt8 := dkwX6_holds_3 ++ dktX6_holds_4
def dkwX6_holds_2 : List UInt8 := [21, 4, 133, 20, 1, 157, 20, 1, 245, 184, 0, 183, 153, 0, 44, 132, 2, 255, 42, 180, 0, 73, 28, 4]
abbrev dktX6_holds_2 : List UInt8 := dkwX6_holds_2 ++ dktX6_holds_3
def dkwX6_holds_1 : List UInt8 := [160, 0, 24, 42, 180, 0, 73, 28, 4, 100, 4, 42, 180, 0, 73, 28, 4, 100, 46, 100, 79, 167, 0, 109]
abbrev dktX6_holds_1 : List UInt8 := dkwX6_holds_1 ++ dktX6_holds_2
def dkwX6_holds_0 : List UInt8 := [3, 61, 3, 62, 29, 42, 180, 1, 192, 162, 0, 151, 42, 180, 0, 67, 29, 46, 54, 4, 21, 4, 16, 23]
abbrev dktX6_holds_0 : List UInt8 := dkwX6_holds_0 ++ dktX6_holds_1
theorem dksX6_holds_0 : cX6_holds.data.toList.drop 0 = dktX6_holds_0 := by decide +kernel
theorem dksX6_holds_1 : cX6_holds.data.toList.drop 24 = dktX6_holds_1 := dk_seg dksX6_holds_0 24 rfl rfl
theorem dksX6_holds_2 : cX6_holds.data.toList.drop 48 = dktX6_holds_2 := dk_seg dksX6_holds_1 24 rfl rfl
theorem dksX6_holds_3 : cX6_holds.data.toList.drop 72 = dktX6_holds_3 := dk_seg dksX6_holds_2 24 rfl rfl
theorem dksX6_holds_4 : cX6_holds.data.toList.drop 96 = dktX6_holds_4 := dk_seg dksX6_holds_3 24 rfl rfl
theorem dksX6_holds_5 : cX6_holds.data.toList.drop 120 = dktX6_holds_5 := dk_seg dksX6_holds_4 24 rfl rfl
theorem dksX6_holds_6 : cX6_holds.data.toList.drop 143 = dktX6_holds_6 := dk_seg dksX6_holds_5 23 rfl rfl
theorem dksX6_holds_7 : cX6_holds.data.toList.drop 167 = dktX6_holds_7 := dk_seg dksX6_holds_6 24 rfl rfl
theorem dX6_holds_0 : decode cX6_holds 0 = .ok (.iconst 0, 1) := dk_3 (dk_at dksX6_holds_0 0 rfl rfl)
theorem dX6_holds_1 : decode cX6_holds 1 = .ok (.istore_n 2, 1) := dk_61 (dk_at dksX6_holds_0 1 rfl rfl)
theorem dX6_holds_2 : decode cX6_holds 2 = .ok (.iconst 0, 1) := dk_3 (dk_at dksX6_holds_0 2 rfl rfl)
theorem dX6_holds_3 : decode cX6_holds 3 = .ok (.istore_n 3, 1) := dk_62 (dk_at dksX6_holds_0 3 rfl rfl)
theorem dX6_holds_4 : decode cX6_holds 4 = .ok (.iload_n 3, 1) := dk_29 (dk_at dksX6_holds_0 4 rfl rfl)
theorem dX6_holds_5 : decode cX6_holds 5 = .ok (.aload_n 0, 1) := dk_42 (dk_at dksX6_holds_0 5 rfl rfl)
theorem dX6_holds_6 : decode cX6_holds 6 = .ok (.getfield 448, 3) := dk_180 1 192 (dk_at dksX6_holds_0 6 rfl rfl)
theorem dX6_holds_9 : decode cX6_holds 9 = .ok (.if_icmp .ge 151, 3) := dk_162 0 151 (dk_at dksX6_holds_0 9 rfl rfl)
theorem dX6_holds_12 : decode cX6_holds 12 = .ok (.aload_n 0, 1) := dk_42 (dk_at dksX6_holds_0 12 rfl rfl)
theorem dX6_holds_13 : decode cX6_holds 13 = .ok (.getfield 67, 3) := dk_180 0 67 (dk_at dksX6_holds_0 13 rfl rfl)
theorem dX6_holds_16 : decode cX6_holds 16 = .ok (.iload_n 3, 1) := dk_29 (dk_at dksX6_holds_0 16 rfl rfl)
theorem dX6_holds_17 : decode cX6_holds 17 = .ok (.iaload, 1) := dk_46 (dk_at dksX6_holds_0 17 rfl rfl)
theorem dX6_holds_18 : decode cX6_holds 18 = .ok (.istore 4, 2) := dk_54 4 (dk_at dksX6_holds_0 18 rfl rfl)
theorem dX6_holds_20 : decode cX6_holds 20 = .ok (.iload 4, 2) := dk_21 4 (dk_at dksX6_holds_0 20 rfl rfl)
theorem dX6_holds_22 : decode cX6_holds 22 = .ok (.bipush 23, 2) := dk_16 23 (dk_at dksX6_holds_0 22 rfl rfl)
theorem dX6_holds_24 : decode cX6_holds 24 = .ok (.if_icmp .ne 24, 3) := dk_160 0 24 (dk_at dksX6_holds_1 0 rfl rfl)
theorem dX6_holds_27 : decode cX6_holds 27 = .ok (.aload_n 0, 1) := dk_42 (dk_at dksX6_holds_1 3 rfl rfl)
theorem dX6_holds_28 : decode cX6_holds 28 = .ok (.getfield 73, 3) := dk_180 0 73 (dk_at dksX6_holds_1 4 rfl rfl)
theorem dX6_holds_31 : decode cX6_holds 31 = .ok (.iload_n 2, 1) := dk_28 (dk_at dksX6_holds_1 7 rfl rfl)
theorem dX6_holds_32 : decode cX6_holds 32 = .ok (.iconst 1, 1) := dk_4 (dk_at dksX6_holds_1 8 rfl rfl)
theorem dX6_holds_33 : decode cX6_holds 33 = .ok (.isub, 1) := dk_100 (dk_at dksX6_holds_1 9 rfl rfl)
theorem dX6_holds_34 : decode cX6_holds 34 = .ok (.iconst 1, 1) := dk_4 (dk_at dksX6_holds_1 10 rfl rfl)
theorem dX6_holds_35 : decode cX6_holds 35 = .ok (.aload_n 0, 1) := dk_42 (dk_at dksX6_holds_1 11 rfl rfl)
theorem dX6_holds_36 : decode cX6_holds 36 = .ok (.getfield 73, 3) := dk_180 0 73 (dk_at dksX6_holds_1 12 rfl rfl)
theorem dX6_holds_39 : decode cX6_holds 39 = .ok (.iload_n 2, 1) := dk_28 (dk_at dksX6_holds_1 15 rfl rfl)
theorem dX6_holds_40 : decode cX6_holds 40 = .ok (.iconst 1, 1) := dk_4 (dk_at dksX6_holds_1 16 rfl rfl)
theorem dX6_holds_41 : decode cX6_holds 41 = .ok (.isub, 1) := dk_100 (dk_at dksX6_holds_1 17 rfl rfl)
theorem dX6_holds_42 : decode cX6_holds 42 = .ok (.iaload, 1) := dk_46 (dk_at dksX6_holds_1 18 rfl rfl)
theorem dX6_holds_43 : decode cX6_holds 43 = .ok (.isub, 1) := dk_100 (dk_at dksX6_holds_1 19 rfl rfl)
theorem dX6_holds_44 : decode cX6_holds 44 = .ok (.iastore, 1) := dk_79 (dk_at dksX6_holds_1 20 rfl rfl)
theorem dX6_holds_45 : decode cX6_holds 45 = .ok (.goto 109, 3) := dk_167 0 109 (dk_at dksX6_holds_1 21 rfl rfl)
theorem dX6_holds_48 : decode cX6_holds 48 = .ok (.iload 4, 2) := dk_21 4 (dk_at dksX6_holds_2 0 rfl rfl)
theorem dX6_holds_50 : decode cX6_holds 50 = .ok (.i2l, 1) := dk_133 (dk_at dksX6_holds_2 2 rfl rfl)
theorem dX6_holds_51 : decode cX6_holds 51 = .ok (.ldc2_w 413, 3) := dk_20 1 157 (dk_at dksX6_holds_2 3 rfl rfl)
theorem dX6_holds_54 : decode cX6_holds 54 = .ok (.ldc2_w 501, 3) := dk_20 1 245 (dk_at dksX6_holds_2 6 rfl rfl)
theorem dX6_holds_57 : decode cX6_holds 57 = .ok (.invokestatic 183, 3) := dk_184 0 183 (dk_at dksX6_holds_2 9 rfl rfl)
theorem dX6_holds_60 : decode cX6_holds 60 = .ok (.ifCond .eq 44, 3) := dk_153 0 44 (dk_at dksX6_holds_2 12 rfl rfl)
theorem dX6_holds_63 : decode cX6_holds 63 = .ok (.iinc 2 (-1), 3) := dk_132 2 255 (dk_at dksX6_holds_2 15 rfl rfl)
theorem dX6_holds_66 : decode cX6_holds 66 = .ok (.aload_n 0, 1) := dk_42 (dk_at dksX6_holds_2 18 rfl rfl)
theorem dX6_holds_67 : decode cX6_holds 67 = .ok (.getfield 73, 3) := dk_180 0 73 (dk_at dksX6_holds_2 19 rfl rfl)
theorem dX6_holds_70 : decode cX6_holds 70 = .ok (.iload_n 2, 1) := dk_28 (dk_at dksX6_holds_2 22 rfl rfl)
theorem dX6_holds_71 : decode cX6_holds 71 = .ok (.iconst 1, 1) := dk_4 (dk_at dksX6_holds_2 23 rfl rfl)
theorem dX6_holds_72 : decode cX6_holds 72 = .ok (.isub, 1) := dk_100 (dk_at dksX6_holds_3 0 rfl rfl)
theorem dX6_holds_73 : decode cX6_holds 73 = .ok (.iload 4, 2) := dk_21 4 (dk_at dksX6_holds_3 1 rfl rfl)
theorem dX6_holds_75 : decode cX6_holds 75 = .ok (.aload_n 0, 1) := dk_42 (dk_at dksX6_holds_3 3 rfl rfl)
theorem dX6_holds_76 : decode cX6_holds 76 = .ok (.getfield 73, 3) := dk_180 0 73 (dk_at dksX6_holds_3 4 rfl rfl)
theorem dX6_holds_79 : decode cX6_holds 79 = .ok (.iload_n 2, 1) := dk_28 (dk_at dksX6_holds_3 7 rfl rfl)
theorem dX6_holds_80 : decode cX6_holds 80 = .ok (.iconst 1, 1) := dk_4 (dk_at dksX6_holds_3 8 rfl rfl)
theorem dX6_holds_81 : decode cX6_holds 81 = .ok (.isub, 1) := dk_100 (dk_at dksX6_holds_3 9 rfl rfl)
theorem dX6_holds_82 : decode cX6_holds 82 = .ok (.iaload, 1) := dk_46 (dk_at dksX6_holds_3 10 rfl rfl)
theorem dX6_holds_83 : decode cX6_holds 83 = .ok (.aload_n 0, 1) := dk_42 (dk_at dksX6_holds_3 11 rfl rfl)
theorem dX6_holds_84 : decode cX6_holds 84 = .ok (.getfield 73, 3) := dk_180 0 73 (dk_at dksX6_holds_3 12 rfl rfl)
theorem dX6_holds_87 : decode cX6_holds 87 = .ok (.iload_n 2, 1) := dk_28 (dk_at dksX6_holds_3 15 rfl rfl)
theorem dX6_holds_88 : decode cX6_holds 88 = .ok (.iaload, 1) := dk_46 (dk_at dksX6_holds_3 16 rfl rfl)
theorem dX6_holds_89 : decode cX6_holds 89 = .ok (.invokestatic 503, 3) := dk_184 1 247 (dk_at dksX6_holds_3 17 rfl rfl)
theorem dX6_holds_92 : decode cX6_holds 92 = .ok (.ifCond .eq 7, 3) := dk_153 0 7 (dk_at dksX6_holds_3 20 rfl rfl)
theorem dX6_holds_95 : decode cX6_holds 95 = .ok (.iconst 1, 1) := dk_4 (dk_at dksX6_holds_3 23 rfl rfl)
theorem dX6_holds_96 : decode cX6_holds 96 = .ok (.goto 4, 3) := dk_167 0 4 (dk_at dksX6_holds_4 0 rfl rfl)
theorem dX6_holds_99 : decode cX6_holds 99 = .ok (.iconst 0, 1) := dk_3 (dk_at dksX6_holds_4 3 rfl rfl)
theorem dX6_holds_100 : decode cX6_holds 100 = .ok (.iastore, 1) := dk_79 (dk_at dksX6_holds_4 4 rfl rfl)
theorem dX6_holds_101 : decode cX6_holds 101 = .ok (.goto 53, 3) := dk_167 0 53 (dk_at dksX6_holds_4 5 rfl rfl)
theorem dX6_holds_104 : decode cX6_holds 104 = .ok (.aload_n 0, 1) := dk_42 (dk_at dksX6_holds_4 8 rfl rfl)
theorem dX6_holds_105 : decode cX6_holds 105 = .ok (.getfield 73, 3) := dk_180 0 73 (dk_at dksX6_holds_4 9 rfl rfl)
theorem dX6_holds_108 : decode cX6_holds 108 = .ok (.iload_n 2, 1) := dk_28 (dk_at dksX6_holds_4 12 rfl rfl)
theorem dX6_holds_109 : decode cX6_holds 109 = .ok (.iload 4, 2) := dk_21 4 (dk_at dksX6_holds_4 13 rfl rfl)
theorem dX6_holds_111 : decode cX6_holds 111 = .ok (.bipush 100, 2) := dk_16 100 (dk_at dksX6_holds_4 15 rfl rfl)
theorem dX6_holds_113 : decode cX6_holds 113 = .ok (.if_icmp .lt 11, 3) := dk_161 0 11 (dk_at dksX6_holds_4 17 rfl rfl)
theorem dX6_holds_116 : decode cX6_holds 116 = .ok (.iload 4, 2) := dk_21 4 (dk_at dksX6_holds_4 20 rfl rfl)
theorem dX6_holds_118 : decode cX6_holds 118 = .ok (.bipush 100, 2) := dk_16 100 (dk_at dksX6_holds_4 22 rfl rfl)
theorem dX6_holds_120 : decode cX6_holds 120 = .ok (.isub, 1) := dk_100 (dk_at dksX6_holds_5 0 rfl rfl)
theorem dX6_holds_121 : decode cX6_holds 121 = .ok (.goto 29, 3) := dk_167 0 29 (dk_at dksX6_holds_5 1 rfl rfl)
theorem dX6_holds_124 : decode cX6_holds 124 = .ok (.iload 4, 2) := dk_21 4 (dk_at dksX6_holds_5 4 rfl rfl)
theorem dX6_holds_126 : decode cX6_holds 126 = .ok (.ifCond .ne 7, 3) := dk_154 0 7 (dk_at dksX6_holds_5 6 rfl rfl)
theorem dX6_holds_129 : decode cX6_holds 129 = .ok (.iload_n 1, 1) := dk_27 (dk_at dksX6_holds_5 9 rfl rfl)
theorem dX6_holds_130 : decode cX6_holds 130 = .ok (.goto 20, 3) := dk_167 0 20 (dk_at dksX6_holds_5 10 rfl rfl)
theorem dX6_holds_133 : decode cX6_holds 133 = .ok (.aload_n 0, 1) := dk_42 (dk_at dksX6_holds_5 13 rfl rfl)
theorem dX6_holds_134 : decode cX6_holds 134 = .ok (.getfield 7, 3) := dk_180 0 7 (dk_at dksX6_holds_5 14 rfl rfl)
theorem dX6_holds_137 : decode cX6_holds 137 = .ok (.bipush 21, 2) := dk_16 21 (dk_at dksX6_holds_5 17 rfl rfl)
theorem dX6_holds_139 : decode cX6_holds 139 = .ok (.iconst 3, 1) := dk_6 (dk_at dksX6_holds_5 19 rfl rfl)
theorem dX6_holds_140 : decode cX6_holds 140 = .ok (.iload_n 1, 1) := dk_27 (dk_at dksX6_holds_5 20 rfl rfl)
theorem dX6_holds_141 : decode cX6_holds 141 = .ok (.imul, 1) := dk_104 (dk_at dksX6_holds_5 21 rfl rfl)
theorem dX6_holds_142 : decode cX6_holds 142 = .ok (.iadd, 1) := dk_96 (dk_at dksX6_holds_5 22 rfl rfl)
theorem dX6_holds_143 : decode cX6_holds 143 = .ok (.iload 4, 2) := dk_21 4 (dk_at dksX6_holds_6 0 rfl rfl)
theorem dX6_holds_145 : decode cX6_holds 145 = .ok (.iadd, 1) := dk_96 (dk_at dksX6_holds_6 2 rfl rfl)
theorem dX6_holds_146 : decode cX6_holds 146 = .ok (.iconst 1, 1) := dk_4 (dk_at dksX6_holds_6 3 rfl rfl)
theorem dX6_holds_147 : decode cX6_holds 147 = .ok (.isub, 1) := dk_100 (dk_at dksX6_holds_6 4 rfl rfl)
theorem dX6_holds_148 : decode cX6_holds 148 = .ok (.laload, 1) := dk_47 (dk_at dksX6_holds_6 5 rfl rfl)
theorem dX6_holds_149 : decode cX6_holds 149 = .ok (.l2i, 1) := dk_136 (dk_at dksX6_holds_6 6 rfl rfl)
theorem dX6_holds_150 : decode cX6_holds 150 = .ok (.iastore, 1) := dk_79 (dk_at dksX6_holds_6 7 rfl rfl)
theorem dX6_holds_151 : decode cX6_holds 151 = .ok (.iinc 2 1, 3) := dk_132 2 1 (dk_at dksX6_holds_6 8 rfl rfl)
theorem dX6_holds_154 : decode cX6_holds 154 = .ok (.iinc 3 1, 3) := dk_132 3 1 (dk_at dksX6_holds_6 11 rfl rfl)
theorem dX6_holds_157 : decode cX6_holds 157 = .ok (.goto (-153), 3) := dk_167 255 103 (dk_at dksX6_holds_6 14 rfl rfl)
theorem dX6_holds_160 : decode cX6_holds 160 = .ok (.aload_n 0, 1) := dk_42 (dk_at dksX6_holds_6 17 rfl rfl)
theorem dX6_holds_161 : decode cX6_holds 161 = .ok (.getfield 73, 3) := dk_180 0 73 (dk_at dksX6_holds_6 18 rfl rfl)
theorem dX6_holds_164 : decode cX6_holds 164 = .ok (.iconst 0, 1) := dk_3 (dk_at dksX6_holds_6 21 rfl rfl)
theorem dX6_holds_165 : decode cX6_holds 165 = .ok (.iaload, 1) := dk_46 (dk_at dksX6_holds_6 22 rfl rfl)
theorem dX6_holds_166 : decode cX6_holds 166 = .ok (.iconst 1, 1) := dk_4 (dk_at dksX6_holds_6 23 rfl rfl)
theorem dX6_holds_167 : decode cX6_holds 167 = .ok (.if_icmp .ne 7, 3) := dk_160 0 7 (dk_at dksX6_holds_7 0 rfl rfl)
theorem dX6_holds_170 : decode cX6_holds 170 = .ok (.iconst 1, 1) := dk_4 (dk_at dksX6_holds_7 3 rfl rfl)
theorem dX6_holds_171 : decode cX6_holds 171 = .ok (.goto 4, 3) := dk_167 0 4 (dk_at dksX6_holds_7 4 rfl rfl)
theorem dX6_holds_174 : decode cX6_holds 174 = .ok (.iconst 0, 1) := dk_3 (dk_at dksX6_holds_7 7 rfl rfl)
theorem dX6_holds_175 : decode cX6_holds 175 = .ok (.ireturn, 1) := dk_172 (dk_at dksX6_holds_7 8 rfl rfl)
abbrev cX6_joined : ByteArray := prog_25_method_127_code
def yX6_joined : MethodName := ⟨RX6, "joined", "(III)Z"⟩
def dkwX6_joined_4 : List UInt8 := [96, 158, 0, 7, 4, 167, 0, 4, 3, 172]
abbrev dktX6_joined_4 : List UInt8 := dkwX6_joined_4 ++ []
def dkwX6_joined_3 : List UInt8 := [164, 0, 7, 4, 167, 0, 4, 3, 172, 27, 28, 96, 5, 160, 0, 7, 4, 167, 0, 4, 3, 172, 27, 28]
abbrev dktX6_joined_3 : List UInt8 := dkwX6_joined_3 ++ dktX6_joined_4
def dkwX6_joined_2 : List UInt8 := [27, 28, 162, 0, 7, 4, 167, 0, 4, 3, 172, 27, 28, 160, 0, 7, 4, 167, 0, 4, 3, 172, 27, 28]
abbrev dktX6_joined_2 : List UInt8 := dkwX6_joined_2 ++ dktX6_joined_3
def dkwX6_joined_1 : List UInt8 := [170, 0, 0, 0, 0, 0, 81, 0, 0, 0, 20, 0, 0, 0, 24, 0, 0, 0, 35, 0, 0, 0, 46, 0, 0, 0, 57, 0, 0, 0, 81, 0, 0, 0, 68]
abbrev dktX6_joined_1 : List UInt8 := dkwX6_joined_1 ++ dktX6_joined_2
def dkwX6_joined_0 : List UInt8 := [26]
abbrev dktX6_joined_0 : List UInt8 := dkwX6_joined_0 ++ dktX6_joined_1
theorem dksX6_joined_0 : cX6_joined.data.toList.drop 0 = dktX6_joined_0 := by decide +kernel
theorem dksX6_joined_1 : cX6_joined.data.toList.drop 1 = dktX6_joined_1 := dk_seg dksX6_joined_0 1 rfl rfl
theorem dksX6_joined_2 : cX6_joined.data.toList.drop 36 = dktX6_joined_2 := dk_seg dksX6_joined_1 35 rfl rfl
theorem dksX6_joined_3 : cX6_joined.data.toList.drop 60 = dktX6_joined_3 := dk_seg dksX6_joined_2 24 rfl rfl
theorem dksX6_joined_4 : cX6_joined.data.toList.drop 84 = dktX6_joined_4 := dk_seg dksX6_joined_3 24 rfl rfl
theorem dX6_joined_0 : decode cX6_joined 0 = .ok (.iload_n 0, 1) := dk_26 (dk_at dksX6_joined_0 0 rfl rfl)
theorem dX6_joined_1 : decode cX6_joined 1 = .ok (.tableswitch 81 20 24 #[35, 46, 57, 81, 68], 35) := by decide +kernel
theorem dX6_joined_36 : decode cX6_joined 36 = .ok (.iload_n 1, 1) := dk_27 (dk_at dksX6_joined_2 0 rfl rfl)
theorem dX6_joined_37 : decode cX6_joined 37 = .ok (.iload_n 2, 1) := dk_28 (dk_at dksX6_joined_2 1 rfl rfl)
theorem dX6_joined_38 : decode cX6_joined 38 = .ok (.if_icmp .ge 7, 3) := dk_162 0 7 (dk_at dksX6_joined_2 2 rfl rfl)
theorem dX6_joined_41 : decode cX6_joined 41 = .ok (.iconst 1, 1) := dk_4 (dk_at dksX6_joined_2 5 rfl rfl)
theorem dX6_joined_42 : decode cX6_joined 42 = .ok (.goto 4, 3) := dk_167 0 4 (dk_at dksX6_joined_2 6 rfl rfl)
theorem dX6_joined_45 : decode cX6_joined 45 = .ok (.iconst 0, 1) := dk_3 (dk_at dksX6_joined_2 9 rfl rfl)
theorem dX6_joined_46 : decode cX6_joined 46 = .ok (.ireturn, 1) := dk_172 (dk_at dksX6_joined_2 10 rfl rfl)
theorem dX6_joined_47 : decode cX6_joined 47 = .ok (.iload_n 1, 1) := dk_27 (dk_at dksX6_joined_2 11 rfl rfl)
theorem dX6_joined_48 : decode cX6_joined 48 = .ok (.iload_n 2, 1) := dk_28 (dk_at dksX6_joined_2 12 rfl rfl)
theorem dX6_joined_49 : decode cX6_joined 49 = .ok (.if_icmp .ne 7, 3) := dk_160 0 7 (dk_at dksX6_joined_2 13 rfl rfl)
theorem dX6_joined_52 : decode cX6_joined 52 = .ok (.iconst 1, 1) := dk_4 (dk_at dksX6_joined_2 16 rfl rfl)
theorem dX6_joined_53 : decode cX6_joined 53 = .ok (.goto 4, 3) := dk_167 0 4 (dk_at dksX6_joined_2 17 rfl rfl)
theorem dX6_joined_56 : decode cX6_joined 56 = .ok (.iconst 0, 1) := dk_3 (dk_at dksX6_joined_2 20 rfl rfl)
theorem dX6_joined_57 : decode cX6_joined 57 = .ok (.ireturn, 1) := dk_172 (dk_at dksX6_joined_2 21 rfl rfl)
theorem dX6_joined_58 : decode cX6_joined 58 = .ok (.iload_n 1, 1) := dk_27 (dk_at dksX6_joined_2 22 rfl rfl)
theorem dX6_joined_59 : decode cX6_joined 59 = .ok (.iload_n 2, 1) := dk_28 (dk_at dksX6_joined_2 23 rfl rfl)
theorem dX6_joined_60 : decode cX6_joined 60 = .ok (.if_icmp .le 7, 3) := dk_164 0 7 (dk_at dksX6_joined_3 0 rfl rfl)
theorem dX6_joined_63 : decode cX6_joined 63 = .ok (.iconst 1, 1) := dk_4 (dk_at dksX6_joined_3 3 rfl rfl)
theorem dX6_joined_64 : decode cX6_joined 64 = .ok (.goto 4, 3) := dk_167 0 4 (dk_at dksX6_joined_3 4 rfl rfl)
theorem dX6_joined_67 : decode cX6_joined 67 = .ok (.iconst 0, 1) := dk_3 (dk_at dksX6_joined_3 7 rfl rfl)
theorem dX6_joined_68 : decode cX6_joined 68 = .ok (.ireturn, 1) := dk_172 (dk_at dksX6_joined_3 8 rfl rfl)
theorem dX6_joined_69 : decode cX6_joined 69 = .ok (.iload_n 1, 1) := dk_27 (dk_at dksX6_joined_3 9 rfl rfl)
theorem dX6_joined_70 : decode cX6_joined 70 = .ok (.iload_n 2, 1) := dk_28 (dk_at dksX6_joined_3 10 rfl rfl)
theorem dX6_joined_71 : decode cX6_joined 71 = .ok (.iadd, 1) := dk_96 (dk_at dksX6_joined_3 11 rfl rfl)
theorem dX6_joined_72 : decode cX6_joined 72 = .ok (.iconst 2, 1) := dk_5 (dk_at dksX6_joined_3 12 rfl rfl)
theorem dX6_joined_73 : decode cX6_joined 73 = .ok (.if_icmp .ne 7, 3) := dk_160 0 7 (dk_at dksX6_joined_3 13 rfl rfl)
theorem dX6_joined_76 : decode cX6_joined 76 = .ok (.iconst 1, 1) := dk_4 (dk_at dksX6_joined_3 16 rfl rfl)
theorem dX6_joined_77 : decode cX6_joined 77 = .ok (.goto 4, 3) := dk_167 0 4 (dk_at dksX6_joined_3 17 rfl rfl)
theorem dX6_joined_80 : decode cX6_joined 80 = .ok (.iconst 0, 1) := dk_3 (dk_at dksX6_joined_3 20 rfl rfl)
theorem dX6_joined_81 : decode cX6_joined 81 = .ok (.ireturn, 1) := dk_172 (dk_at dksX6_joined_3 21 rfl rfl)
theorem dX6_joined_82 : decode cX6_joined 82 = .ok (.iload_n 1, 1) := dk_27 (dk_at dksX6_joined_3 22 rfl rfl)
theorem dX6_joined_83 : decode cX6_joined 83 = .ok (.iload_n 2, 1) := dk_28 (dk_at dksX6_joined_3 23 rfl rfl)
theorem dX6_joined_84 : decode cX6_joined 84 = .ok (.iadd, 1) := dk_96 (dk_at dksX6_joined_4 0 rfl rfl)
theorem dX6_joined_85 : decode cX6_joined 85 = .ok (.ifCond .le 7, 3) := dk_158 0 7 (dk_at dksX6_joined_4 1 rfl rfl)
theorem dX6_joined_88 : decode cX6_joined 88 = .ok (.iconst 1, 1) := dk_4 (dk_at dksX6_joined_4 4 rfl rfl)
theorem dX6_joined_89 : decode cX6_joined 89 = .ok (.goto 4, 3) := dk_167 0 4 (dk_at dksX6_joined_4 5 rfl rfl)
theorem dX6_joined_92 : decode cX6_joined 92 = .ok (.iconst 0, 1) := dk_3 (dk_at dksX6_joined_4 8 rfl rfl)
theorem dX6_joined_93 : decode cX6_joined 93 = .ok (.ireturn, 1) := dk_172 (dk_at dksX6_joined_4 9 rfl rfl)
theorem q113 : (Jvm.Cond.initialized "ThreeBodiesModel") ∈ lw_all := lw_g (lw_at lw_m1 15 rfl) rfl
theorem q820 : (Jvm.Cond.selects "ThreeBodiesModel" ({ cls := "java/lang/Object", name := "getClass", desc := "()Ljava/lang/Class;" } : Jvm.MethodName) ({ cls := "java/lang/Object", name := "getClass", desc := "()Ljava/lang/Class;" } : Jvm.MethodName)) ∈ lw_all := lw_g (lw_at lw_m4 2 rfl) rfl
theorem q1866 : (Jvm.Cond.selects "ThreeBodiesModel" ({ cls := "java/lang/Object", name := "hashCode", desc := "()I" } : Jvm.MethodName) ({ cls := "java/lang/Object", name := "hashCode", desc := "()I" } : Jvm.MethodName)) ∈ lw_all := lw_g (lw_at lw_m8 88 rfl) rfl
theorem q1953 : (Jvm.Cond.selects "ThreeBodiesModel" ({ cls := "java/lang/Object", name := "equals", desc := "(Ljava/lang/Object;)Z" } : Jvm.MethodName) ({ cls := "java/lang/Object", name := "equals", desc := "(Ljava/lang/Object;)Z" } : Jvm.MethodName)) ∈ lw_all := lw_g (lw_at lw_m8 175 rfl) rfl
theorem q2699 : (Jvm.Cond.instantiable "ThreeBodiesModel" (39 : Nat)) ∈ lw_all := lw_g (lw_at lw_m11 201 rfl) rfl
theorem q2701 : (Jvm.Cond.instanceMethod ({ cls := "ThreeBodiesModel", name := "<init>", desc := "()V" } : Jvm.MethodName)) ∈ lw_all := lw_g (lw_at lw_m11 203 rfl) rfl
theorem q2702 : (Jvm.Cond.code ({ cls := "ThreeBodiesModel", name := "<init>", desc := "()V" } : Jvm.MethodName) prog_25_method_1_code (2 : Nat) (Option.none : Option Jvm.ClassFile.FieldType)) ∈ lw_all := lw_g (lw_at lw_m11 204 rfl) rfl
theorem q2703 : (Jvm.Cond.methodLink "ThreeBodiesModel" (1 : Nat) ({ cls := "java/lang/Object", name := "<init>", desc := "()V" } : Jvm.MethodName)) ∈ lw_all := lw_g (lw_at lw_m11 205 rfl) rfl
theorem q2704 : (Jvm.Cond.methodLink "ThreeBodiesModel" (76 : Nat) ({ cls := "ThreeBodiesModel", name := "clears", desc := "()V" } : Jvm.MethodName)) ∈ lw_all := lw_g (lw_at lw_m11 206 rfl) rfl
theorem q2705 : (Jvm.Cond.privateMethod ({ cls := "ThreeBodiesModel", name := "clears", desc := "()V" } : Jvm.MethodName)) ∈ lw_tbl := lw_at lw_m11 207 rfl
theorem q2706 : (Jvm.Cond.instanceMethod ({ cls := "ThreeBodiesModel", name := "clears", desc := "()V" } : Jvm.MethodName)) ∈ lw_all := lw_g (lw_at lw_m11 208 rfl) rfl
theorem q2707 : (Jvm.Cond.code ({ cls := "ThreeBodiesModel", name := "clears", desc := "()V" } : Jvm.MethodName) prog_25_method_9_code (2 : Nat) (Option.none : Option Jvm.ClassFile.FieldType)) ∈ lw_all := lw_g (lw_at lw_m11 209 rfl) rfl
theorem q2708 : (Jvm.Cond.constantLong "ThreeBodiesModel" (83 : Nat) (1000 : Int64)) ∈ lw_all := lw_g (lw_at lw_m11 210 rfl) rfl
theorem q2709 : (Jvm.Cond.constantLong "ThreeBodiesModel" (91 : Nat) (10 : Int64)) ∈ lw_all := lw_g (lw_at lw_m11 211 rfl) rfl
theorem q2710 : (Jvm.Cond.constantLong "ThreeBodiesModel" (93 : Nat) (100 : Int64)) ∈ lw_all := lw_g (lw_at lw_m11 212 rfl) rfl
theorem q2711 : (Jvm.Cond.methodLink "ThreeBodiesModel" (79 : Nat) ({ cls := "ThreeBodiesModel", name := "at", desc := "(II)I" } : Jvm.MethodName)) ∈ lw_all := lw_g (lw_at lw_m11 213 rfl) rfl
theorem q2712 : (Jvm.Cond.static ({ cls := "ThreeBodiesModel", name := "at", desc := "(II)I" } : Jvm.MethodName)) ∈ lw_all := lw_g (lw_at lw_m11 214 rfl) rfl
theorem q2713 : (Jvm.Cond.code ({ cls := "ThreeBodiesModel", name := "at", desc := "(II)I" } : Jvm.MethodName) prog_25_method_7_code (2 : Nat) (Option.some Jvm.ClassFile.FieldType.int)) ∈ lw_all := lw_g (lw_at lw_m11 215 rfl) rfl
theorem q2714 : (Jvm.Cond.methodLink "ThreeBodiesModel" (85 : Nat) ({ cls := "ThreeBodiesModel", name := "becomes", desc := "()V" } : Jvm.MethodName)) ∈ lw_all := lw_g (lw_at lw_m11 216 rfl) rfl
theorem q2715 : (Jvm.Cond.privateMethod ({ cls := "ThreeBodiesModel", name := "becomes", desc := "()V" } : Jvm.MethodName)) ∈ lw_tbl := lw_at lw_m11 217 rfl
theorem q2716 : (Jvm.Cond.instanceMethod ({ cls := "ThreeBodiesModel", name := "becomes", desc := "()V" } : Jvm.MethodName)) ∈ lw_all := lw_g (lw_at lw_m11 218 rfl) rfl
theorem q2717 : (Jvm.Cond.code ({ cls := "ThreeBodiesModel", name := "becomes", desc := "()V" } : Jvm.MethodName) prog_25_method_10_code (2 : Nat) (Option.none : Option Jvm.ClassFile.FieldType)) ∈ lw_all := lw_g (lw_at lw_m11 219 rfl) rfl
theorem q2718 : (Jvm.Cond.methodLink "ThreeBodiesModel" (95 : Nat) ({ cls := "ThreeBodiesModel", name := "copy", desc := "([J[J)V" } : Jvm.MethodName)) ∈ lw_all := lw_g (lw_at lw_m11 220 rfl) rfl
theorem q2719 : (Jvm.Cond.static ({ cls := "ThreeBodiesModel", name := "copy", desc := "([J[J)V" } : Jvm.MethodName)) ∈ lw_all := lw_g (lw_at lw_m11 221 rfl) rfl
theorem q2720 : (Jvm.Cond.code ({ cls := "ThreeBodiesModel", name := "copy", desc := "([J[J)V" } : Jvm.MethodName) prog_25_method_8_code (3 : Nat) (Option.none : Option Jvm.ClassFile.FieldType)) ∈ lw_all := lw_g (lw_at lw_m11 222 rfl) rfl
theorem q2721 : (Jvm.Cond.methodLink "ThreeBodiesModel" (99 : Nat) ({ cls := "ThreeBodiesModel", name := "energy", desc := "([J)J" } : Jvm.MethodName)) ∈ lw_all := lw_g (lw_at lw_m11 223 rfl) rfl
theorem q2722 : (Jvm.Cond.privateMethod ({ cls := "ThreeBodiesModel", name := "energy", desc := "([J)J" } : Jvm.MethodName)) ∈ lw_tbl := lw_at lw_m11 224 rfl
theorem q2723 : (Jvm.Cond.instanceMethod ({ cls := "ThreeBodiesModel", name := "energy", desc := "([J)J" } : Jvm.MethodName)) ∈ lw_all := lw_g (lw_at lw_m11 225 rfl) rfl
theorem q2724 : (Jvm.Cond.code ({ cls := "ThreeBodiesModel", name := "energy", desc := "([J)J" } : Jvm.MethodName) prog_25_method_42_code (2 : Nat) (Option.some Jvm.ClassFile.FieldType.long)) ∈ lw_all := lw_g (lw_at lw_m11 226 rfl) rfl
theorem q2725 : (Jvm.Cond.methodLink "ThreeBodiesModel" (268 : Nat) ({ cls := "ThreeBodiesModel", name := "kineticOf", desc := "([J)J" } : Jvm.MethodName)) ∈ lw_all := lw_g (lw_at lw_m11 227 rfl) rfl
theorem q2726 : (Jvm.Cond.static ({ cls := "ThreeBodiesModel", name := "kineticOf", desc := "([J)J" } : Jvm.MethodName)) ∈ lw_all := lw_g (lw_at lw_m11 228 rfl) rfl
theorem q2727 : (Jvm.Cond.code ({ cls := "ThreeBodiesModel", name := "kineticOf", desc := "([J)J" } : Jvm.MethodName) prog_25_method_43_code (4 : Nat) (Option.some Jvm.ClassFile.FieldType.long)) ∈ lw_all := lw_g (lw_at lw_m11 229 rfl) rfl
theorem q2728 : (Jvm.Cond.constantLong "ThreeBodiesModel" (203 : Nat) (2 : Int64)) ∈ lw_all := lw_g (lw_at lw_m11 230 rfl) rfl
theorem q2729 : (Jvm.Cond.methodLink "ThreeBodiesModel" (271 : Nat) ({ cls := "ThreeBodiesModel", name := "potentialOf", desc := "([J)J" } : Jvm.MethodName)) ∈ lw_all := lw_g (lw_at lw_m11 231 rfl) rfl
theorem q2730 : (Jvm.Cond.privateMethod ({ cls := "ThreeBodiesModel", name := "potentialOf", desc := "([J)J" } : Jvm.MethodName)) ∈ lw_tbl := lw_at lw_m11 232 rfl
theorem q2731 : (Jvm.Cond.instanceMethod ({ cls := "ThreeBodiesModel", name := "potentialOf", desc := "([J)J" } : Jvm.MethodName)) ∈ lw_all := lw_g (lw_at lw_m11 233 rfl) rfl
theorem q2732 : (Jvm.Cond.code ({ cls := "ThreeBodiesModel", name := "potentialOf", desc := "([J)J" } : Jvm.MethodName) prog_25_method_44_code (5 : Nat) (Option.some Jvm.ClassFile.FieldType.long)) ∈ lw_all := lw_g (lw_at lw_m11 234 rfl) rfl
theorem q2733 : (Jvm.Cond.methodLink "ThreeBodiesModel" (252 : Nat) ({ cls := "ThreeBodiesModel", name := "firstOf", desc := "(I)I" } : Jvm.MethodName)) ∈ lw_all := lw_g (lw_at lw_m11 235 rfl) rfl
theorem q2734 : (Jvm.Cond.static ({ cls := "ThreeBodiesModel", name := "firstOf", desc := "(I)I" } : Jvm.MethodName)) ∈ lw_all := lw_g (lw_at lw_m11 236 rfl) rfl
theorem q2735 : (Jvm.Cond.code ({ cls := "ThreeBodiesModel", name := "firstOf", desc := "(I)I" } : Jvm.MethodName) prog_25_method_35_code (1 : Nat) (Option.some Jvm.ClassFile.FieldType.int)) ∈ lw_all := lw_g (lw_at lw_m11 237 rfl) rfl
theorem q2736 : (Jvm.Cond.methodLink "ThreeBodiesModel" (255 : Nat) ({ cls := "ThreeBodiesModel", name := "secondOf", desc := "(I)I" } : Jvm.MethodName)) ∈ lw_all := lw_g (lw_at lw_m11 238 rfl) rfl
theorem q2737 : (Jvm.Cond.static ({ cls := "ThreeBodiesModel", name := "secondOf", desc := "(I)I" } : Jvm.MethodName)) ∈ lw_all := lw_g (lw_at lw_m11 239 rfl) rfl
theorem q2738 : (Jvm.Cond.code ({ cls := "ThreeBodiesModel", name := "secondOf", desc := "(I)I" } : Jvm.MethodName) prog_25_method_36_code (1 : Nat) (Option.some Jvm.ClassFile.FieldType.int)) ∈ lw_all := lw_g (lw_at lw_m12 0 rfl) rfl
theorem q2739 : (Jvm.Cond.methodLink "ThreeBodiesModel" (265 : Nat) ({ cls := "ThreeBodiesModel", name := "reachOf", desc := "([JI)J" } : Jvm.MethodName)) ∈ lw_all := lw_g (lw_at lw_m12 1 rfl) rfl
theorem q2740 : (Jvm.Cond.privateMethod ({ cls := "ThreeBodiesModel", name := "reachOf", desc := "([JI)J" } : Jvm.MethodName)) ∈ lw_tbl := lw_at lw_m12 2 rfl
theorem q2741 : (Jvm.Cond.instanceMethod ({ cls := "ThreeBodiesModel", name := "reachOf", desc := "([JI)J" } : Jvm.MethodName)) ∈ lw_all := lw_g (lw_at lw_m12 3 rfl) rfl
theorem q2742 : (Jvm.Cond.code ({ cls := "ThreeBodiesModel", name := "reachOf", desc := "([JI)J" } : Jvm.MethodName) prog_25_method_40_code (3 : Nat) (Option.some Jvm.ClassFile.FieldType.long)) ∈ lw_all := lw_g (lw_at lw_m12 4 rfl) rfl
theorem q2743 : (Jvm.Cond.methodLink "ThreeBodiesModel" (261 : Nat) ({ cls := "ThreeBodiesModel", name := "distanceOf", desc := "([JI)J" } : Jvm.MethodName)) ∈ lw_all := lw_g (lw_at lw_m12 5 rfl) rfl
theorem q2744 : (Jvm.Cond.static ({ cls := "ThreeBodiesModel", name := "distanceOf", desc := "([JI)J" } : Jvm.MethodName)) ∈ lw_all := lw_g (lw_at lw_m12 6 rfl) rfl
theorem q2745 : (Jvm.Cond.code ({ cls := "ThreeBodiesModel", name := "distanceOf", desc := "([JI)J" } : Jvm.MethodName) prog_25_method_39_code (4 : Nat) (Option.some Jvm.ClassFile.FieldType.long)) ∈ lw_all := lw_g (lw_at lw_m12 7 rfl) rfl
theorem q2746 : (Jvm.Cond.methodLink "ThreeBodiesModel" (258 : Nat) ({ cls := "ThreeBodiesModel", name := "away", desc := "(JJ)J" } : Jvm.MethodName)) ∈ lw_all := lw_g (lw_at lw_m12 8 rfl) rfl
theorem q2747 : (Jvm.Cond.static ({ cls := "ThreeBodiesModel", name := "away", desc := "(JJ)J" } : Jvm.MethodName)) ∈ lw_all := lw_g (lw_at lw_m12 9 rfl) rfl
theorem q2748 : (Jvm.Cond.code ({ cls := "ThreeBodiesModel", name := "away", desc := "(JJ)J" } : Jvm.MethodName) prog_25_method_38_code (4 : Nat) (Option.some Jvm.ClassFile.FieldType.long)) ∈ lw_all := lw_g (lw_at lw_m12 10 rfl) rfl
theorem q2749 : (Jvm.Cond.methodLink "ThreeBodiesModel" (249 : Nat) ({ cls := "ThreeBodiesModel", name := "root", desc := "(J)J" } : Jvm.MethodName)) ∈ lw_all := lw_g (lw_at lw_m12 11 rfl) rfl
theorem q2750 : (Jvm.Cond.static ({ cls := "ThreeBodiesModel", name := "root", desc := "(J)J" } : Jvm.MethodName)) ∈ lw_all := lw_g (lw_at lw_m12 12 rfl) rfl
theorem q2751 : (Jvm.Cond.code ({ cls := "ThreeBodiesModel", name := "root", desc := "(J)J" } : Jvm.MethodName) prog_25_method_37_code (8 : Nat) (Option.some Jvm.ClassFile.FieldType.long)) ∈ lw_all := lw_g (lw_at lw_m12 13 rfl) rfl
theorem q2752 : (Jvm.Cond.constantLong "ThreeBodiesModel" (219 : Nat) (300000 : Int64)) ∈ lw_all := lw_g (lw_at lw_m12 14 rfl) rfl
theorem q2753 : (Jvm.Cond.fieldLink "ThreeBodiesModel" (88 : Nat) "ThreeBodiesModel" "thrown" "I") ∈ lw_all := lw_g (lw_at lw_m12 15 rfl) rfl
theorem q2754 : (Jvm.Cond.fieldLink "ThreeBodiesModel" (7 : Nat) "ThreeBodiesModel" "now" "[J") ∈ lw_all := lw_g (lw_at lw_m12 16 rfl) rfl
theorem q2755 : (Jvm.Cond.fieldLink "ThreeBodiesModel" (13 : Nat) "ThreeBodiesModel" "then" "[J") ∈ lw_all := lw_g (lw_at lw_m12 17 rfl) rfl
theorem q2756 : (Jvm.Cond.fieldLink "ThreeBodiesModel" (16 : Nat) "ThreeBodiesModel" "draft" "[J") ∈ lw_all := lw_g (lw_at lw_m12 18 rfl) rfl
theorem q2757 : (Jvm.Cond.fieldLink "ThreeBodiesModel" (19 : Nat) "ThreeBodiesModel" "tried" "[J") ∈ lw_all := lw_g (lw_at lw_m12 19 rfl) rfl
theorem q2758 : (Jvm.Cond.fieldLink "ThreeBodiesModel" (22 : Nat) "ThreeBodiesModel" "saved" "[J") ∈ lw_all := lw_g (lw_at lw_m12 20 rfl) rfl
theorem q2759 : (Jvm.Cond.fieldLink "ThreeBodiesModel" (25 : Nat) "ThreeBodiesModel" "history" "[J") ∈ lw_all := lw_g (lw_at lw_m12 21 rfl) rfl
theorem q2760 : (Jvm.Cond.fieldLink "ThreeBodiesModel" (28 : Nat) "ThreeBodiesModel" "told" "[J") ∈ lw_all := lw_g (lw_at lw_m12 22 rfl) rfl
theorem q2761 : (Jvm.Cond.fieldLink "ThreeBodiesModel" (31 : Nat) "ThreeBodiesModel" "draftTold" "[J") ∈ lw_all := lw_g (lw_at lw_m12 23 rfl) rfl
theorem q2762 : (Jvm.Cond.fieldLink "ThreeBodiesModel" (106 : Nat) "ThreeBodiesModel" "isSaved" "Z") ∈ lw_all := lw_g (lw_at lw_m12 24 rfl) rfl
theorem q2763 : (Jvm.Cond.fieldLink "ThreeBodiesModel" (103 : Nat) "ThreeBodiesModel" "recorded" "I") ∈ lw_all := lw_g (lw_at lw_m12 25 rfl) rfl
theorem q2764 : (Jvm.Cond.fieldLink "ThreeBodiesModel" (110 : Nat) "ThreeBodiesModel" "remembered" "I") ∈ lw_all := lw_g (lw_at lw_m12 26 rfl) rfl
theorem q2765 : (Jvm.Cond.fieldLink "ThreeBodiesModel" (34 : Nat) "ThreeBodiesModel" "memory" "[J") ∈ lw_all := lw_g (lw_at lw_m12 27 rfl) rfl
theorem q2766 : (Jvm.Cond.fieldLink "ThreeBodiesModel" (37 : Nat) "ThreeBodiesModel" "buffer" "[I") ∈ lw_all := lw_g (lw_at lw_m12 28 rfl) rfl
theorem q2767 : (Jvm.Cond.fieldLink "ThreeBodiesModel" (113 : Nat) "ThreeBodiesModel" "buffered" "I") ∈ lw_all := lw_g (lw_at lw_m12 29 rfl) rfl
theorem q2768 : (Jvm.Cond.fieldLink "ThreeBodiesModel" (120 : Nat) "ThreeBodiesModel" "textEnd" "I") ∈ lw_all := lw_g (lw_at lw_m12 30 rfl) rfl
theorem q2769 : (Jvm.Cond.fieldLink "ThreeBodiesModel" (127 : Nat) "ThreeBodiesModel" "at" "I") ∈ lw_all := lw_g (lw_at lw_m12 31 rfl) rfl
theorem q2770 : (Jvm.Cond.fieldLink "ThreeBodiesModel" (137 : Nat) "ThreeBodiesModel" "begin" "I") ∈ lw_all := lw_g (lw_at lw_m12 32 rfl) rfl
theorem q2771 : (Jvm.Cond.fieldLink "ThreeBodiesModel" (144 : Nat) "ThreeBodiesModel" "kind" "I") ∈ lw_all := lw_g (lw_at lw_m12 33 rfl) rfl
theorem q2772 : (Jvm.Cond.fieldLink "ThreeBodiesModel" (147 : Nat) "ThreeBodiesModel" "value" "J") ∈ lw_all := lw_g (lw_at lw_m12 34 rfl) rfl
theorem q2773 : (Jvm.Cond.fieldLink "ThreeBodiesModel" (123 : Nat) "ThreeBodiesModel" "word" "J") ∈ lw_all := lw_g (lw_at lw_m12 35 rfl) rfl
theorem q2774 : (Jvm.Cond.fieldLink "ThreeBodiesModel" (163 : Nat) "ThreeBodiesModel" "wrong" "I") ∈ lw_all := lw_g (lw_at lw_m12 36 rfl) rfl
theorem q2775 : (Jvm.Cond.fieldLink "ThreeBodiesModel" (41 : Nat) "ThreeBodiesModel" "wrongAt" "I") ∈ lw_all := lw_g (lw_at lw_m12 37 rfl) rfl
theorem q2776 : (Jvm.Cond.fieldLink "ThreeBodiesModel" (45 : Nat) "ThreeBodiesModel" "gives" "[J") ∈ lw_all := lw_g (lw_at lw_m12 38 rfl) rfl
theorem q2777 : (Jvm.Cond.fieldLink "ThreeBodiesModel" (48 : Nat) "ThreeBodiesModel" "ahead" "[J") ∈ lw_all := lw_g (lw_at lw_m12 39 rfl) rfl
theorem q2778 : (Jvm.Cond.fieldLink "ThreeBodiesModel" (51 : Nat) "ThreeBodiesModel" "path" "[J") ∈ lw_all := lw_g (lw_at lw_m12 40 rfl) rfl
theorem q2779 : (Jvm.Cond.fieldLink "ThreeBodiesModel" (406 : Nat) "ThreeBodiesModel" "refined" "J") ∈ lw_all := lw_g (lw_at lw_m12 41 rfl) rfl
theorem q2780 : (Jvm.Cond.fieldLink "ThreeBodiesModel" (54 : Nat) "ThreeBodiesModel" "cellX" "[J") ∈ lw_all := lw_g (lw_at lw_m12 42 rfl) rfl
theorem q2781 : (Jvm.Cond.fieldLink "ThreeBodiesModel" (57 : Nat) "ThreeBodiesModel" "cellY" "[J") ∈ lw_all := lw_g (lw_at lw_m12 43 rfl) rfl
theorem q2782 : (Jvm.Cond.fieldLink "ThreeBodiesModel" (60 : Nat) "ThreeBodiesModel" "stays" "[I") ∈ lw_all := lw_g (lw_at lw_m12 44 rfl) rfl
theorem q2783 : (Jvm.Cond.fieldLink "ThreeBodiesModel" (427 : Nat) "ThreeBodiesModel" "cellMany" "I") ∈ lw_all := lw_g (lw_at lw_m12 45 rfl) rfl
theorem q2784 : (Jvm.Cond.fieldLink "ThreeBodiesModel" (63 : Nat) "ThreeBodiesModel" "text" "[B") ∈ lw_all := lw_g (lw_at lw_m12 46 rfl) rfl
theorem q2785 : (Jvm.Cond.fieldLink "ThreeBodiesModel" (436 : Nat) "ThreeBodiesModel" "texts" "I") ∈ lw_all := lw_g (lw_at lw_m12 47 rfl) rfl
theorem q2786 : (Jvm.Cond.fieldLink "ThreeBodiesModel" (67 : Nat) "ThreeBodiesModel" "codes" "[I") ∈ lw_all := lw_g (lw_at lw_m12 48 rfl) rfl
theorem q2787 : (Jvm.Cond.fieldLink "ThreeBodiesModel" (70 : Nat) "ThreeBodiesModel" "wait" "[I") ∈ lw_all := lw_g (lw_at lw_m12 49 rfl) rfl
theorem q2788 : (Jvm.Cond.fieldLink "ThreeBodiesModel" (73 : Nat) "ThreeBodiesModel" "stack" "[I") ∈ lw_all := lw_g (lw_at lw_m12 50 rfl) rfl
theorem q2789 : (Jvm.Cond.fieldLink "ThreeBodiesModel" (448 : Nat) "ThreeBodiesModel" "coded" "I") ∈ lw_all := lw_g (lw_at lw_m12 51 rfl) rfl
theorem q2790 : (Jvm.Cond.fieldLink "ThreeBodiesModel" (471 : Nat) "ThreeBodiesModel" "waits" "I") ∈ lw_all := lw_g (lw_at lw_m12 52 rfl) rfl
theorem q2791 : (Jvm.Cond.fieldLink "ThreeBodiesModel" (468 : Nat) "ThreeBodiesModel" "open" "I") ∈ lw_all := lw_g (lw_at lw_m12 53 rfl) rfl
theorem q2792 : (Jvm.Cond.lays "ThreeBodiesModel" "ThreeBodiesModel" "thrown" "I") ∈ lw_all := lw_g (lw_at lw_m12 54 rfl) rfl
theorem q2793 : (Jvm.Cond.soleField "ThreeBodiesModel" "thrown") ∈ lw_all := lw_g (lw_at lw_m12 55 rfl) rfl
theorem q2794 : (Jvm.Cond.laysFinal "ThreeBodiesModel" "ThreeBodiesModel" "now" "[J") ∈ lw_all := lw_g (lw_at lw_m12 56 rfl) rfl
theorem q2795 : (Jvm.Cond.soleField "ThreeBodiesModel" "now") ∈ lw_all := lw_g (lw_at lw_m12 57 rfl) rfl
theorem q2796 : (Jvm.Cond.laysFinal "ThreeBodiesModel" "ThreeBodiesModel" "then" "[J") ∈ lw_all := lw_g (lw_at lw_m12 58 rfl) rfl
theorem q2797 : (Jvm.Cond.soleField "ThreeBodiesModel" "then") ∈ lw_all := lw_g (lw_at lw_m12 59 rfl) rfl
theorem q2798 : (Jvm.Cond.laysFinal "ThreeBodiesModel" "ThreeBodiesModel" "draft" "[J") ∈ lw_all := lw_g (lw_at lw_m12 60 rfl) rfl
theorem q2799 : (Jvm.Cond.soleField "ThreeBodiesModel" "draft") ∈ lw_all := lw_g (lw_at lw_m12 61 rfl) rfl
theorem q2800 : (Jvm.Cond.laysFinal "ThreeBodiesModel" "ThreeBodiesModel" "tried" "[J") ∈ lw_all := lw_g (lw_at lw_m12 62 rfl) rfl
theorem q2801 : (Jvm.Cond.soleField "ThreeBodiesModel" "tried") ∈ lw_all := lw_g (lw_at lw_m12 63 rfl) rfl
theorem q2802 : (Jvm.Cond.laysFinal "ThreeBodiesModel" "ThreeBodiesModel" "saved" "[J") ∈ lw_all := lw_g (lw_at lw_m12 64 rfl) rfl
theorem q2803 : (Jvm.Cond.soleField "ThreeBodiesModel" "saved") ∈ lw_all := lw_g (lw_at lw_m12 65 rfl) rfl
theorem q2804 : (Jvm.Cond.laysFinal "ThreeBodiesModel" "ThreeBodiesModel" "history" "[J") ∈ lw_all := lw_g (lw_at lw_m12 66 rfl) rfl
theorem q2805 : (Jvm.Cond.soleField "ThreeBodiesModel" "history") ∈ lw_all := lw_g (lw_at lw_m12 67 rfl) rfl
theorem q2806 : (Jvm.Cond.laysFinal "ThreeBodiesModel" "ThreeBodiesModel" "told" "[J") ∈ lw_all := lw_g (lw_at lw_m12 68 rfl) rfl
theorem q2807 : (Jvm.Cond.soleField "ThreeBodiesModel" "told") ∈ lw_all := lw_g (lw_at lw_m12 69 rfl) rfl
theorem q2808 : (Jvm.Cond.laysFinal "ThreeBodiesModel" "ThreeBodiesModel" "draftTold" "[J") ∈ lw_all := lw_g (lw_at lw_m12 70 rfl) rfl
theorem q2809 : (Jvm.Cond.soleField "ThreeBodiesModel" "draftTold") ∈ lw_all := lw_g (lw_at lw_m12 71 rfl) rfl
theorem q2810 : (Jvm.Cond.lays "ThreeBodiesModel" "ThreeBodiesModel" "isSaved" "Z") ∈ lw_all := lw_g (lw_at lw_m12 72 rfl) rfl
theorem q2811 : (Jvm.Cond.soleField "ThreeBodiesModel" "isSaved") ∈ lw_all := lw_g (lw_at lw_m12 73 rfl) rfl
theorem q2812 : (Jvm.Cond.lays "ThreeBodiesModel" "ThreeBodiesModel" "recorded" "I") ∈ lw_all := lw_g (lw_at lw_m12 74 rfl) rfl
theorem q2813 : (Jvm.Cond.soleField "ThreeBodiesModel" "recorded") ∈ lw_all := lw_g (lw_at lw_m12 75 rfl) rfl
theorem q2814 : (Jvm.Cond.lays "ThreeBodiesModel" "ThreeBodiesModel" "remembered" "I") ∈ lw_all := lw_g (lw_at lw_m12 76 rfl) rfl
theorem q2815 : (Jvm.Cond.soleField "ThreeBodiesModel" "remembered") ∈ lw_all := lw_g (lw_at lw_m12 77 rfl) rfl
theorem q2816 : (Jvm.Cond.laysFinal "ThreeBodiesModel" "ThreeBodiesModel" "memory" "[J") ∈ lw_all := lw_g (lw_at lw_m12 78 rfl) rfl
theorem q2817 : (Jvm.Cond.soleField "ThreeBodiesModel" "memory") ∈ lw_all := lw_g (lw_at lw_m12 79 rfl) rfl
theorem q2818 : (Jvm.Cond.laysFinal "ThreeBodiesModel" "ThreeBodiesModel" "buffer" "[I") ∈ lw_all := lw_g (lw_at lw_m12 80 rfl) rfl
theorem q2819 : (Jvm.Cond.soleField "ThreeBodiesModel" "buffer") ∈ lw_all := lw_g (lw_at lw_m12 81 rfl) rfl
theorem q2820 : (Jvm.Cond.lays "ThreeBodiesModel" "ThreeBodiesModel" "buffered" "I") ∈ lw_all := lw_g (lw_at lw_m12 82 rfl) rfl
theorem q2821 : (Jvm.Cond.soleField "ThreeBodiesModel" "buffered") ∈ lw_all := lw_g (lw_at lw_m12 83 rfl) rfl
theorem q2822 : (Jvm.Cond.lays "ThreeBodiesModel" "ThreeBodiesModel" "textEnd" "I") ∈ lw_all := lw_g (lw_at lw_m12 84 rfl) rfl
theorem q2823 : (Jvm.Cond.soleField "ThreeBodiesModel" "textEnd") ∈ lw_all := lw_g (lw_at lw_m12 85 rfl) rfl
theorem q2824 : (Jvm.Cond.lays "ThreeBodiesModel" "ThreeBodiesModel" "at" "I") ∈ lw_all := lw_g (lw_at lw_m12 86 rfl) rfl
theorem q2825 : (Jvm.Cond.soleField "ThreeBodiesModel" "at") ∈ lw_all := lw_g (lw_at lw_m12 87 rfl) rfl
theorem q2826 : (Jvm.Cond.lays "ThreeBodiesModel" "ThreeBodiesModel" "begin" "I") ∈ lw_all := lw_g (lw_at lw_m12 88 rfl) rfl
theorem q2827 : (Jvm.Cond.soleField "ThreeBodiesModel" "begin") ∈ lw_all := lw_g (lw_at lw_m12 89 rfl) rfl
theorem q2828 : (Jvm.Cond.lays "ThreeBodiesModel" "ThreeBodiesModel" "kind" "I") ∈ lw_all := lw_g (lw_at lw_m12 90 rfl) rfl
theorem q2829 : (Jvm.Cond.soleField "ThreeBodiesModel" "kind") ∈ lw_all := lw_g (lw_at lw_m12 91 rfl) rfl
theorem q2830 : (Jvm.Cond.lays "ThreeBodiesModel" "ThreeBodiesModel" "value" "J") ∈ lw_all := lw_g (lw_at lw_m12 92 rfl) rfl
theorem q2831 : (Jvm.Cond.soleField "ThreeBodiesModel" "value") ∈ lw_all := lw_g (lw_at lw_m12 93 rfl) rfl
theorem q2832 : (Jvm.Cond.lays "ThreeBodiesModel" "ThreeBodiesModel" "word" "J") ∈ lw_all := lw_g (lw_at lw_m12 94 rfl) rfl
theorem q2833 : (Jvm.Cond.soleField "ThreeBodiesModel" "word") ∈ lw_all := lw_g (lw_at lw_m12 95 rfl) rfl
theorem q2834 : (Jvm.Cond.lays "ThreeBodiesModel" "ThreeBodiesModel" "wrong" "I") ∈ lw_all := lw_g (lw_at lw_m12 96 rfl) rfl
theorem q2835 : (Jvm.Cond.soleField "ThreeBodiesModel" "wrong") ∈ lw_all := lw_g (lw_at lw_m12 97 rfl) rfl
theorem q2836 : (Jvm.Cond.lays "ThreeBodiesModel" "ThreeBodiesModel" "wrongAt" "I") ∈ lw_all := lw_g (lw_at lw_m12 98 rfl) rfl
theorem q2837 : (Jvm.Cond.soleField "ThreeBodiesModel" "wrongAt") ∈ lw_all := lw_g (lw_at lw_m12 99 rfl) rfl
theorem q2838 : (Jvm.Cond.laysFinal "ThreeBodiesModel" "ThreeBodiesModel" "gives" "[J") ∈ lw_all := lw_g (lw_at lw_m12 100 rfl) rfl
theorem q2839 : (Jvm.Cond.soleField "ThreeBodiesModel" "gives") ∈ lw_all := lw_g (lw_at lw_m12 101 rfl) rfl
theorem q2840 : (Jvm.Cond.laysFinal "ThreeBodiesModel" "ThreeBodiesModel" "ahead" "[J") ∈ lw_all := lw_g (lw_at lw_m12 102 rfl) rfl
theorem q2841 : (Jvm.Cond.soleField "ThreeBodiesModel" "ahead") ∈ lw_all := lw_g (lw_at lw_m12 103 rfl) rfl
theorem q2842 : (Jvm.Cond.laysFinal "ThreeBodiesModel" "ThreeBodiesModel" "path" "[J") ∈ lw_all := lw_g (lw_at lw_m12 104 rfl) rfl
theorem q2843 : (Jvm.Cond.soleField "ThreeBodiesModel" "path") ∈ lw_all := lw_g (lw_at lw_m12 105 rfl) rfl
theorem q2844 : (Jvm.Cond.lays "ThreeBodiesModel" "ThreeBodiesModel" "refined" "J") ∈ lw_all := lw_g (lw_at lw_m12 106 rfl) rfl
theorem q2845 : (Jvm.Cond.soleField "ThreeBodiesModel" "refined") ∈ lw_all := lw_g (lw_at lw_m12 107 rfl) rfl
theorem q2846 : (Jvm.Cond.laysFinal "ThreeBodiesModel" "ThreeBodiesModel" "cellX" "[J") ∈ lw_all := lw_g (lw_at lw_m12 108 rfl) rfl
theorem q2847 : (Jvm.Cond.soleField "ThreeBodiesModel" "cellX") ∈ lw_all := lw_g (lw_at lw_m12 109 rfl) rfl
theorem q2848 : (Jvm.Cond.laysFinal "ThreeBodiesModel" "ThreeBodiesModel" "cellY" "[J") ∈ lw_all := lw_g (lw_at lw_m12 110 rfl) rfl
theorem q2849 : (Jvm.Cond.soleField "ThreeBodiesModel" "cellY") ∈ lw_all := lw_g (lw_at lw_m12 111 rfl) rfl
theorem q2850 : (Jvm.Cond.laysFinal "ThreeBodiesModel" "ThreeBodiesModel" "stays" "[I") ∈ lw_all := lw_g (lw_at lw_m12 112 rfl) rfl
theorem q2851 : (Jvm.Cond.soleField "ThreeBodiesModel" "stays") ∈ lw_all := lw_g (lw_at lw_m12 113 rfl) rfl
theorem q2852 : (Jvm.Cond.lays "ThreeBodiesModel" "ThreeBodiesModel" "cellMany" "I") ∈ lw_all := lw_g (lw_at lw_m12 114 rfl) rfl
theorem q2853 : (Jvm.Cond.soleField "ThreeBodiesModel" "cellMany") ∈ lw_all := lw_g (lw_at lw_m12 115 rfl) rfl
theorem q2854 : (Jvm.Cond.laysFinal "ThreeBodiesModel" "ThreeBodiesModel" "text" "[B") ∈ lw_all := lw_g (lw_at lw_m12 116 rfl) rfl
theorem q2855 : (Jvm.Cond.soleField "ThreeBodiesModel" "text") ∈ lw_all := lw_g (lw_at lw_m12 117 rfl) rfl
theorem q2856 : (Jvm.Cond.lays "ThreeBodiesModel" "ThreeBodiesModel" "texts" "I") ∈ lw_all := lw_g (lw_at lw_m12 118 rfl) rfl
theorem q2857 : (Jvm.Cond.soleField "ThreeBodiesModel" "texts") ∈ lw_all := lw_g (lw_at lw_m12 119 rfl) rfl
theorem q2858 : (Jvm.Cond.laysFinal "ThreeBodiesModel" "ThreeBodiesModel" "codes" "[I") ∈ lw_all := lw_g (lw_at lw_m12 120 rfl) rfl
theorem q2859 : (Jvm.Cond.soleField "ThreeBodiesModel" "codes") ∈ lw_all := lw_g (lw_at lw_m12 121 rfl) rfl
theorem q2860 : (Jvm.Cond.laysFinal "ThreeBodiesModel" "ThreeBodiesModel" "wait" "[I") ∈ lw_all := lw_g (lw_at lw_m12 122 rfl) rfl
theorem q2861 : (Jvm.Cond.soleField "ThreeBodiesModel" "wait") ∈ lw_all := lw_g (lw_at lw_m12 123 rfl) rfl
theorem q2862 : (Jvm.Cond.laysFinal "ThreeBodiesModel" "ThreeBodiesModel" "stack" "[I") ∈ lw_all := lw_g (lw_at lw_m12 124 rfl) rfl
theorem q2863 : (Jvm.Cond.soleField "ThreeBodiesModel" "stack") ∈ lw_all := lw_g (lw_at lw_m12 125 rfl) rfl
theorem q2864 : (Jvm.Cond.lays "ThreeBodiesModel" "ThreeBodiesModel" "coded" "I") ∈ lw_all := lw_g (lw_at lw_m12 126 rfl) rfl
theorem q2865 : (Jvm.Cond.soleField "ThreeBodiesModel" "coded") ∈ lw_all := lw_g (lw_at lw_m12 127 rfl) rfl
theorem q2866 : (Jvm.Cond.lays "ThreeBodiesModel" "ThreeBodiesModel" "waits" "I") ∈ lw_all := lw_g (lw_at lw_m12 128 rfl) rfl
theorem q2867 : (Jvm.Cond.soleField "ThreeBodiesModel" "waits") ∈ lw_all := lw_g (lw_at lw_m12 129 rfl) rfl
theorem q2868 : (Jvm.Cond.lays "ThreeBodiesModel" "ThreeBodiesModel" "open" "I") ∈ lw_all := lw_g (lw_at lw_m12 130 rfl) rfl
theorem q2869 : (Jvm.Cond.soleField "ThreeBodiesModel" "open") ∈ lw_all := lw_g (lw_at lw_m12 131 rfl) rfl
theorem q2870 : (Jvm.Cond.superclass "ThreeBodiesModel" "java/lang/Object") ∈ lw_all := lw_g (lw_at lw_m12 132 rfl) rfl
theorem q2872 : (Jvm.Cond.instanceMethod ({ cls := "ThreeBodiesModel", name := "thrown", desc := "()I" } : Jvm.MethodName)) ∈ lw_all := lw_g (lw_at lw_m12 134 rfl) rfl
theorem q2873 : (Jvm.Cond.selects "ThreeBodiesModel" ({ cls := "ThreeBodiesModel", name := "thrown", desc := "()I" } : Jvm.MethodName) ({ cls := "ThreeBodiesModel", name := "thrown", desc := "()I" } : Jvm.MethodName)) ∈ lw_all := lw_g (lw_at lw_m12 135 rfl) rfl
theorem q2874 : (Jvm.Cond.code ({ cls := "ThreeBodiesModel", name := "thrown", desc := "()I" } : Jvm.MethodName) prog_25_method_2_code (1 : Nat) (Option.some Jvm.ClassFile.FieldType.int)) ∈ lw_all := lw_g (lw_at lw_m12 136 rfl) rfl
theorem q2876 : (Jvm.Cond.instanceMethod ({ cls := "ThreeBodiesModel", name := "feed", desc := "(IIIII)I" } : Jvm.MethodName)) ∈ lw_all := lw_g (lw_at lw_m12 138 rfl) rfl
theorem q2877 : (Jvm.Cond.selects "ThreeBodiesModel" ({ cls := "ThreeBodiesModel", name := "feed", desc := "(IIIII)I" } : Jvm.MethodName) ({ cls := "ThreeBodiesModel", name := "feed", desc := "(IIIII)I" } : Jvm.MethodName)) ∈ lw_all := lw_g (lw_at lw_m12 139 rfl) rfl
theorem q2878 : (Jvm.Cond.code ({ cls := "ThreeBodiesModel", name := "feed", desc := "(IIIII)I" } : Jvm.MethodName) prog_25_method_12_code (6 : Nat) (Option.some Jvm.ClassFile.FieldType.int)) ∈ lw_all := lw_g (lw_at lw_m12 140 rfl) rfl
theorem q2879 : (Jvm.Cond.methodLink "ThreeBodiesModel" (116 : Nat) ({ cls := "ThreeBodiesModel", name := "lays", desc := "(I)V" } : Jvm.MethodName)) ∈ lw_all := lw_g (lw_at lw_m12 141 rfl) rfl
theorem q2880 : (Jvm.Cond.privateMethod ({ cls := "ThreeBodiesModel", name := "lays", desc := "(I)V" } : Jvm.MethodName)) ∈ lw_tbl := lw_at lw_m12 142 rfl
theorem q2881 : (Jvm.Cond.instanceMethod ({ cls := "ThreeBodiesModel", name := "lays", desc := "(I)V" } : Jvm.MethodName)) ∈ lw_all := lw_g (lw_at lw_m12 143 rfl) rfl
theorem q2882 : (Jvm.Cond.code ({ cls := "ThreeBodiesModel", name := "lays", desc := "(I)V" } : Jvm.MethodName) prog_25_method_11_code (3 : Nat) (Option.none : Option Jvm.ClassFile.FieldType)) ∈ lw_all := lw_g (lw_at lw_m12 144 rfl) rfl
theorem q2884 : (Jvm.Cond.instanceMethod ({ cls := "ThreeBodiesModel", name := "errorPosition", desc := "()I" } : Jvm.MethodName)) ∈ lw_all := lw_g (lw_at lw_m12 146 rfl) rfl
theorem q2885 : (Jvm.Cond.selects "ThreeBodiesModel" ({ cls := "ThreeBodiesModel", name := "errorPosition", desc := "()I" } : Jvm.MethodName) ({ cls := "ThreeBodiesModel", name := "errorPosition", desc := "()I" } : Jvm.MethodName)) ∈ lw_all := lw_g (lw_at lw_m12 147 rfl) rfl
theorem q2886 : (Jvm.Cond.code ({ cls := "ThreeBodiesModel", name := "errorPosition", desc := "()I" } : Jvm.MethodName) prog_25_method_13_code (1 : Nat) (Option.some Jvm.ClassFile.FieldType.int)) ∈ lw_all := lw_g (lw_at lw_m12 148 rfl) rfl
theorem q2888 : (Jvm.Cond.instanceMethod ({ cls := "ThreeBodiesModel", name := "load", desc := "(I)I" } : Jvm.MethodName)) ∈ lw_all := lw_g (lw_at lw_m12 150 rfl) rfl
theorem q2889 : (Jvm.Cond.selects "ThreeBodiesModel" ({ cls := "ThreeBodiesModel", name := "load", desc := "(I)I" } : Jvm.MethodName) ({ cls := "ThreeBodiesModel", name := "load", desc := "(I)I" } : Jvm.MethodName)) ∈ lw_all := lw_g (lw_at lw_m12 151 rfl) rfl
theorem q2890 : (Jvm.Cond.code ({ cls := "ThreeBodiesModel", name := "load", desc := "(I)I" } : Jvm.MethodName) prog_25_method_34_code (3 : Nat) (Option.some Jvm.ClassFile.FieldType.int)) ∈ lw_all := lw_g (lw_at lw_m12 152 rfl) rfl
theorem q2891 : (Jvm.Cond.methodLink "ThreeBodiesModel" (183 : Nat) ({ cls := "ThreeBodiesModel", name := "in", desc := "(JJJ)Z" } : Jvm.MethodName)) ∈ lw_all := lw_g (lw_at lw_m12 153 rfl) rfl
theorem q2892 : (Jvm.Cond.static ({ cls := "ThreeBodiesModel", name := "in", desc := "(JJJ)Z" } : Jvm.MethodName)) ∈ lw_all := lw_g (lw_at lw_m12 154 rfl) rfl
theorem q2893 : (Jvm.Cond.code ({ cls := "ThreeBodiesModel", name := "in", desc := "(JJJ)Z" } : Jvm.MethodName) prog_25_method_3_code (6 : Nat) (Option.some Jvm.ClassFile.FieldType.boolean)) ∈ lw_all := lw_g (lw_at lw_m12 155 rfl) rfl
theorem q2894 : (Jvm.Cond.methodLink "ThreeBodiesModel" (236 : Nat) ({ cls := "ThreeBodiesModel", name := "fails", desc := "(ZI)Z" } : Jvm.MethodName)) ∈ lw_all := lw_g (lw_at lw_m12 156 rfl) rfl
theorem q2895 : (Jvm.Cond.privateMethod ({ cls := "ThreeBodiesModel", name := "fails", desc := "(ZI)Z" } : Jvm.MethodName)) ∈ lw_tbl := lw_at lw_m12 157 rfl
theorem q2896 : (Jvm.Cond.instanceMethod ({ cls := "ThreeBodiesModel", name := "fails", desc := "(ZI)Z" } : Jvm.MethodName)) ∈ lw_all := lw_g (lw_at lw_m12 158 rfl) rfl
theorem q2897 : (Jvm.Cond.code ({ cls := "ThreeBodiesModel", name := "fails", desc := "(ZI)Z" } : Jvm.MethodName) prog_25_method_4_code (3 : Nat) (Option.some Jvm.ClassFile.FieldType.boolean)) ∈ lw_all := lw_g (lw_at lw_m12 159 rfl) rfl
theorem q2898 : (Jvm.Cond.methodLink "ThreeBodiesModel" (240 : Nat) ({ cls := "ThreeBodiesModel", name := "starts", desc := "(I)V" } : Jvm.MethodName)) ∈ lw_all := lw_g (lw_at lw_m12 160 rfl) rfl
theorem q2899 : (Jvm.Cond.privateMethod ({ cls := "ThreeBodiesModel", name := "starts", desc := "(I)V" } : Jvm.MethodName)) ∈ lw_tbl := lw_at lw_m12 161 rfl
theorem q2900 : (Jvm.Cond.instanceMethod ({ cls := "ThreeBodiesModel", name := "starts", desc := "(I)V" } : Jvm.MethodName)) ∈ lw_all := lw_g (lw_at lw_m12 162 rfl) rfl
theorem q2901 : (Jvm.Cond.code ({ cls := "ThreeBodiesModel", name := "starts", desc := "(I)V" } : Jvm.MethodName) prog_25_method_20_code (2 : Nat) (Option.none : Option Jvm.ClassFile.FieldType)) ∈ lw_all := lw_g (lw_at lw_m12 163 rfl) rfl
theorem q2902 : (Jvm.Cond.methodLink "ThreeBodiesModel" (166 : Nat) ({ cls := "ThreeBodiesModel", name := "next", desc := "()V" } : Jvm.MethodName)) ∈ lw_all := lw_g (lw_at lw_m12 164 rfl) rfl
theorem q2903 : (Jvm.Cond.privateMethod ({ cls := "ThreeBodiesModel", name := "next", desc := "()V" } : Jvm.MethodName)) ∈ lw_tbl := lw_at lw_m12 165 rfl
theorem q2904 : (Jvm.Cond.instanceMethod ({ cls := "ThreeBodiesModel", name := "next", desc := "()V" } : Jvm.MethodName)) ∈ lw_all := lw_g (lw_at lw_m12 166 rfl) rfl
theorem q2905 : (Jvm.Cond.code ({ cls := "ThreeBodiesModel", name := "next", desc := "()V" } : Jvm.MethodName) prog_25_method_19_code (1 : Nat) (Option.none : Option Jvm.ClassFile.FieldType)) ∈ lw_all := lw_g (lw_at lw_m12 167 rfl) rfl
theorem q2906 : (Jvm.Cond.methodLink "ThreeBodiesModel" (129 : Nat) ({ cls := "ThreeBodiesModel", name := "byteAt", desc := "(I)I" } : Jvm.MethodName)) ∈ lw_all := lw_g (lw_at lw_m12 168 rfl) rfl
theorem q2907 : (Jvm.Cond.privateMethod ({ cls := "ThreeBodiesModel", name := "byteAt", desc := "(I)I" } : Jvm.MethodName)) ∈ lw_tbl := lw_at lw_m12 169 rfl
theorem q2908 : (Jvm.Cond.instanceMethod ({ cls := "ThreeBodiesModel", name := "byteAt", desc := "(I)I" } : Jvm.MethodName)) ∈ lw_all := lw_g (lw_at lw_m12 170 rfl) rfl
theorem q2909 : (Jvm.Cond.code ({ cls := "ThreeBodiesModel", name := "byteAt", desc := "(I)I" } : Jvm.MethodName) prog_25_method_14_code (2 : Nat) (Option.some Jvm.ClassFile.FieldType.int)) ∈ lw_all := lw_g (lw_at lw_m12 171 rfl) rfl
theorem q2910 : (Jvm.Cond.methodLink "ThreeBodiesModel" (133 : Nat) ({ cls := "ThreeBodiesModel", name := "isLetter", desc := "(I)Z" } : Jvm.MethodName)) ∈ lw_all := lw_g (lw_at lw_m12 172 rfl) rfl
theorem q2911 : (Jvm.Cond.static ({ cls := "ThreeBodiesModel", name := "isLetter", desc := "(I)Z" } : Jvm.MethodName)) ∈ lw_all := lw_g (lw_at lw_m12 173 rfl) rfl
theorem q2912 : (Jvm.Cond.code ({ cls := "ThreeBodiesModel", name := "isLetter", desc := "(I)Z" } : Jvm.MethodName) prog_25_method_15_code (1 : Nat) (Option.some Jvm.ClassFile.FieldType.boolean)) ∈ lw_all := lw_g (lw_at lw_m12 174 rfl) rfl
theorem q2913 : (Jvm.Cond.methodLink "ThreeBodiesModel" (157 : Nat) ({ cls := "ThreeBodiesModel", name := "readsWord", desc := "()V" } : Jvm.MethodName)) ∈ lw_all := lw_g (lw_at lw_m12 175 rfl) rfl
theorem q2914 : (Jvm.Cond.privateMethod ({ cls := "ThreeBodiesModel", name := "readsWord", desc := "()V" } : Jvm.MethodName)) ∈ lw_tbl := lw_at lw_m12 176 rfl
theorem q2915 : (Jvm.Cond.instanceMethod ({ cls := "ThreeBodiesModel", name := "readsWord", desc := "()V" } : Jvm.MethodName)) ∈ lw_all := lw_g (lw_at lw_m12 177 rfl) rfl
theorem q2916 : (Jvm.Cond.code ({ cls := "ThreeBodiesModel", name := "readsWord", desc := "()V" } : Jvm.MethodName) prog_25_method_17_code (1 : Nat) (Option.none : Option Jvm.ClassFile.FieldType)) ∈ lw_all := lw_g (lw_at lw_m12 178 rfl) rfl
theorem q2917 : (Jvm.Cond.constantLong "ThreeBodiesModel" (140 : Nat) (27 : Int64)) ∈ lw_all := lw_g (lw_at lw_m12 179 rfl) rfl
theorem q2918 : (Jvm.Cond.constantLong "ThreeBodiesModel" (142 : Nat) (96 : Int64)) ∈ lw_all := lw_g (lw_at lw_m12 180 rfl) rfl
theorem q2919 : (Jvm.Cond.methodLink "ThreeBodiesModel" (150 : Nat) ({ cls := "ThreeBodiesModel", name := "isFigure", desc := "(I)Z" } : Jvm.MethodName)) ∈ lw_all := lw_g (lw_at lw_m12 181 rfl) rfl
theorem q2920 : (Jvm.Cond.static ({ cls := "ThreeBodiesModel", name := "isFigure", desc := "(I)Z" } : Jvm.MethodName)) ∈ lw_all := lw_g (lw_at lw_m12 182 rfl) rfl
theorem q2921 : (Jvm.Cond.code ({ cls := "ThreeBodiesModel", name := "isFigure", desc := "(I)Z" } : Jvm.MethodName) prog_25_method_16_code (1 : Nat) (Option.some Jvm.ClassFile.FieldType.boolean)) ∈ lw_all := lw_g (lw_at lw_m12 183 rfl) rfl
theorem q2922 : (Jvm.Cond.methodLink "ThreeBodiesModel" (160 : Nat) ({ cls := "ThreeBodiesModel", name := "readsNumber", desc := "()V" } : Jvm.MethodName)) ∈ lw_all := lw_g (lw_at lw_m12 184 rfl) rfl
theorem q2923 : (Jvm.Cond.privateMethod ({ cls := "ThreeBodiesModel", name := "readsNumber", desc := "()V" } : Jvm.MethodName)) ∈ lw_tbl := lw_at lw_m12 185 rfl
theorem q2924 : (Jvm.Cond.instanceMethod ({ cls := "ThreeBodiesModel", name := "readsNumber", desc := "()V" } : Jvm.MethodName)) ∈ lw_all := lw_g (lw_at lw_m12 186 rfl) rfl
theorem q2925 : (Jvm.Cond.code ({ cls := "ThreeBodiesModel", name := "readsNumber", desc := "()V" } : Jvm.MethodName) prog_25_method_18_code (1 : Nat) (Option.none : Option Jvm.ClassFile.FieldType)) ∈ lw_all := lw_g (lw_at lw_m12 187 rfl) rfl
theorem q2926 : (Jvm.Cond.constantLong "ThreeBodiesModel" (153 : Nat) (1000000000 : Int64)) ∈ lw_all := lw_g (lw_at lw_m12 188 rfl) rfl
theorem q2927 : (Jvm.Cond.constantLong "ThreeBodiesModel" (155 : Nat) (48 : Int64)) ∈ lw_all := lw_g (lw_at lw_m12 189 rfl) rfl
theorem q2928 : (Jvm.Cond.methodLink "ThreeBodiesModel" (243 : Nat) ({ cls := "ThreeBodiesModel", name := "settingsRead", desc := "()V" } : Jvm.MethodName)) ∈ lw_all := lw_g (lw_at lw_m12 190 rfl) rfl
theorem q2929 : (Jvm.Cond.privateMethod ({ cls := "ThreeBodiesModel", name := "settingsRead", desc := "()V" } : Jvm.MethodName)) ∈ lw_tbl := lw_at lw_m12 191 rfl
theorem q2930 : (Jvm.Cond.instanceMethod ({ cls := "ThreeBodiesModel", name := "settingsRead", desc := "()V" } : Jvm.MethodName)) ∈ lw_all := lw_g (lw_at lw_m12 192 rfl) rfl
theorem q2931 : (Jvm.Cond.code ({ cls := "ThreeBodiesModel", name := "settingsRead", desc := "()V" } : Jvm.MethodName) prog_25_method_31_code (2 : Nat) (Option.none : Option Jvm.ClassFile.FieldType)) ∈ lw_all := lw_g (lw_at lw_m12 193 rfl) rfl
theorem q2932 : (Jvm.Cond.constantLong "ThreeBodiesModel" (207 : Nat) (3497099 : Int64)) ∈ lw_all := lw_g (lw_at lw_m12 194 rfl) rfl
theorem q2933 : (Jvm.Cond.methodLink "ThreeBodiesModel" (209 : Nat) ({ cls := "ThreeBodiesModel", name := "settingRead", desc := "(JIJJ)Z" } : Jvm.MethodName)) ∈ lw_all := lw_g (lw_at lw_m12 195 rfl) rfl
theorem q2934 : (Jvm.Cond.privateMethod ({ cls := "ThreeBodiesModel", name := "settingRead", desc := "(JIJJ)Z" } : Jvm.MethodName)) ∈ lw_tbl := lw_at lw_m12 196 rfl
theorem q2935 : (Jvm.Cond.instanceMethod ({ cls := "ThreeBodiesModel", name := "settingRead", desc := "(JIJJ)Z" } : Jvm.MethodName)) ∈ lw_all := lw_g (lw_at lw_m12 197 rfl) rfl
theorem q2936 : (Jvm.Cond.code ({ cls := "ThreeBodiesModel", name := "settingRead", desc := "(JIJJ)Z" } : Jvm.MethodName) prog_25_method_29_code (8 : Nat) (Option.some Jvm.ClassFile.FieldType.boolean)) ∈ lw_all := lw_g (lw_at lw_m12 198 rfl) rfl
theorem q2937 : (Jvm.Cond.methodLink "ThreeBodiesModel" (191 : Nat) ({ cls := "ThreeBodiesModel", name := "passes", desc := "(J)Z" } : Jvm.MethodName)) ∈ lw_all := lw_g (lw_at lw_m12 199 rfl) rfl
theorem q2938 : (Jvm.Cond.privateMethod ({ cls := "ThreeBodiesModel", name := "passes", desc := "(J)Z" } : Jvm.MethodName)) ∈ lw_tbl := lw_at lw_m12 200 rfl
theorem q2939 : (Jvm.Cond.instanceMethod ({ cls := "ThreeBodiesModel", name := "passes", desc := "(J)Z" } : Jvm.MethodName)) ∈ lw_all := lw_g (lw_at lw_m12 201 rfl) rfl
theorem q2940 : (Jvm.Cond.code ({ cls := "ThreeBodiesModel", name := "passes", desc := "(J)Z" } : Jvm.MethodName) prog_25_method_24_code (3 : Nat) (Option.some Jvm.ClassFile.FieldType.boolean)) ∈ lw_all := lw_g (lw_at lw_m12 202 rfl) rfl
theorem q2941 : (Jvm.Cond.methodLink "ThreeBodiesModel" (173 : Nat) ({ cls := "ThreeBodiesModel", name := "isWord", desc := "(J)Z" } : Jvm.MethodName)) ∈ lw_all := lw_g (lw_at lw_m12 203 rfl) rfl
theorem q2942 : (Jvm.Cond.privateMethod ({ cls := "ThreeBodiesModel", name := "isWord", desc := "(J)Z" } : Jvm.MethodName)) ∈ lw_tbl := lw_at lw_m12 204 rfl
theorem q2943 : (Jvm.Cond.instanceMethod ({ cls := "ThreeBodiesModel", name := "isWord", desc := "(J)Z" } : Jvm.MethodName)) ∈ lw_all := lw_g (lw_at lw_m12 205 rfl) rfl
theorem q2944 : (Jvm.Cond.code ({ cls := "ThreeBodiesModel", name := "isWord", desc := "(J)Z" } : Jvm.MethodName) prog_25_method_23_code (3 : Nat) (Option.some Jvm.ClassFile.FieldType.boolean)) ∈ lw_all := lw_g (lw_at lw_m12 206 rfl) rfl
theorem q2945 : (Jvm.Cond.methodLink "ThreeBodiesModel" (169 : Nat) ({ cls := "ThreeBodiesModel", name := "isGood", desc := "()Z" } : Jvm.MethodName)) ∈ lw_all := lw_g (lw_at lw_m12 207 rfl) rfl
theorem q2946 : (Jvm.Cond.privateMethod ({ cls := "ThreeBodiesModel", name := "isGood", desc := "()Z" } : Jvm.MethodName)) ∈ lw_tbl := lw_at lw_m12 208 rfl
theorem q2947 : (Jvm.Cond.instanceMethod ({ cls := "ThreeBodiesModel", name := "isGood", desc := "()Z" } : Jvm.MethodName)) ∈ lw_all := lw_g (lw_at lw_m12 209 rfl) rfl
theorem q2948 : (Jvm.Cond.code ({ cls := "ThreeBodiesModel", name := "isGood", desc := "()Z" } : Jvm.MethodName) prog_25_method_22_code (1 : Nat) (Option.some Jvm.ClassFile.FieldType.boolean)) ∈ lw_all := lw_g (lw_at lw_m12 210 rfl) rfl
theorem q2949 : (Jvm.Cond.methodLink "ThreeBodiesModel" (187 : Nat) ({ cls := "ThreeBodiesModel", name := "number", desc := "(JJ)J" } : Jvm.MethodName)) ∈ lw_all := lw_g (lw_at lw_m12 211 rfl) rfl
theorem q2950 : (Jvm.Cond.privateMethod ({ cls := "ThreeBodiesModel", name := "number", desc := "(JJ)J" } : Jvm.MethodName)) ∈ lw_tbl := lw_at lw_m12 212 rfl
theorem q2951 : (Jvm.Cond.instanceMethod ({ cls := "ThreeBodiesModel", name := "number", desc := "(JJ)J" } : Jvm.MethodName)) ∈ lw_all := lw_g (lw_at lw_m12 213 rfl) rfl
theorem q2952 : (Jvm.Cond.code ({ cls := "ThreeBodiesModel", name := "number", desc := "(JJ)J" } : Jvm.MethodName) prog_25_method_27_code (7 : Nat) (Option.some Jvm.ClassFile.FieldType.long)) ∈ lw_all := lw_g (lw_at lw_m12 214 rfl) rfl
theorem q2953 : (Jvm.Cond.methodLink "ThreeBodiesModel" (180 : Nat) ({ cls := "ThreeBodiesModel", name := "wrongs", desc := "(I)Z" } : Jvm.MethodName)) ∈ lw_all := lw_g (lw_at lw_m12 215 rfl) rfl
theorem q2954 : (Jvm.Cond.privateMethod ({ cls := "ThreeBodiesModel", name := "wrongs", desc := "(I)Z" } : Jvm.MethodName)) ∈ lw_tbl := lw_at lw_m12 216 rfl
theorem q2955 : (Jvm.Cond.instanceMethod ({ cls := "ThreeBodiesModel", name := "wrongs", desc := "(I)Z" } : Jvm.MethodName)) ∈ lw_all := lw_g (lw_at lw_m12 217 rfl) rfl
theorem q2956 : (Jvm.Cond.code ({ cls := "ThreeBodiesModel", name := "wrongs", desc := "(I)Z" } : Jvm.MethodName) prog_25_method_21_code (2 : Nat) (Option.some Jvm.ClassFile.FieldType.boolean)) ∈ lw_all := lw_g (lw_at lw_m12 218 rfl) rfl
theorem q2957 : (Jvm.Cond.methodLink "ThreeBodiesModel" (194 : Nat) ({ cls := "ThreeBodiesModel", name := "must", desc := "(I)V" } : Jvm.MethodName)) ∈ lw_all := lw_g (lw_at lw_m12 219 rfl) rfl
theorem q2958 : (Jvm.Cond.privateMethod ({ cls := "ThreeBodiesModel", name := "must", desc := "(I)V" } : Jvm.MethodName)) ∈ lw_tbl := lw_at lw_m12 220 rfl
theorem q2959 : (Jvm.Cond.instanceMethod ({ cls := "ThreeBodiesModel", name := "must", desc := "(I)V" } : Jvm.MethodName)) ∈ lw_all := lw_g (lw_at lw_m12 221 rfl) rfl
theorem q2960 : (Jvm.Cond.code ({ cls := "ThreeBodiesModel", name := "must", desc := "(I)V" } : Jvm.MethodName) prog_25_method_26_code (2 : Nat) (Option.none : Option Jvm.ClassFile.FieldType)) ∈ lw_all := lw_g (lw_at lw_m12 222 rfl) rfl
theorem q2961 : (Jvm.Cond.methodLink "ThreeBodiesModel" (177 : Nat) ({ cls := "ThreeBodiesModel", name := "isByte", desc := "(I)Z" } : Jvm.MethodName)) ∈ lw_all := lw_g (lw_at lw_m12 223 rfl) rfl
theorem q2962 : (Jvm.Cond.privateMethod ({ cls := "ThreeBodiesModel", name := "isByte", desc := "(I)Z" } : Jvm.MethodName)) ∈ lw_tbl := lw_at lw_m12 224 rfl
theorem q2963 : (Jvm.Cond.instanceMethod ({ cls := "ThreeBodiesModel", name := "isByte", desc := "(I)Z" } : Jvm.MethodName)) ∈ lw_all := lw_g (lw_at lw_m12 225 rfl) rfl
theorem q2964 : (Jvm.Cond.code ({ cls := "ThreeBodiesModel", name := "isByte", desc := "(I)Z" } : Jvm.MethodName) prog_25_method_25_code (2 : Nat) (Option.some Jvm.ClassFile.FieldType.boolean)) ∈ lw_all := lw_g (lw_at lw_m12 226 rfl) rfl
theorem q2965 : (Jvm.Cond.constantLong "ThreeBodiesModel" (213 : Nat) (385094 : Int64)) ∈ lw_all := lw_g (lw_at lw_m12 227 rfl) rfl
theorem q2966 : (Jvm.Cond.constantLong "ThreeBodiesModel" (215 : Nat) (400577 : Int64)) ∈ lw_all := lw_g (lw_at lw_m12 228 rfl) rfl
theorem q2967 : (Jvm.Cond.constantLong "ThreeBodiesModel" (217 : Nat) (279252 : Int64)) ∈ lw_all := lw_g (lw_at lw_m12 229 rfl) rfl
theorem q2968 : (Jvm.Cond.constantLong "ThreeBodiesModel" (221 : Nat) (40477 : Int64)) ∈ lw_all := lw_g (lw_at lw_m12 230 rfl) rfl
theorem q2969 : (Jvm.Cond.methodLink "ThreeBodiesModel" (223 : Nat) ({ cls := "ThreeBodiesModel", name := "schemeRead", desc := "()Z" } : Jvm.MethodName)) ∈ lw_all := lw_g (lw_at lw_m12 231 rfl) rfl
theorem q2970 : (Jvm.Cond.privateMethod ({ cls := "ThreeBodiesModel", name := "schemeRead", desc := "()Z" } : Jvm.MethodName)) ∈ lw_tbl := lw_at lw_m12 232 rfl
theorem q2971 : (Jvm.Cond.instanceMethod ({ cls := "ThreeBodiesModel", name := "schemeRead", desc := "()Z" } : Jvm.MethodName)) ∈ lw_all := lw_g (lw_at lw_m12 233 rfl) rfl
theorem q2972 : (Jvm.Cond.code ({ cls := "ThreeBodiesModel", name := "schemeRead", desc := "()Z" } : Jvm.MethodName) prog_25_method_30_code (1 : Nat) (Option.some Jvm.ClassFile.FieldType.boolean)) ∈ lw_all := lw_g (lw_at lw_m12 234 rfl) rfl
theorem q2973 : (Jvm.Cond.constantLong "ThreeBodiesModel" (197 : Nat) (274385021 : Int64)) ∈ lw_all := lw_g (lw_at lw_m12 235 rfl) rfl
theorem q2974 : (Jvm.Cond.constantLong "ThreeBodiesModel" (199 : Nat) (3079449 : Int64)) ∈ lw_all := lw_g (lw_at lw_m12 236 rfl) rfl
theorem q2975 : (Jvm.Cond.constantLong "ThreeBodiesModel" (201 : Nat) (239884 : Int64)) ∈ lw_all := lw_g (lw_at lw_m12 237 rfl) rfl
theorem q2976 : (Jvm.Cond.constantLong "ThreeBodiesModel" (205 : Nat) (318696356 : Int64)) ∈ lw_all := lw_g (lw_at lw_m12 238 rfl) rfl
theorem q2977 : (Jvm.Cond.methodLink "ThreeBodiesModel" (246 : Nat) ({ cls := "ThreeBodiesModel", name := "bodyRead", desc := "(I)V" } : Jvm.MethodName)) ∈ lw_all := lw_g (lw_at lw_m12 239 rfl) rfl
theorem q2978 : (Jvm.Cond.privateMethod ({ cls := "ThreeBodiesModel", name := "bodyRead", desc := "(I)V" } : Jvm.MethodName)) ∈ lw_tbl := lw_at lw_m13 0 rfl
theorem q2979 : (Jvm.Cond.instanceMethod ({ cls := "ThreeBodiesModel", name := "bodyRead", desc := "(I)V" } : Jvm.MethodName)) ∈ lw_all := lw_g (lw_at lw_m13 1 rfl) rfl
theorem q2980 : (Jvm.Cond.code ({ cls := "ThreeBodiesModel", name := "bodyRead", desc := "(I)V" } : Jvm.MethodName) prog_25_method_33_code (4 : Nat) (Option.none : Option Jvm.ClassFile.FieldType)) ∈ lw_all := lw_g (lw_at lw_m13 2 rfl) rfl
theorem q2981 : (Jvm.Cond.constantLong "ThreeBodiesModel" (226 : Nat) (50434 : Int64)) ∈ lw_all := lw_g (lw_at lw_m13 3 rfl) rfl
theorem q2982 : (Jvm.Cond.constantLong "ThreeBodiesModel" (228 : Nat) (99 : Int64)) ∈ lw_all := lw_g (lw_at lw_m13 4 rfl) rfl
theorem q2983 : (Jvm.Cond.constantLong "ThreeBodiesModel" (230 : Nat) (100000 : Int64)) ∈ lw_all := lw_g (lw_at lw_m13 5 rfl) rfl
theorem q2984 : (Jvm.Cond.methodLink "ThreeBodiesModel" (232 : Nat) ({ cls := "ThreeBodiesModel", name := "signed", desc := "(J)J" } : Jvm.MethodName)) ∈ lw_all := lw_g (lw_at lw_m13 6 rfl) rfl
theorem q2985 : (Jvm.Cond.privateMethod ({ cls := "ThreeBodiesModel", name := "signed", desc := "(J)J" } : Jvm.MethodName)) ∈ lw_tbl := lw_at lw_m13 7 rfl
theorem q2986 : (Jvm.Cond.instanceMethod ({ cls := "ThreeBodiesModel", name := "signed", desc := "(J)J" } : Jvm.MethodName)) ∈ lw_all := lw_g (lw_at lw_m13 8 rfl) rfl
theorem q2987 : (Jvm.Cond.code ({ cls := "ThreeBodiesModel", name := "signed", desc := "(J)J" } : Jvm.MethodName) prog_25_method_28_code (6 : Nat) (Option.some Jvm.ClassFile.FieldType.long)) ∈ lw_all := lw_g (lw_at lw_m13 9 rfl) rfl
theorem q2989 : (Jvm.Cond.instanceMethod ({ cls := "ThreeBodiesModel", name := "clock", desc := "()I" } : Jvm.MethodName)) ∈ lw_all := lw_g (lw_at lw_m13 11 rfl) rfl
theorem q2990 : (Jvm.Cond.selects "ThreeBodiesModel" ({ cls := "ThreeBodiesModel", name := "clock", desc := "()I" } : Jvm.MethodName) ({ cls := "ThreeBodiesModel", name := "clock", desc := "()I" } : Jvm.MethodName)) ∈ lw_all := lw_g (lw_at lw_m13 12 rfl) rfl
theorem q2991 : (Jvm.Cond.code ({ cls := "ThreeBodiesModel", name := "clock", desc := "()I" } : Jvm.MethodName) prog_25_method_55_code (1 : Nat) (Option.some Jvm.ClassFile.FieldType.int)) ∈ lw_all := lw_g (lw_at lw_m13 13 rfl) rfl
theorem q2993 : (Jvm.Cond.instanceMethod ({ cls := "ThreeBodiesModel", name := "body", desc := "(II)I" } : Jvm.MethodName)) ∈ lw_all := lw_g (lw_at lw_m13 15 rfl) rfl
theorem q2994 : (Jvm.Cond.selects "ThreeBodiesModel" ({ cls := "ThreeBodiesModel", name := "body", desc := "(II)I" } : Jvm.MethodName) ({ cls := "ThreeBodiesModel", name := "body", desc := "(II)I" } : Jvm.MethodName)) ∈ lw_all := lw_g (lw_at lw_m13 16 rfl) rfl
theorem q2995 : (Jvm.Cond.code ({ cls := "ThreeBodiesModel", name := "body", desc := "(II)I" } : Jvm.MethodName) prog_25_method_57_code (3 : Nat) (Option.some Jvm.ClassFile.FieldType.int)) ∈ lw_all := lw_g (lw_at lw_m13 17 rfl) rfl
theorem q2996 : (Jvm.Cond.methodLink "ThreeBodiesModel" (325 : Nat) ({ cls := "ThreeBodiesModel", name := "noBody", desc := "(I)Z" } : Jvm.MethodName)) ∈ lw_all := lw_g (lw_at lw_m13 18 rfl) rfl
theorem q2997 : (Jvm.Cond.privateMethod ({ cls := "ThreeBodiesModel", name := "noBody", desc := "(I)Z" } : Jvm.MethodName)) ∈ lw_tbl := lw_at lw_m13 19 rfl
theorem q2998 : (Jvm.Cond.instanceMethod ({ cls := "ThreeBodiesModel", name := "noBody", desc := "(I)Z" } : Jvm.MethodName)) ∈ lw_all := lw_g (lw_at lw_m13 20 rfl) rfl
theorem q2999 : (Jvm.Cond.code ({ cls := "ThreeBodiesModel", name := "noBody", desc := "(I)Z" } : Jvm.MethodName) prog_25_method_56_code (2 : Nat) (Option.some Jvm.ClassFile.FieldType.boolean)) ∈ lw_all := lw_g (lw_at lw_m13 21 rfl) rfl
theorem q3000 : (Jvm.Cond.constantLong "ThreeBodiesModel" (328 : Nat) (4 : Int64)) ∈ lw_all := lw_g (lw_at lw_m13 22 rfl) rfl
theorem q3002 : (Jvm.Cond.instanceMethod ({ cls := "ThreeBodiesModel", name := "setting", desc := "(I)I" } : Jvm.MethodName)) ∈ lw_all := lw_g (lw_at lw_m13 24 rfl) rfl
theorem q3003 : (Jvm.Cond.selects "ThreeBodiesModel" ({ cls := "ThreeBodiesModel", name := "setting", desc := "(I)I" } : Jvm.MethodName) ({ cls := "ThreeBodiesModel", name := "setting", desc := "(I)I" } : Jvm.MethodName)) ∈ lw_all := lw_g (lw_at lw_m13 25 rfl) rfl
theorem q3004 : (Jvm.Cond.code ({ cls := "ThreeBodiesModel", name := "setting", desc := "(I)I" } : Jvm.MethodName) prog_25_method_58_code (2 : Nat) (Option.some Jvm.ClassFile.FieldType.int)) ∈ lw_all := lw_g (lw_at lw_m13 26 rfl) rfl
theorem q3005 : (Jvm.Cond.constantLong "ThreeBodiesModel" (330 : Nat) (5 : Int64)) ∈ lw_all := lw_g (lw_at lw_m13 27 rfl) rfl
theorem q3007 : (Jvm.Cond.instanceMethod ({ cls := "ThreeBodiesModel", name := "distance", desc := "(I)I" } : Jvm.MethodName)) ∈ lw_all := lw_g (lw_at lw_m13 29 rfl) rfl
theorem q3008 : (Jvm.Cond.selects "ThreeBodiesModel" ({ cls := "ThreeBodiesModel", name := "distance", desc := "(I)I" } : Jvm.MethodName) ({ cls := "ThreeBodiesModel", name := "distance", desc := "(I)I" } : Jvm.MethodName)) ∈ lw_all := lw_g (lw_at lw_m13 30 rfl) rfl
theorem q3009 : (Jvm.Cond.code ({ cls := "ThreeBodiesModel", name := "distance", desc := "(I)I" } : Jvm.MethodName) prog_25_method_59_code (2 : Nat) (Option.some Jvm.ClassFile.FieldType.int)) ∈ lw_all := lw_g (lw_at lw_m13 31 rfl) rfl
theorem q3011 : (Jvm.Cond.instanceMethod ({ cls := "ThreeBodiesModel", name := "impulse", desc := "(II)J" } : Jvm.MethodName)) ∈ lw_all := lw_g (lw_at lw_m13 33 rfl) rfl
theorem q3012 : (Jvm.Cond.selects "ThreeBodiesModel" ({ cls := "ThreeBodiesModel", name := "impulse", desc := "(II)J" } : Jvm.MethodName) ({ cls := "ThreeBodiesModel", name := "impulse", desc := "(II)J" } : Jvm.MethodName)) ∈ lw_all := lw_g (lw_at lw_m13 34 rfl) rfl
theorem q3013 : (Jvm.Cond.code ({ cls := "ThreeBodiesModel", name := "impulse", desc := "(II)J" } : Jvm.MethodName) prog_25_method_60_code (3 : Nat) (Option.some Jvm.ClassFile.FieldType.long)) ∈ lw_all := lw_g (lw_at lw_m13 35 rfl) rfl
theorem q3014 : (Jvm.Cond.methodLink "ThreeBodiesModel" (277 : Nat) ({ cls := "ThreeBodiesModel", name := "impulseOf", desc := "([JII)J" } : Jvm.MethodName)) ∈ lw_all := lw_g (lw_at lw_m13 36 rfl) rfl
theorem q3015 : (Jvm.Cond.privateMethod ({ cls := "ThreeBodiesModel", name := "impulseOf", desc := "([JII)J" } : Jvm.MethodName)) ∈ lw_tbl := lw_at lw_m13 37 rfl
theorem q3016 : (Jvm.Cond.instanceMethod ({ cls := "ThreeBodiesModel", name := "impulseOf", desc := "([JII)J" } : Jvm.MethodName)) ∈ lw_all := lw_g (lw_at lw_m13 38 rfl) rfl
theorem q3017 : (Jvm.Cond.code ({ cls := "ThreeBodiesModel", name := "impulseOf", desc := "([JII)J" } : Jvm.MethodName) prog_25_method_41_code (10 : Nat) (Option.some Jvm.ClassFile.FieldType.long)) ∈ lw_all := lw_g (lw_at lw_m13 39 rfl) rfl
theorem q3019 : (Jvm.Cond.instanceMethod ({ cls := "ThreeBodiesModel", name := "momentum", desc := "(I)J" } : Jvm.MethodName)) ∈ lw_all := lw_g (lw_at lw_m13 41 rfl) rfl
theorem q3020 : (Jvm.Cond.selects "ThreeBodiesModel" ({ cls := "ThreeBodiesModel", name := "momentum", desc := "(I)J" } : Jvm.MethodName) ({ cls := "ThreeBodiesModel", name := "momentum", desc := "(I)J" } : Jvm.MethodName)) ∈ lw_all := lw_g (lw_at lw_m13 42 rfl) rfl
theorem q3021 : (Jvm.Cond.code ({ cls := "ThreeBodiesModel", name := "momentum", desc := "(I)J" } : Jvm.MethodName) prog_25_method_61_code (2 : Nat) (Option.some Jvm.ClassFile.FieldType.long)) ∈ lw_all := lw_g (lw_at lw_m13 43 rfl) rfl
theorem q3023 : (Jvm.Cond.instanceMethod ({ cls := "ThreeBodiesModel", name := "angular", desc := "()J" } : Jvm.MethodName)) ∈ lw_all := lw_g (lw_at lw_m13 45 rfl) rfl
theorem q3024 : (Jvm.Cond.selects "ThreeBodiesModel" ({ cls := "ThreeBodiesModel", name := "angular", desc := "()J" } : Jvm.MethodName) ({ cls := "ThreeBodiesModel", name := "angular", desc := "()J" } : Jvm.MethodName)) ∈ lw_all := lw_g (lw_at lw_m13 46 rfl) rfl
theorem q3025 : (Jvm.Cond.code ({ cls := "ThreeBodiesModel", name := "angular", desc := "()J" } : Jvm.MethodName) prog_25_method_62_code (4 : Nat) (Option.some Jvm.ClassFile.FieldType.long)) ∈ lw_all := lw_g (lw_at lw_m13 47 rfl) rfl
theorem q3027 : (Jvm.Cond.instanceMethod ({ cls := "ThreeBodiesModel", name := "kinetic", desc := "()J" } : Jvm.MethodName)) ∈ lw_all := lw_g (lw_at lw_m13 49 rfl) rfl
theorem q3028 : (Jvm.Cond.selects "ThreeBodiesModel" ({ cls := "ThreeBodiesModel", name := "kinetic", desc := "()J" } : Jvm.MethodName) ({ cls := "ThreeBodiesModel", name := "kinetic", desc := "()J" } : Jvm.MethodName)) ∈ lw_all := lw_g (lw_at lw_m13 50 rfl) rfl
theorem q3029 : (Jvm.Cond.code ({ cls := "ThreeBodiesModel", name := "kinetic", desc := "()J" } : Jvm.MethodName) prog_25_method_63_code (1 : Nat) (Option.some Jvm.ClassFile.FieldType.long)) ∈ lw_all := lw_g (lw_at lw_m13 51 rfl) rfl
theorem q3031 : (Jvm.Cond.instanceMethod ({ cls := "ThreeBodiesModel", name := "potential", desc := "()J" } : Jvm.MethodName)) ∈ lw_all := lw_g (lw_at lw_m13 53 rfl) rfl
theorem q3032 : (Jvm.Cond.selects "ThreeBodiesModel" ({ cls := "ThreeBodiesModel", name := "potential", desc := "()J" } : Jvm.MethodName) ({ cls := "ThreeBodiesModel", name := "potential", desc := "()J" } : Jvm.MethodName)) ∈ lw_all := lw_g (lw_at lw_m13 54 rfl) rfl
theorem q3033 : (Jvm.Cond.code ({ cls := "ThreeBodiesModel", name := "potential", desc := "()J" } : Jvm.MethodName) prog_25_method_64_code (1 : Nat) (Option.some Jvm.ClassFile.FieldType.long)) ∈ lw_all := lw_g (lw_at lw_m13 55 rfl) rfl
theorem q3035 : (Jvm.Cond.instanceMethod ({ cls := "ThreeBodiesModel", name := "band", desc := "()J" } : Jvm.MethodName)) ∈ lw_all := lw_g (lw_at lw_m13 57 rfl) rfl
theorem q3036 : (Jvm.Cond.selects "ThreeBodiesModel" ({ cls := "ThreeBodiesModel", name := "band", desc := "()J" } : Jvm.MethodName) ({ cls := "ThreeBodiesModel", name := "band", desc := "()J" } : Jvm.MethodName)) ∈ lw_all := lw_g (lw_at lw_m13 58 rfl) rfl
theorem q3037 : (Jvm.Cond.code ({ cls := "ThreeBodiesModel", name := "band", desc := "()J" } : Jvm.MethodName) prog_25_method_65_code (1 : Nat) (Option.some Jvm.ClassFile.FieldType.long)) ∈ lw_all := lw_g (lw_at lw_m13 59 rfl) rfl
theorem q3038 : (Jvm.Cond.methodLink "ThreeBodiesModel" (315 : Nat) ({ cls := "ThreeBodiesModel", name := "bandOf", desc := "([J)J" } : Jvm.MethodName)) ∈ lw_all := lw_g (lw_at lw_m13 60 rfl) rfl
theorem q3039 : (Jvm.Cond.privateMethod ({ cls := "ThreeBodiesModel", name := "bandOf", desc := "([J)J" } : Jvm.MethodName)) ∈ lw_tbl := lw_at lw_m13 61 rfl
theorem q3040 : (Jvm.Cond.instanceMethod ({ cls := "ThreeBodiesModel", name := "bandOf", desc := "([J)J" } : Jvm.MethodName)) ∈ lw_all := lw_g (lw_at lw_m13 62 rfl) rfl
theorem q3041 : (Jvm.Cond.code ({ cls := "ThreeBodiesModel", name := "bandOf", desc := "([J)J" } : Jvm.MethodName) prog_25_method_45_code (2 : Nat) (Option.some Jvm.ClassFile.FieldType.long)) ∈ lw_all := lw_g (lw_at lw_m13 63 rfl) rfl
theorem q3042 : (Jvm.Cond.methodLink "ThreeBodiesModel" (274 : Nat) ({ cls := "ThreeBodiesModel", name := "floored", desc := "(JJ)J" } : Jvm.MethodName)) ∈ lw_all := lw_g (lw_at lw_m13 64 rfl) rfl
theorem q3043 : (Jvm.Cond.static ({ cls := "ThreeBodiesModel", name := "floored", desc := "(JJ)J" } : Jvm.MethodName)) ∈ lw_all := lw_g (lw_at lw_m13 65 rfl) rfl
theorem q3044 : (Jvm.Cond.code ({ cls := "ThreeBodiesModel", name := "floored", desc := "(JJ)J" } : Jvm.MethodName) prog_25_method_6_code (6 : Nat) (Option.some Jvm.ClassFile.FieldType.long)) ∈ lw_all := lw_g (lw_at lw_m13 66 rfl) rfl
theorem q3046 : (Jvm.Cond.instanceMethod ({ cls := "ThreeBodiesModel", name := "seen", desc := "(Z)J" } : Jvm.MethodName)) ∈ lw_all := lw_g (lw_at lw_m13 68 rfl) rfl
theorem q3047 : (Jvm.Cond.selects "ThreeBodiesModel" ({ cls := "ThreeBodiesModel", name := "seen", desc := "(Z)J" } : Jvm.MethodName) ({ cls := "ThreeBodiesModel", name := "seen", desc := "(Z)J" } : Jvm.MethodName)) ∈ lw_all := lw_g (lw_at lw_m13 69 rfl) rfl
theorem q3048 : (Jvm.Cond.code ({ cls := "ThreeBodiesModel", name := "seen", desc := "(Z)J" } : Jvm.MethodName) prog_25_method_66_code (2 : Nat) (Option.some Jvm.ClassFile.FieldType.long)) ∈ lw_all := lw_g (lw_at lw_m13 70 rfl) rfl
theorem q3050 : (Jvm.Cond.instanceMethod ({ cls := "ThreeBodiesModel", name := "crossings", desc := "()I" } : Jvm.MethodName)) ∈ lw_all := lw_g (lw_at lw_m13 72 rfl) rfl
theorem q3051 : (Jvm.Cond.selects "ThreeBodiesModel" ({ cls := "ThreeBodiesModel", name := "crossings", desc := "()I" } : Jvm.MethodName) ({ cls := "ThreeBodiesModel", name := "crossings", desc := "()I" } : Jvm.MethodName)) ∈ lw_all := lw_g (lw_at lw_m13 73 rfl) rfl
theorem q3052 : (Jvm.Cond.code ({ cls := "ThreeBodiesModel", name := "crossings", desc := "()I" } : Jvm.MethodName) prog_25_method_67_code (1 : Nat) (Option.some Jvm.ClassFile.FieldType.int)) ∈ lw_all := lw_g (lw_at lw_m13 74 rfl) rfl
theorem q3054 : (Jvm.Cond.instanceMethod ({ cls := "ThreeBodiesModel", name := "approachCount", desc := "()I" } : Jvm.MethodName)) ∈ lw_all := lw_g (lw_at lw_m13 76 rfl) rfl
theorem q3055 : (Jvm.Cond.selects "ThreeBodiesModel" ({ cls := "ThreeBodiesModel", name := "approachCount", desc := "()I" } : Jvm.MethodName) ({ cls := "ThreeBodiesModel", name := "approachCount", desc := "()I" } : Jvm.MethodName)) ∈ lw_all := lw_g (lw_at lw_m13 77 rfl) rfl
theorem q3056 : (Jvm.Cond.code ({ cls := "ThreeBodiesModel", name := "approachCount", desc := "()I" } : Jvm.MethodName) prog_25_method_68_code (1 : Nat) (Option.some Jvm.ClassFile.FieldType.int)) ∈ lw_all := lw_g (lw_at lw_m13 78 rfl) rfl
theorem q3058 : (Jvm.Cond.instanceMethod ({ cls := "ThreeBodiesModel", name := "approach", desc := "(II)I" } : Jvm.MethodName)) ∈ lw_all := lw_g (lw_at lw_m13 80 rfl) rfl
theorem q3059 : (Jvm.Cond.selects "ThreeBodiesModel" ({ cls := "ThreeBodiesModel", name := "approach", desc := "(II)I" } : Jvm.MethodName) ({ cls := "ThreeBodiesModel", name := "approach", desc := "(II)I" } : Jvm.MethodName)) ∈ lw_all := lw_g (lw_at lw_m13 81 rfl) rfl
theorem q3060 : (Jvm.Cond.code ({ cls := "ThreeBodiesModel", name := "approach", desc := "(II)I" } : Jvm.MethodName) prog_25_method_69_code (3 : Nat) (Option.some Jvm.ClassFile.FieldType.int)) ∈ lw_all := lw_g (lw_at lw_m13 82 rfl) rfl
theorem q3062 : (Jvm.Cond.instanceMethod ({ cls := "ThreeBodiesModel", name := "run", desc := "(I)I" } : Jvm.MethodName)) ∈ lw_all := lw_g (lw_at lw_m13 84 rfl) rfl
theorem q3063 : (Jvm.Cond.selects "ThreeBodiesModel" ({ cls := "ThreeBodiesModel", name := "run", desc := "(I)I" } : Jvm.MethodName) ({ cls := "ThreeBodiesModel", name := "run", desc := "(I)I" } : Jvm.MethodName)) ∈ lw_all := lw_g (lw_at lw_m13 85 rfl) rfl
theorem q3064 : (Jvm.Cond.code ({ cls := "ThreeBodiesModel", name := "run", desc := "(I)I" } : Jvm.MethodName) prog_25_method_72_code (3 : Nat) (Option.some Jvm.ClassFile.FieldType.int)) ∈ lw_all := lw_g (lw_at lw_m13 86 rfl) rfl
theorem q3065 : (Jvm.Cond.constantLong "ThreeBodiesModel" (335 : Nat) (500 : Int64)) ∈ lw_all := lw_g (lw_at lw_m13 87 rfl) rfl
theorem q3066 : (Jvm.Cond.methodLink "ThreeBodiesModel" (332 : Nat) ({ cls := "ThreeBodiesModel", name := "records", desc := "()V" } : Jvm.MethodName)) ∈ lw_all := lw_g (lw_at lw_m13 88 rfl) rfl
theorem q3067 : (Jvm.Cond.privateMethod ({ cls := "ThreeBodiesModel", name := "records", desc := "()V" } : Jvm.MethodName)) ∈ lw_tbl := lw_at lw_m13 89 rfl
theorem q3068 : (Jvm.Cond.instanceMethod ({ cls := "ThreeBodiesModel", name := "records", desc := "()V" } : Jvm.MethodName)) ∈ lw_all := lw_g (lw_at lw_m13 90 rfl) rfl
theorem q3069 : (Jvm.Cond.code ({ cls := "ThreeBodiesModel", name := "records", desc := "()V" } : Jvm.MethodName) prog_25_method_70_code (2 : Nat) (Option.none : Option Jvm.ClassFile.FieldType)) ∈ lw_all := lw_g (lw_at lw_m13 91 rfl) rfl
theorem q3070 : (Jvm.Cond.methodLink "ThreeBodiesModel" (312 : Nat) ({ cls := "ThreeBodiesModel", name := "remembers", desc := "()V" } : Jvm.MethodName)) ∈ lw_all := lw_g (lw_at lw_m13 92 rfl) rfl
theorem q3071 : (Jvm.Cond.privateMethod ({ cls := "ThreeBodiesModel", name := "remembers", desc := "()V" } : Jvm.MethodName)) ∈ lw_tbl := lw_at lw_m13 93 rfl
theorem q3072 : (Jvm.Cond.instanceMethod ({ cls := "ThreeBodiesModel", name := "remembers", desc := "()V" } : Jvm.MethodName)) ∈ lw_all := lw_g (lw_at lw_m13 94 rfl) rfl
theorem q3073 : (Jvm.Cond.code ({ cls := "ThreeBodiesModel", name := "remembers", desc := "()V" } : Jvm.MethodName) prog_25_method_51_code (2 : Nat) (Option.none : Option Jvm.ClassFile.FieldType)) ∈ lw_all := lw_g (lw_at lw_m13 95 rfl) rfl
theorem q3074 : (Jvm.Cond.methodLink "ThreeBodiesModel" (337 : Nat) ({ cls := "ThreeBodiesModel", name := "runsOne", desc := "()Z" } : Jvm.MethodName)) ∈ lw_all := lw_g (lw_at lw_m13 96 rfl) rfl
theorem q3075 : (Jvm.Cond.privateMethod ({ cls := "ThreeBodiesModel", name := "runsOne", desc := "()Z" } : Jvm.MethodName)) ∈ lw_tbl := lw_at lw_m13 97 rfl
theorem q3076 : (Jvm.Cond.instanceMethod ({ cls := "ThreeBodiesModel", name := "runsOne", desc := "()Z" } : Jvm.MethodName)) ∈ lw_all := lw_g (lw_at lw_m13 98 rfl) rfl
theorem q3077 : (Jvm.Cond.code ({ cls := "ThreeBodiesModel", name := "runsOne", desc := "()Z" } : Jvm.MethodName) prog_25_method_54_code (5 : Nat) (Option.some Jvm.ClassFile.FieldType.boolean)) ∈ lw_all := lw_g (lw_at lw_m13 99 rfl) rfl
theorem q3078 : (Jvm.Cond.methodLink "ThreeBodiesModel" (318 : Nat) ({ cls := "ThreeBodiesModel", name := "steps", desc := "([JZ)Z" } : Jvm.MethodName)) ∈ lw_all := lw_g (lw_at lw_m13 100 rfl) rfl
theorem q3079 : (Jvm.Cond.privateMethod ({ cls := "ThreeBodiesModel", name := "steps", desc := "([JZ)Z" } : Jvm.MethodName)) ∈ lw_tbl := lw_at lw_m13 101 rfl
theorem q3080 : (Jvm.Cond.instanceMethod ({ cls := "ThreeBodiesModel", name := "steps", desc := "([JZ)Z" } : Jvm.MethodName)) ∈ lw_all := lw_g (lw_at lw_m13 102 rfl) rfl
theorem q3081 : (Jvm.Cond.code ({ cls := "ThreeBodiesModel", name := "steps", desc := "([JZ)Z" } : Jvm.MethodName) prog_25_method_50_code (8 : Nat) (Option.some Jvm.ClassFile.FieldType.boolean)) ∈ lw_all := lw_g (lw_at lw_m13 103 rfl) rfl
theorem q3082 : (Jvm.Cond.constantLong "ThreeBodiesModel" (285 : Nat) (-1 : Int64)) ∈ lw_all := lw_g (lw_at lw_m13 104 rfl) rfl
theorem q3083 : (Jvm.Cond.constantLong "ThreeBodiesModel" (287 : Nat) (-1000000 : Int64)) ∈ lw_all := lw_g (lw_at lw_m13 105 rfl) rfl
theorem q3084 : (Jvm.Cond.constantLong "ThreeBodiesModel" (289 : Nat) (1000000 : Int64)) ∈ lw_all := lw_g (lw_at lw_m13 106 rfl) rfl
theorem q3085 : (Jvm.Cond.methodLink "ThreeBodiesModel" (291 : Nat) ({ cls := "ThreeBodiesModel", name := "partOf", desc := "(JI)I" } : Jvm.MethodName)) ∈ lw_all := lw_g (lw_at lw_m13 107 rfl) rfl
theorem q3086 : (Jvm.Cond.static ({ cls := "ThreeBodiesModel", name := "partOf", desc := "(JI)I" } : Jvm.MethodName)) ∈ lw_all := lw_g (lw_at lw_m13 108 rfl) rfl
theorem q3087 : (Jvm.Cond.code ({ cls := "ThreeBodiesModel", name := "partOf", desc := "(JI)I" } : Jvm.MethodName) prog_25_method_49_code (3 : Nat) (Option.some Jvm.ClassFile.FieldType.int)) ∈ lw_all := lw_g (lw_at lw_m13 109 rfl) rfl
theorem q3088 : (Jvm.Cond.methodLink "ThreeBodiesModel" (295 : Nat) ({ cls := "ThreeBodiesModel", name := "kicks", desc := "([JZZ)V" } : Jvm.MethodName)) ∈ lw_all := lw_g (lw_at lw_m13 110 rfl) rfl
theorem q3089 : (Jvm.Cond.privateMethod ({ cls := "ThreeBodiesModel", name := "kicks", desc := "([JZZ)V" } : Jvm.MethodName)) ∈ lw_tbl := lw_at lw_m13 111 rfl
theorem q3090 : (Jvm.Cond.instanceMethod ({ cls := "ThreeBodiesModel", name := "kicks", desc := "([JZZ)V" } : Jvm.MethodName)) ∈ lw_all := lw_g (lw_at lw_m13 112 rfl) rfl
theorem q3091 : (Jvm.Cond.code ({ cls := "ThreeBodiesModel", name := "kicks", desc := "([JZZ)V" } : Jvm.MethodName) prog_25_method_46_code (8 : Nat) (Option.none : Option Jvm.ClassFile.FieldType)) ∈ lw_all := lw_g (lw_at lw_m13 113 rfl) rfl
theorem q3092 : (Jvm.Cond.methodLink "ThreeBodiesModel" (299 : Nat) ({ cls := "ThreeBodiesModel", name := "drifts", desc := "([JZZ)V" } : Jvm.MethodName)) ∈ lw_all := lw_g (lw_at lw_m13 114 rfl) rfl
theorem q3093 : (Jvm.Cond.privateMethod ({ cls := "ThreeBodiesModel", name := "drifts", desc := "([JZZ)V" } : Jvm.MethodName)) ∈ lw_tbl := lw_at lw_m13 115 rfl
theorem q3094 : (Jvm.Cond.instanceMethod ({ cls := "ThreeBodiesModel", name := "drifts", desc := "([JZZ)V" } : Jvm.MethodName)) ∈ lw_all := lw_g (lw_at lw_m13 116 rfl) rfl
theorem q3095 : (Jvm.Cond.code ({ cls := "ThreeBodiesModel", name := "drifts", desc := "([JZZ)V" } : Jvm.MethodName) prog_25_method_47_code (8 : Nat) (Option.none : Option Jvm.ClassFile.FieldType)) ∈ lw_all := lw_g (lw_at lw_m13 117 rfl) rfl
theorem q3096 : (Jvm.Cond.methodLink "ThreeBodiesModel" (302 : Nat) ({ cls := "ThreeBodiesModel", name := "isIn", desc := "([J)Z" } : Jvm.MethodName)) ∈ lw_all := lw_g (lw_at lw_m13 118 rfl) rfl
theorem q3097 : (Jvm.Cond.static ({ cls := "ThreeBodiesModel", name := "isIn", desc := "([J)Z" } : Jvm.MethodName)) ∈ lw_all := lw_g (lw_at lw_m13 119 rfl) rfl
theorem q3098 : (Jvm.Cond.code ({ cls := "ThreeBodiesModel", name := "isIn", desc := "([J)Z" } : Jvm.MethodName) prog_25_method_48_code (3 : Nat) (Option.some Jvm.ClassFile.FieldType.boolean)) ∈ lw_all := lw_g (lw_at lw_m13 120 rfl) rfl
theorem q3099 : (Jvm.Cond.constantLong "ThreeBodiesModel" (281 : Nat) (-100000 : Int64)) ∈ lw_all := lw_g (lw_at lw_m13 121 rfl) rfl
theorem q3100 : (Jvm.Cond.constantLong "ThreeBodiesModel" (283 : Nat) (-1000000000 : Int64)) ∈ lw_all := lw_g (lw_at lw_m13 122 rfl) rfl
theorem q3101 : (Jvm.Cond.methodLink "ThreeBodiesModel" (322 : Nat) ({ cls := "ThreeBodiesModel", name := "looks", desc := "()V" } : Jvm.MethodName)) ∈ lw_all := lw_g (lw_at lw_m13 123 rfl) rfl
theorem q3102 : (Jvm.Cond.privateMethod ({ cls := "ThreeBodiesModel", name := "looks", desc := "()V" } : Jvm.MethodName)) ∈ lw_tbl := lw_at lw_m13 124 rfl
theorem q3103 : (Jvm.Cond.instanceMethod ({ cls := "ThreeBodiesModel", name := "looks", desc := "()V" } : Jvm.MethodName)) ∈ lw_all := lw_g (lw_at lw_m13 125 rfl) rfl
theorem q3104 : (Jvm.Cond.code ({ cls := "ThreeBodiesModel", name := "looks", desc := "()V" } : Jvm.MethodName) prog_25_method_53_code (4 : Nat) (Option.none : Option Jvm.ClassFile.FieldType)) ∈ lw_all := lw_g (lw_at lw_m13 126 rfl) rfl
theorem q3105 : (Jvm.Cond.methodLink "ThreeBodiesModel" (308 : Nat) ({ cls := "ThreeBodiesModel", name := "keepsApproach", desc := "(JIJ)V" } : Jvm.MethodName)) ∈ lw_all := lw_g (lw_at lw_m13 127 rfl) rfl
theorem q3106 : (Jvm.Cond.privateMethod ({ cls := "ThreeBodiesModel", name := "keepsApproach", desc := "(JIJ)V" } : Jvm.MethodName)) ∈ lw_tbl := lw_at lw_m13 128 rfl
theorem q3107 : (Jvm.Cond.instanceMethod ({ cls := "ThreeBodiesModel", name := "keepsApproach", desc := "(JIJ)V" } : Jvm.MethodName)) ∈ lw_all := lw_g (lw_at lw_m13 129 rfl) rfl
theorem q3108 : (Jvm.Cond.code ({ cls := "ThreeBodiesModel", name := "keepsApproach", desc := "(JIJ)V" } : Jvm.MethodName) prog_25_method_52_code (7 : Nat) (Option.none : Option Jvm.ClassFile.FieldType)) ∈ lw_all := lw_g (lw_at lw_m13 130 rfl) rfl
theorem q3109 : (Jvm.Cond.constantLong "ThreeBodiesModel" (306 : Nat) (30 : Int64)) ∈ lw_all := lw_g (lw_at lw_m13 131 rfl) rfl
theorem q3111 : (Jvm.Cond.instanceMethod ({ cls := "ThreeBodiesModel", name := "back", desc := "(I)I" } : Jvm.MethodName)) ∈ lw_all := lw_g (lw_at lw_m13 133 rfl) rfl
theorem q3112 : (Jvm.Cond.selects "ThreeBodiesModel" ({ cls := "ThreeBodiesModel", name := "back", desc := "(I)I" } : Jvm.MethodName) ({ cls := "ThreeBodiesModel", name := "back", desc := "(I)I" } : Jvm.MethodName)) ∈ lw_all := lw_g (lw_at lw_m13 134 rfl) rfl
theorem q3113 : (Jvm.Cond.code ({ cls := "ThreeBodiesModel", name := "back", desc := "(I)I" } : Jvm.MethodName) prog_25_method_73_code (3 : Nat) (Option.some Jvm.ClassFile.FieldType.int)) ∈ lw_all := lw_g (lw_at lw_m13 135 rfl) rfl
theorem q3114 : (Jvm.Cond.methodLink "ThreeBodiesModel" (340 : Nat) ({ cls := "ThreeBodiesModel", name := "begins", desc := "()V" } : Jvm.MethodName)) ∈ lw_all := lw_g (lw_at lw_m13 136 rfl) rfl
theorem q3115 : (Jvm.Cond.privateMethod ({ cls := "ThreeBodiesModel", name := "begins", desc := "()V" } : Jvm.MethodName)) ∈ lw_tbl := lw_at lw_m13 137 rfl
theorem q3116 : (Jvm.Cond.instanceMethod ({ cls := "ThreeBodiesModel", name := "begins", desc := "()V" } : Jvm.MethodName)) ∈ lw_all := lw_g (lw_at lw_m13 138 rfl) rfl
theorem q3117 : (Jvm.Cond.code ({ cls := "ThreeBodiesModel", name := "begins", desc := "()V" } : Jvm.MethodName) prog_25_method_71_code (1 : Nat) (Option.none : Option Jvm.ClassFile.FieldType)) ∈ lw_all := lw_g (lw_at lw_m13 139 rfl) rfl
theorem q3119 : (Jvm.Cond.instanceMethod ({ cls := "ThreeBodiesModel", name := "push", desc := "(III)I" } : Jvm.MethodName)) ∈ lw_all := lw_g (lw_at lw_m13 141 rfl) rfl
theorem q3120 : (Jvm.Cond.selects "ThreeBodiesModel" ({ cls := "ThreeBodiesModel", name := "push", desc := "(III)I" } : Jvm.MethodName) ({ cls := "ThreeBodiesModel", name := "push", desc := "(III)I" } : Jvm.MethodName)) ∈ lw_all := lw_g (lw_at lw_m13 142 rfl) rfl
theorem q3121 : (Jvm.Cond.code ({ cls := "ThreeBodiesModel", name := "push", desc := "(III)I" } : Jvm.MethodName) prog_25_method_74_code (8 : Nat) (Option.some Jvm.ClassFile.FieldType.int)) ∈ lw_all := lw_g (lw_at lw_m13 143 rfl) rfl
theorem q3123 : (Jvm.Cond.instanceMethod ({ cls := "ThreeBodiesModel", name := "place", desc := "(III)I" } : Jvm.MethodName)) ∈ lw_all := lw_g (lw_at lw_m13 145 rfl) rfl
theorem q3124 : (Jvm.Cond.selects "ThreeBodiesModel" ({ cls := "ThreeBodiesModel", name := "place", desc := "(III)I" } : Jvm.MethodName) ({ cls := "ThreeBodiesModel", name := "place", desc := "(III)I" } : Jvm.MethodName)) ∈ lw_all := lw_g (lw_at lw_m13 146 rfl) rfl
theorem q3125 : (Jvm.Cond.code ({ cls := "ThreeBodiesModel", name := "place", desc := "(III)I" } : Jvm.MethodName) prog_25_method_75_code (6 : Nat) (Option.some Jvm.ClassFile.FieldType.int)) ∈ lw_all := lw_g (lw_at lw_m13 147 rfl) rfl
theorem q3126 : (Jvm.Cond.methodLink "ThreeBodiesModel" (343 : Nat) ({ cls := "ThreeBodiesModel", name := "isTaken", desc := "([JIJJ)Z" } : Jvm.MethodName)) ∈ lw_all := lw_g (lw_at lw_m13 148 rfl) rfl
theorem q3127 : (Jvm.Cond.privateMethod ({ cls := "ThreeBodiesModel", name := "isTaken", desc := "([JIJJ)Z" } : Jvm.MethodName)) ∈ lw_tbl := lw_at lw_m13 149 rfl
theorem q3128 : (Jvm.Cond.instanceMethod ({ cls := "ThreeBodiesModel", name := "isTaken", desc := "([JIJJ)Z" } : Jvm.MethodName)) ∈ lw_all := lw_g (lw_at lw_m13 150 rfl) rfl
theorem q3129 : (Jvm.Cond.code ({ cls := "ThreeBodiesModel", name := "isTaken", desc := "([JIJJ)Z" } : Jvm.MethodName) prog_25_method_32_code (8 : Nat) (Option.some Jvm.ClassFile.FieldType.boolean)) ∈ lw_all := lw_g (lw_at lw_m13 151 rfl) rfl
theorem q3131 : (Jvm.Cond.instanceMethod ({ cls := "ThreeBodiesModel", name := "reverse", desc := "()V" } : Jvm.MethodName)) ∈ lw_all := lw_g (lw_at lw_m13 153 rfl) rfl
theorem q3132 : (Jvm.Cond.selects "ThreeBodiesModel" ({ cls := "ThreeBodiesModel", name := "reverse", desc := "()V" } : Jvm.MethodName) ({ cls := "ThreeBodiesModel", name := "reverse", desc := "()V" } : Jvm.MethodName)) ∈ lw_all := lw_g (lw_at lw_m13 154 rfl) rfl
theorem q3133 : (Jvm.Cond.code ({ cls := "ThreeBodiesModel", name := "reverse", desc := "()V" } : Jvm.MethodName) prog_25_method_76_code (2 : Nat) (Option.none : Option Jvm.ClassFile.FieldType)) ∈ lw_all := lw_g (lw_at lw_m13 155 rfl) rfl
theorem q3135 : (Jvm.Cond.instanceMethod ({ cls := "ThreeBodiesModel", name := "turn", desc := "()V" } : Jvm.MethodName)) ∈ lw_all := lw_g (lw_at lw_m13 157 rfl) rfl
theorem q3136 : (Jvm.Cond.selects "ThreeBodiesModel" ({ cls := "ThreeBodiesModel", name := "turn", desc := "()V" } : Jvm.MethodName) ({ cls := "ThreeBodiesModel", name := "turn", desc := "()V" } : Jvm.MethodName)) ∈ lw_all := lw_g (lw_at lw_m13 158 rfl) rfl
theorem q3137 : (Jvm.Cond.code ({ cls := "ThreeBodiesModel", name := "turn", desc := "()V" } : Jvm.MethodName) prog_25_method_78_code (2 : Nat) (Option.none : Option Jvm.ClassFile.FieldType)) ∈ lw_all := lw_g (lw_at lw_m13 159 rfl) rfl
theorem q3138 : (Jvm.Cond.methodLink "ThreeBodiesModel" (347 : Nat) ({ cls := "ThreeBodiesModel", name := "turns", desc := "([JI)V" } : Jvm.MethodName)) ∈ lw_all := lw_g (lw_at lw_m13 160 rfl) rfl
theorem q3139 : (Jvm.Cond.static ({ cls := "ThreeBodiesModel", name := "turns", desc := "([JI)V" } : Jvm.MethodName)) ∈ lw_all := lw_g (lw_at lw_m13 161 rfl) rfl
theorem q3140 : (Jvm.Cond.code ({ cls := "ThreeBodiesModel", name := "turns", desc := "([JI)V" } : Jvm.MethodName) prog_25_method_77_code (4 : Nat) (Option.none : Option Jvm.ClassFile.FieldType)) ∈ lw_all := lw_g (lw_at lw_m13 162 rfl) rfl
theorem q3142 : (Jvm.Cond.instanceMethod ({ cls := "ThreeBodiesModel", name := "exchange", desc := "(II)V" } : Jvm.MethodName)) ∈ lw_all := lw_g (lw_at lw_m13 164 rfl) rfl
theorem q3143 : (Jvm.Cond.selects "ThreeBodiesModel" ({ cls := "ThreeBodiesModel", name := "exchange", desc := "(II)V" } : Jvm.MethodName) ({ cls := "ThreeBodiesModel", name := "exchange", desc := "(II)V" } : Jvm.MethodName)) ∈ lw_all := lw_g (lw_at lw_m13 165 rfl) rfl
theorem q3144 : (Jvm.Cond.code ({ cls := "ThreeBodiesModel", name := "exchange", desc := "(II)V" } : Jvm.MethodName) prog_25_method_79_code (6 : Nat) (Option.none : Option Jvm.ClassFile.FieldType)) ∈ lw_all := lw_g (lw_at lw_m13 166 rfl) rfl
theorem q3146 : (Jvm.Cond.instanceMethod ({ cls := "ThreeBodiesModel", name := "setScheme", desc := "(I)I" } : Jvm.MethodName)) ∈ lw_all := lw_g (lw_at lw_m13 168 rfl) rfl
theorem q3147 : (Jvm.Cond.selects "ThreeBodiesModel" ({ cls := "ThreeBodiesModel", name := "setScheme", desc := "(I)I" } : Jvm.MethodName) ({ cls := "ThreeBodiesModel", name := "setScheme", desc := "(I)I" } : Jvm.MethodName)) ∈ lw_all := lw_g (lw_at lw_m13 169 rfl) rfl
theorem q3148 : (Jvm.Cond.code ({ cls := "ThreeBodiesModel", name := "setScheme", desc := "(I)I" } : Jvm.MethodName) prog_25_method_80_code (3 : Nat) (Option.some Jvm.ClassFile.FieldType.int)) ∈ lw_all := lw_g (lw_at lw_m13 170 rfl) rfl
theorem q3150 : (Jvm.Cond.instanceMethod ({ cls := "ThreeBodiesModel", name := "undoCount", desc := "()I" } : Jvm.MethodName)) ∈ lw_all := lw_g (lw_at lw_m13 172 rfl) rfl
theorem q3151 : (Jvm.Cond.selects "ThreeBodiesModel" ({ cls := "ThreeBodiesModel", name := "undoCount", desc := "()I" } : Jvm.MethodName) ({ cls := "ThreeBodiesModel", name := "undoCount", desc := "()I" } : Jvm.MethodName)) ∈ lw_all := lw_g (lw_at lw_m13 173 rfl) rfl
theorem q3152 : (Jvm.Cond.code ({ cls := "ThreeBodiesModel", name := "undoCount", desc := "()I" } : Jvm.MethodName) prog_25_method_81_code (1 : Nat) (Option.some Jvm.ClassFile.FieldType.int)) ∈ lw_all := lw_g (lw_at lw_m13 174 rfl) rfl
theorem q3154 : (Jvm.Cond.instanceMethod ({ cls := "ThreeBodiesModel", name := "undo", desc := "()I" } : Jvm.MethodName)) ∈ lw_all := lw_g (lw_at lw_m13 176 rfl) rfl
theorem q3155 : (Jvm.Cond.selects "ThreeBodiesModel" ({ cls := "ThreeBodiesModel", name := "undo", desc := "()I" } : Jvm.MethodName) ({ cls := "ThreeBodiesModel", name := "undo", desc := "()I" } : Jvm.MethodName)) ∈ lw_all := lw_g (lw_at lw_m13 177 rfl) rfl
theorem q3156 : (Jvm.Cond.code ({ cls := "ThreeBodiesModel", name := "undo", desc := "()I" } : Jvm.MethodName) prog_25_method_82_code (2 : Nat) (Option.some Jvm.ClassFile.FieldType.int)) ∈ lw_all := lw_g (lw_at lw_m13 178 rfl) rfl
theorem q3158 : (Jvm.Cond.instanceMethod ({ cls := "ThreeBodiesModel", name := "saveSnapshot", desc := "()V" } : Jvm.MethodName)) ∈ lw_all := lw_g (lw_at lw_m13 180 rfl) rfl
theorem q3159 : (Jvm.Cond.selects "ThreeBodiesModel" ({ cls := "ThreeBodiesModel", name := "saveSnapshot", desc := "()V" } : Jvm.MethodName) ({ cls := "ThreeBodiesModel", name := "saveSnapshot", desc := "()V" } : Jvm.MethodName)) ∈ lw_all := lw_g (lw_at lw_m13 181 rfl) rfl
theorem q3160 : (Jvm.Cond.code ({ cls := "ThreeBodiesModel", name := "saveSnapshot", desc := "()V" } : Jvm.MethodName) prog_25_method_83_code (1 : Nat) (Option.none : Option Jvm.ClassFile.FieldType)) ∈ lw_all := lw_g (lw_at lw_m13 182 rfl) rfl
theorem q3162 : (Jvm.Cond.instanceMethod ({ cls := "ThreeBodiesModel", name := "restoreSnapshot", desc := "()Z" } : Jvm.MethodName)) ∈ lw_all := lw_g (lw_at lw_m13 184 rfl) rfl
theorem q3163 : (Jvm.Cond.selects "ThreeBodiesModel" ({ cls := "ThreeBodiesModel", name := "restoreSnapshot", desc := "()Z" } : Jvm.MethodName) ({ cls := "ThreeBodiesModel", name := "restoreSnapshot", desc := "()Z" } : Jvm.MethodName)) ∈ lw_all := lw_g (lw_at lw_m13 185 rfl) rfl
theorem q3164 : (Jvm.Cond.code ({ cls := "ThreeBodiesModel", name := "restoreSnapshot", desc := "()Z" } : Jvm.MethodName) prog_25_method_84_code (1 : Nat) (Option.some Jvm.ClassFile.FieldType.boolean)) ∈ lw_all := lw_g (lw_at lw_m13 186 rfl) rfl
theorem q3166 : (Jvm.Cond.instanceMethod ({ cls := "ThreeBodiesModel", name := "error", desc := "(II)I" } : Jvm.MethodName)) ∈ lw_all := lw_g (lw_at lw_m13 188 rfl) rfl
theorem q3167 : (Jvm.Cond.selects "ThreeBodiesModel" ({ cls := "ThreeBodiesModel", name := "error", desc := "(II)I" } : Jvm.MethodName) ({ cls := "ThreeBodiesModel", name := "error", desc := "(II)I" } : Jvm.MethodName)) ∈ lw_all := lw_g (lw_at lw_m13 189 rfl) rfl
theorem q3168 : (Jvm.Cond.code ({ cls := "ThreeBodiesModel", name := "error", desc := "(II)I" } : Jvm.MethodName) prog_25_method_99_code (5 : Nat) (Option.some Jvm.ClassFile.FieldType.int)) ∈ lw_all := lw_g (lw_at lw_m13 190 rfl) rfl
theorem q3169 : (Jvm.Cond.methodLink "ThreeBodiesModel" (400 : Nat) ({ cls := "ThreeBodiesModel", name := "isAsked", desc := "(II)Z" } : Jvm.MethodName)) ∈ lw_all := lw_g (lw_at lw_m13 191 rfl) rfl
theorem q3170 : (Jvm.Cond.privateMethod ({ cls := "ThreeBodiesModel", name := "isAsked", desc := "(II)Z" } : Jvm.MethodName)) ∈ lw_tbl := lw_at lw_m13 192 rfl
theorem q3171 : (Jvm.Cond.instanceMethod ({ cls := "ThreeBodiesModel", name := "isAsked", desc := "(II)Z" } : Jvm.MethodName)) ∈ lw_all := lw_g (lw_at lw_m13 193 rfl) rfl
theorem q3172 : (Jvm.Cond.code ({ cls := "ThreeBodiesModel", name := "isAsked", desc := "(II)Z" } : Jvm.MethodName) prog_25_method_98_code (3 : Nat) (Option.some Jvm.ClassFile.FieldType.boolean)) ∈ lw_all := lw_g (lw_at lw_m13 194 rfl) rfl
theorem q3173 : (Jvm.Cond.constantLong "ThreeBodiesModel" (392 : Nat) (3 : Int64)) ∈ lw_all := lw_g (lw_at lw_m13 195 rfl) rfl
theorem q3174 : (Jvm.Cond.constantLong "ThreeBodiesModel" (394 : Nat) (300 : Int64)) ∈ lw_all := lw_g (lw_at lw_m13 196 rfl) rfl
theorem q3175 : (Jvm.Cond.methodLink "ThreeBodiesModel" (396 : Nat) ({ cls := "ThreeBodiesModel", name := "fits", desc := "(II)Z" } : Jvm.MethodName)) ∈ lw_all := lw_g (lw_at lw_m13 197 rfl) rfl
theorem q3176 : (Jvm.Cond.static ({ cls := "ThreeBodiesModel", name := "fits", desc := "(II)Z" } : Jvm.MethodName)) ∈ lw_all := lw_g (lw_at lw_m13 198 rfl) rfl
theorem q3177 : (Jvm.Cond.code ({ cls := "ThreeBodiesModel", name := "fits", desc := "(II)Z" } : Jvm.MethodName) prog_25_method_96_code (2 : Nat) (Option.some Jvm.ClassFile.FieldType.boolean)) ∈ lw_all := lw_g (lw_at lw_m13 199 rfl) rfl
theorem q3178 : (Jvm.Cond.methodLink "ThreeBodiesModel" (403 : Nat) ({ cls := "ThreeBodiesModel", name := "errorFrom", desc := "([JII)J" } : Jvm.MethodName)) ∈ lw_all := lw_g (lw_at lw_m13 200 rfl) rfl
theorem q3179 : (Jvm.Cond.privateMethod ({ cls := "ThreeBodiesModel", name := "errorFrom", desc := "([JII)J" } : Jvm.MethodName)) ∈ lw_tbl := lw_at lw_m13 201 rfl
theorem q3180 : (Jvm.Cond.instanceMethod ({ cls := "ThreeBodiesModel", name := "errorFrom", desc := "([JII)J" } : Jvm.MethodName)) ∈ lw_all := lw_g (lw_at lw_m13 202 rfl) rfl
theorem q3181 : (Jvm.Cond.code ({ cls := "ThreeBodiesModel", name := "errorFrom", desc := "([JII)J" } : Jvm.MethodName) prog_25_method_97_code (4 : Nat) (Option.some Jvm.ClassFile.FieldType.long)) ∈ lw_all := lw_g (lw_at lw_m13 203 rfl) rfl
theorem q3182 : (Jvm.Cond.methodLink "ThreeBodiesModel" (383 : Nat) ({ cls := "ThreeBodiesModel", name := "laysPath", desc := "([JI)I" } : Jvm.MethodName)) ∈ lw_all := lw_g (lw_at lw_m13 204 rfl) rfl
theorem q3183 : (Jvm.Cond.privateMethod ({ cls := "ThreeBodiesModel", name := "laysPath", desc := "([JI)I" } : Jvm.MethodName)) ∈ lw_tbl := lw_at lw_m13 205 rfl
theorem q3184 : (Jvm.Cond.instanceMethod ({ cls := "ThreeBodiesModel", name := "laysPath", desc := "([JI)I" } : Jvm.MethodName)) ∈ lw_all := lw_g (lw_at lw_m13 206 rfl) rfl
theorem q3185 : (Jvm.Cond.code ({ cls := "ThreeBodiesModel", name := "laysPath", desc := "([JI)I" } : Jvm.MethodName) prog_25_method_86_code (4 : Nat) (Option.some Jvm.ClassFile.FieldType.int)) ∈ lw_all := lw_g (lw_at lw_m13 207 rfl) rfl
theorem q3186 : (Jvm.Cond.methodLink "ThreeBodiesModel" (351 : Nat) ({ cls := "ThreeBodiesModel", name := "laysPlaces", desc := "([JI)V" } : Jvm.MethodName)) ∈ lw_all := lw_g (lw_at lw_m13 208 rfl) rfl
theorem q3187 : (Jvm.Cond.privateMethod ({ cls := "ThreeBodiesModel", name := "laysPlaces", desc := "([JI)V" } : Jvm.MethodName)) ∈ lw_tbl := lw_at lw_m13 209 rfl
theorem q3188 : (Jvm.Cond.instanceMethod ({ cls := "ThreeBodiesModel", name := "laysPlaces", desc := "([JI)V" } : Jvm.MethodName)) ∈ lw_all := lw_g (lw_at lw_m13 210 rfl) rfl
theorem q3189 : (Jvm.Cond.code ({ cls := "ThreeBodiesModel", name := "laysPlaces", desc := "([JI)V" } : Jvm.MethodName) prog_25_method_85_code (4 : Nat) (Option.none : Option Jvm.ClassFile.FieldType)) ∈ lw_all := lw_g (lw_at lw_m13 211 rfl) rfl
theorem q3190 : (Jvm.Cond.methodLink "ThreeBodiesModel" (387 : Nat) ({ cls := "ThreeBodiesModel", name := "errorOf", desc := "(II)J" } : Jvm.MethodName)) ∈ lw_all := lw_g (lw_at lw_m13 212 rfl) rfl
theorem q3191 : (Jvm.Cond.privateMethod ({ cls := "ThreeBodiesModel", name := "errorOf", desc := "(II)J" } : Jvm.MethodName)) ∈ lw_tbl := lw_at lw_m13 213 rfl
theorem q3192 : (Jvm.Cond.instanceMethod ({ cls := "ThreeBodiesModel", name := "errorOf", desc := "(II)J" } : Jvm.MethodName)) ∈ lw_all := lw_g (lw_at lw_m13 214 rfl) rfl
theorem q3193 : (Jvm.Cond.code ({ cls := "ThreeBodiesModel", name := "errorOf", desc := "(II)J" } : Jvm.MethodName) prog_25_method_95_code (3 : Nat) (Option.some Jvm.ClassFile.FieldType.long)) ∈ lw_all := lw_g (lw_at lw_m13 215 rfl) rfl
theorem q3194 : (Jvm.Cond.methodLink "ThreeBodiesModel" (370 : Nat) ({ cls := "ThreeBodiesModel", name := "chaseError", desc := "(I)J" } : Jvm.MethodName)) ∈ lw_all := lw_g (lw_at lw_m13 216 rfl) rfl
theorem q3195 : (Jvm.Cond.privateMethod ({ cls := "ThreeBodiesModel", name := "chaseError", desc := "(I)J" } : Jvm.MethodName)) ∈ lw_tbl := lw_at lw_m13 217 rfl
theorem q3196 : (Jvm.Cond.instanceMethod ({ cls := "ThreeBodiesModel", name := "chaseError", desc := "(I)J" } : Jvm.MethodName)) ∈ lw_all := lw_g (lw_at lw_m13 218 rfl) rfl
theorem q3197 : (Jvm.Cond.code ({ cls := "ThreeBodiesModel", name := "chaseError", desc := "(I)J" } : Jvm.MethodName) prog_25_method_91_code (7 : Nat) (Option.some Jvm.ClassFile.FieldType.long)) ∈ lw_all := lw_g (lw_at lw_m13 219 rfl) rfl
theorem q3198 : (Jvm.Cond.methodLink "ThreeBodiesModel" (360 : Nat) ({ cls := "ThreeBodiesModel", name := "px", desc := "(II)J" } : Jvm.MethodName)) ∈ lw_all := lw_g (lw_at lw_m13 220 rfl) rfl
theorem q3199 : (Jvm.Cond.privateMethod ({ cls := "ThreeBodiesModel", name := "px", desc := "(II)J" } : Jvm.MethodName)) ∈ lw_tbl := lw_at lw_m13 221 rfl
theorem q3200 : (Jvm.Cond.instanceMethod ({ cls := "ThreeBodiesModel", name := "px", desc := "(II)J" } : Jvm.MethodName)) ∈ lw_all := lw_g (lw_at lw_m13 222 rfl) rfl
theorem q3201 : (Jvm.Cond.code ({ cls := "ThreeBodiesModel", name := "px", desc := "(II)J" } : Jvm.MethodName) prog_25_method_87_code (3 : Nat) (Option.some Jvm.ClassFile.FieldType.long)) ∈ lw_all := lw_g (lw_at lw_m13 223 rfl) rfl
theorem q3202 : (Jvm.Cond.methodLink "ThreeBodiesModel" (364 : Nat) ({ cls := "ThreeBodiesModel", name := "py", desc := "(II)J" } : Jvm.MethodName)) ∈ lw_all := lw_g (lw_at lw_m13 224 rfl) rfl
theorem q3203 : (Jvm.Cond.privateMethod ({ cls := "ThreeBodiesModel", name := "py", desc := "(II)J" } : Jvm.MethodName)) ∈ lw_tbl := lw_at lw_m13 225 rfl
theorem q3204 : (Jvm.Cond.instanceMethod ({ cls := "ThreeBodiesModel", name := "py", desc := "(II)J" } : Jvm.MethodName)) ∈ lw_all := lw_g (lw_at lw_m13 226 rfl) rfl
theorem q3205 : (Jvm.Cond.code ({ cls := "ThreeBodiesModel", name := "py", desc := "(II)J" } : Jvm.MethodName) prog_25_method_88_code (3 : Nat) (Option.some Jvm.ClassFile.FieldType.long)) ∈ lw_all := lw_g (lw_at lw_m13 227 rfl) rfl
theorem q3206 : (Jvm.Cond.methodLink "ThreeBodiesModel" (367 : Nat) ({ cls := "ThreeBodiesModel", name := "gap", desc := "(JJ)J" } : Jvm.MethodName)) ∈ lw_all := lw_g (lw_at lw_m13 228 rfl) rfl
theorem q3207 : (Jvm.Cond.static ({ cls := "ThreeBodiesModel", name := "gap", desc := "(JJ)J" } : Jvm.MethodName)) ∈ lw_all := lw_g (lw_at lw_m13 229 rfl) rfl
theorem q3208 : (Jvm.Cond.code ({ cls := "ThreeBodiesModel", name := "gap", desc := "(JJ)J" } : Jvm.MethodName) prog_25_method_90_code (4 : Nat) (Option.some Jvm.ClassFile.FieldType.long)) ∈ lw_all := lw_g (lw_at lw_m13 230 rfl) rfl
theorem q3209 : (Jvm.Cond.methodLink "ThreeBodiesModel" (354 : Nat) ({ cls := "ThreeBodiesModel", name := "size", desc := "(J)J" } : Jvm.MethodName)) ∈ lw_all := lw_g (lw_at lw_m13 231 rfl) rfl
theorem q3210 : (Jvm.Cond.static ({ cls := "ThreeBodiesModel", name := "size", desc := "(J)J" } : Jvm.MethodName)) ∈ lw_all := lw_g (lw_at lw_m13 232 rfl) rfl
theorem q3211 : (Jvm.Cond.code ({ cls := "ThreeBodiesModel", name := "size", desc := "(J)J" } : Jvm.MethodName) prog_25_method_5_code (2 : Nat) (Option.some Jvm.ClassFile.FieldType.long)) ∈ lw_all := lw_g (lw_at lw_m13 233 rfl) rfl
theorem q3212 : (Jvm.Cond.methodLink "ThreeBodiesModel" (357 : Nat) ({ cls := "ThreeBodiesModel", name := "greater", desc := "(JJ)J" } : Jvm.MethodName)) ∈ lw_all := lw_g (lw_at lw_m13 234 rfl) rfl
theorem q3213 : (Jvm.Cond.static ({ cls := "ThreeBodiesModel", name := "greater", desc := "(JJ)J" } : Jvm.MethodName)) ∈ lw_all := lw_g (lw_at lw_m13 235 rfl) rfl
theorem q3214 : (Jvm.Cond.code ({ cls := "ThreeBodiesModel", name := "greater", desc := "(JJ)J" } : Jvm.MethodName) prog_25_method_89_code (4 : Nat) (Option.some Jvm.ClassFile.FieldType.long)) ∈ lw_all := lw_g (lw_at lw_m13 236 rfl) rfl
theorem q3215 : (Jvm.Cond.methodLink "ThreeBodiesModel" (374 : Nat) ({ cls := "ThreeBodiesModel", name := "centreError", desc := "(I)J" } : Jvm.MethodName)) ∈ lw_all := lw_g (lw_at lw_m13 237 rfl) rfl
theorem q3216 : (Jvm.Cond.privateMethod ({ cls := "ThreeBodiesModel", name := "centreError", desc := "(I)J" } : Jvm.MethodName)) ∈ lw_tbl := lw_at lw_m13 238 rfl
theorem q3217 : (Jvm.Cond.instanceMethod ({ cls := "ThreeBodiesModel", name := "centreError", desc := "(I)J" } : Jvm.MethodName)) ∈ lw_all := lw_g (lw_at lw_m13 239 rfl) rfl
theorem q3218 : (Jvm.Cond.code ({ cls := "ThreeBodiesModel", name := "centreError", desc := "(I)J" } : Jvm.MethodName) prog_25_method_92_code (7 : Nat) (Option.some Jvm.ClassFile.FieldType.long)) ∈ lw_all := lw_g (lw_at lw_m14 0 rfl) rfl
theorem q3219 : (Jvm.Cond.methodLink "ThreeBodiesModel" (377 : Nat) ({ cls := "ThreeBodiesModel", name := "returnError", desc := "(I)J" } : Jvm.MethodName)) ∈ lw_all := lw_g (lw_at lw_m14 1 rfl) rfl
theorem q3220 : (Jvm.Cond.privateMethod ({ cls := "ThreeBodiesModel", name := "returnError", desc := "(I)J" } : Jvm.MethodName)) ∈ lw_tbl := lw_at lw_m14 2 rfl
theorem q3221 : (Jvm.Cond.instanceMethod ({ cls := "ThreeBodiesModel", name := "returnError", desc := "(I)J" } : Jvm.MethodName)) ∈ lw_all := lw_g (lw_at lw_m14 3 rfl) rfl
theorem q3222 : (Jvm.Cond.code ({ cls := "ThreeBodiesModel", name := "returnError", desc := "(I)J" } : Jvm.MethodName) prog_25_method_93_code (5 : Nat) (Option.some Jvm.ClassFile.FieldType.long)) ∈ lw_all := lw_g (lw_at lw_m14 4 rfl) rfl
theorem q3223 : (Jvm.Cond.methodLink "ThreeBodiesModel" (380 : Nat) ({ cls := "ThreeBodiesModel", name := "mirrorError", desc := "(I)J" } : Jvm.MethodName)) ∈ lw_all := lw_g (lw_at lw_m14 5 rfl) rfl
theorem q3224 : (Jvm.Cond.privateMethod ({ cls := "ThreeBodiesModel", name := "mirrorError", desc := "(I)J" } : Jvm.MethodName)) ∈ lw_tbl := lw_at lw_m14 6 rfl
theorem q3225 : (Jvm.Cond.instanceMethod ({ cls := "ThreeBodiesModel", name := "mirrorError", desc := "(I)J" } : Jvm.MethodName)) ∈ lw_all := lw_g (lw_at lw_m14 7 rfl) rfl
theorem q3226 : (Jvm.Cond.code ({ cls := "ThreeBodiesModel", name := "mirrorError", desc := "(I)J" } : Jvm.MethodName) prog_25_method_94_code (7 : Nat) (Option.some Jvm.ClassFile.FieldType.long)) ∈ lw_all := lw_g (lw_at lw_m14 8 rfl) rfl
theorem q3227 : (Jvm.Cond.constantLong "ThreeBodiesModel" (390 : Nat) (4611686018427387904 : Int64)) ∈ lw_all := lw_g (lw_at lw_m14 9 rfl) rfl
theorem q3229 : (Jvm.Cond.instanceMethod ({ cls := "ThreeBodiesModel", name := "bestPeriod", desc := "(II)I" } : Jvm.MethodName)) ∈ lw_all := lw_g (lw_at lw_m14 11 rfl) rfl
theorem q3230 : (Jvm.Cond.selects "ThreeBodiesModel" ({ cls := "ThreeBodiesModel", name := "bestPeriod", desc := "(II)I" } : Jvm.MethodName) ({ cls := "ThreeBodiesModel", name := "bestPeriod", desc := "(II)I" } : Jvm.MethodName)) ∈ lw_all := lw_g (lw_at lw_m14 12 rfl) rfl
theorem q3231 : (Jvm.Cond.code ({ cls := "ThreeBodiesModel", name := "bestPeriod", desc := "(II)I" } : Jvm.MethodName) prog_25_method_100_code (10 : Nat) (Option.some Jvm.ClassFile.FieldType.int)) ∈ lw_all := lw_g (lw_at lw_m14 13 rfl) rfl
theorem q3233 : (Jvm.Cond.instanceMethod ({ cls := "ThreeBodiesModel", name := "refine", desc := "(IIII)I" } : Jvm.MethodName)) ∈ lw_all := lw_g (lw_at lw_m14 15 rfl) rfl
theorem q3234 : (Jvm.Cond.selects "ThreeBodiesModel" ({ cls := "ThreeBodiesModel", name := "refine", desc := "(IIII)I" } : Jvm.MethodName) ({ cls := "ThreeBodiesModel", name := "refine", desc := "(IIII)I" } : Jvm.MethodName)) ∈ lw_all := lw_g (lw_at lw_m14 16 rfl) rfl
theorem q3235 : (Jvm.Cond.code ({ cls := "ThreeBodiesModel", name := "refine", desc := "(IIII)I" } : Jvm.MethodName) prog_25_method_103_code (8 : Nat) (Option.some Jvm.ClassFile.FieldType.int)) ∈ lw_all := lw_g (lw_at lw_m14 17 rfl) rfl
theorem q3236 : (Jvm.Cond.constantLong "ThreeBodiesModel" (413 : Nat) (20 : Int64)) ∈ lw_all := lw_g (lw_at lw_m14 18 rfl) rfl
theorem q3237 : (Jvm.Cond.methodLink "ThreeBodiesModel" (415 : Nat) ({ cls := "ThreeBodiesModel", name := "round", desc := "(IIJ)J" } : Jvm.MethodName)) ∈ lw_all := lw_g (lw_at lw_m14 19 rfl) rfl
theorem q3238 : (Jvm.Cond.privateMethod ({ cls := "ThreeBodiesModel", name := "round", desc := "(IIJ)J" } : Jvm.MethodName)) ∈ lw_tbl := lw_at lw_m14 20 rfl
theorem q3239 : (Jvm.Cond.instanceMethod ({ cls := "ThreeBodiesModel", name := "round", desc := "(IIJ)J" } : Jvm.MethodName)) ∈ lw_all := lw_g (lw_at lw_m14 21 rfl) rfl
theorem q3240 : (Jvm.Cond.code ({ cls := "ThreeBodiesModel", name := "round", desc := "(IIJ)J" } : Jvm.MethodName) prog_25_method_102_code (11 : Nat) (Option.some Jvm.ClassFile.FieldType.long)) ∈ lw_all := lw_g (lw_at lw_m14 22 rfl) rfl
theorem q3241 : (Jvm.Cond.methodLink "ThreeBodiesModel" (409 : Nat) ({ cls := "ThreeBodiesModel", name := "changes", desc := "(IJ)Z" } : Jvm.MethodName)) ∈ lw_all := lw_g (lw_at lw_m14 23 rfl) rfl
theorem q3242 : (Jvm.Cond.privateMethod ({ cls := "ThreeBodiesModel", name := "changes", desc := "(IJ)Z" } : Jvm.MethodName)) ∈ lw_tbl := lw_at lw_m14 24 rfl
theorem q3243 : (Jvm.Cond.instanceMethod ({ cls := "ThreeBodiesModel", name := "changes", desc := "(IJ)Z" } : Jvm.MethodName)) ∈ lw_all := lw_g (lw_at lw_m14 25 rfl) rfl
theorem q3244 : (Jvm.Cond.code ({ cls := "ThreeBodiesModel", name := "changes", desc := "(IJ)Z" } : Jvm.MethodName) prog_25_method_101_code (7 : Nat) (Option.some Jvm.ClassFile.FieldType.boolean)) ∈ lw_all := lw_g (lw_at lw_m14 26 rfl) rfl
theorem q3246 : (Jvm.Cond.instanceMethod ({ cls := "ThreeBodiesModel", name := "possible", desc := "(I)I" } : Jvm.MethodName)) ∈ lw_all := lw_g (lw_at lw_m14 28 rfl) rfl
theorem q3247 : (Jvm.Cond.selects "ThreeBodiesModel" ({ cls := "ThreeBodiesModel", name := "possible", desc := "(I)I" } : Jvm.MethodName) ({ cls := "ThreeBodiesModel", name := "possible", desc := "(I)I" } : Jvm.MethodName)) ∈ lw_all := lw_g (lw_at lw_m14 29 rfl) rfl
theorem q3248 : (Jvm.Cond.code ({ cls := "ThreeBodiesModel", name := "possible", desc := "(I)I" } : Jvm.MethodName) prog_25_method_104_code (3 : Nat) (Option.some Jvm.ClassFile.FieldType.int)) ∈ lw_all := lw_g (lw_at lw_m14 30 rfl) rfl
theorem q3250 : (Jvm.Cond.instanceMethod ({ cls := "ThreeBodiesModel", name := "recurs", desc := "(ZI)I" } : Jvm.MethodName)) ∈ lw_all := lw_g (lw_at lw_m14 32 rfl) rfl
theorem q3251 : (Jvm.Cond.selects "ThreeBodiesModel" ({ cls := "ThreeBodiesModel", name := "recurs", desc := "(ZI)I" } : Jvm.MethodName) ({ cls := "ThreeBodiesModel", name := "recurs", desc := "(ZI)I" } : Jvm.MethodName)) ∈ lw_all := lw_g (lw_at lw_m14 33 rfl) rfl
theorem q3252 : (Jvm.Cond.code ({ cls := "ThreeBodiesModel", name := "recurs", desc := "(ZI)I" } : Jvm.MethodName) prog_25_method_107_code (4 : Nat) (Option.some Jvm.ClassFile.FieldType.int)) ∈ lw_all := lw_g (lw_at lw_m14 34 rfl) rfl
theorem q3253 : (Jvm.Cond.methodLink "ThreeBodiesModel" (423 : Nat) ({ cls := "ThreeBodiesModel", name := "isBack", desc := "(Z)Z" } : Jvm.MethodName)) ∈ lw_all := lw_g (lw_at lw_m14 35 rfl) rfl
theorem q3254 : (Jvm.Cond.privateMethod ({ cls := "ThreeBodiesModel", name := "isBack", desc := "(Z)Z" } : Jvm.MethodName)) ∈ lw_tbl := lw_at lw_m14 36 rfl
theorem q3255 : (Jvm.Cond.instanceMethod ({ cls := "ThreeBodiesModel", name := "isBack", desc := "(Z)Z" } : Jvm.MethodName)) ∈ lw_all := lw_g (lw_at lw_m14 37 rfl) rfl
theorem q3256 : (Jvm.Cond.code ({ cls := "ThreeBodiesModel", name := "isBack", desc := "(Z)Z" } : Jvm.MethodName) prog_25_method_106_code (5 : Nat) (Option.some Jvm.ClassFile.FieldType.boolean)) ∈ lw_all := lw_g (lw_at lw_m14 38 rfl) rfl
theorem q3257 : (Jvm.Cond.methodLink "ThreeBodiesModel" (419 : Nat) ({ cls := "ThreeBodiesModel", name := "isLike", desc := "([JI[JI)Z" } : Jvm.MethodName)) ∈ lw_all := lw_g (lw_at lw_m14 39 rfl) rfl
theorem q3258 : (Jvm.Cond.static ({ cls := "ThreeBodiesModel", name := "isLike", desc := "([JI[JI)Z" } : Jvm.MethodName)) ∈ lw_all := lw_g (lw_at lw_m14 40 rfl) rfl
theorem q3259 : (Jvm.Cond.code ({ cls := "ThreeBodiesModel", name := "isLike", desc := "([JI[JI)Z" } : Jvm.MethodName) prog_25_method_105_code (5 : Nat) (Option.some Jvm.ClassFile.FieldType.boolean)) ∈ lw_all := lw_g (lw_at lw_m14 41 rfl) rfl
theorem q3261 : (Jvm.Cond.instanceMethod ({ cls := "ThreeBodiesModel", name := "cellCount", desc := "(III)I" } : Jvm.MethodName)) ∈ lw_all := lw_g (lw_at lw_m14 43 rfl) rfl
theorem q3262 : (Jvm.Cond.selects "ThreeBodiesModel" ({ cls := "ThreeBodiesModel", name := "cellCount", desc := "(III)I" } : Jvm.MethodName) ({ cls := "ThreeBodiesModel", name := "cellCount", desc := "(III)I" } : Jvm.MethodName)) ∈ lw_all := lw_g (lw_at lw_m14 44 rfl) rfl
theorem q3263 : (Jvm.Cond.code ({ cls := "ThreeBodiesModel", name := "cellCount", desc := "(III)I" } : Jvm.MethodName) prog_25_method_109_code (4 : Nat) (Option.some Jvm.ClassFile.FieldType.int)) ∈ lw_all := lw_g (lw_at lw_m14 45 rfl) rfl
theorem q3264 : (Jvm.Cond.methodLink "ThreeBodiesModel" (430 : Nat) ({ cls := "ThreeBodiesModel", name := "laysCells", desc := "(III)Z" } : Jvm.MethodName)) ∈ lw_all := lw_g (lw_at lw_m14 46 rfl) rfl
theorem q3265 : (Jvm.Cond.privateMethod ({ cls := "ThreeBodiesModel", name := "laysCells", desc := "(III)Z" } : Jvm.MethodName)) ∈ lw_tbl := lw_at lw_m14 47 rfl
theorem q3266 : (Jvm.Cond.instanceMethod ({ cls := "ThreeBodiesModel", name := "laysCells", desc := "(III)Z" } : Jvm.MethodName)) ∈ lw_all := lw_g (lw_at lw_m14 48 rfl) rfl
theorem q3267 : (Jvm.Cond.code ({ cls := "ThreeBodiesModel", name := "laysCells", desc := "(III)Z" } : Jvm.MethodName) prog_25_method_108_code (10 : Nat) (Option.some Jvm.ClassFile.FieldType.boolean)) ∈ lw_all := lw_g (lw_at lw_m14 49 rfl) rfl
theorem q3269 : (Jvm.Cond.instanceMethod ({ cls := "ThreeBodiesModel", name := "cell", desc := "(IIIII)I" } : Jvm.MethodName)) ∈ lw_all := lw_g (lw_at lw_m14 51 rfl) rfl
theorem q3270 : (Jvm.Cond.selects "ThreeBodiesModel" ({ cls := "ThreeBodiesModel", name := "cell", desc := "(IIIII)I" } : Jvm.MethodName) ({ cls := "ThreeBodiesModel", name := "cell", desc := "(IIIII)I" } : Jvm.MethodName)) ∈ lw_all := lw_g (lw_at lw_m14 52 rfl) rfl
theorem q3271 : (Jvm.Cond.code ({ cls := "ThreeBodiesModel", name := "cell", desc := "(IIIII)I" } : Jvm.MethodName) prog_25_method_110_code (6 : Nat) (Option.some Jvm.ClassFile.FieldType.int)) ∈ lw_all := lw_g (lw_at lw_m14 53 rfl) rfl
theorem q3272 : (Jvm.Cond.constant "ThreeBodiesModel" (434 : Nat) (-1000000000 : Int32)) ∈ lw_all := lw_g (lw_at lw_m14 54 rfl) rfl
theorem q3274 : (Jvm.Cond.instanceMethod ({ cls := "ThreeBodiesModel", name := "virial", desc := "()D" } : Jvm.MethodName)) ∈ lw_all := lw_g (lw_at lw_m14 56 rfl) rfl
theorem q3275 : (Jvm.Cond.selects "ThreeBodiesModel" ({ cls := "ThreeBodiesModel", name := "virial", desc := "()D" } : Jvm.MethodName) ({ cls := "ThreeBodiesModel", name := "virial", desc := "()D" } : Jvm.MethodName)) ∈ lw_all := lw_g (lw_at lw_m14 57 rfl) rfl
theorem q3276 : (Jvm.Cond.code ({ cls := "ThreeBodiesModel", name := "virial", desc := "()D" } : Jvm.MethodName) prog_25_method_111_code (3 : Nat) (Option.some Jvm.ClassFile.FieldType.double)) ∈ lw_all := lw_g (lw_at lw_m14 58 rfl) rfl
theorem q3278 : (Jvm.Cond.instanceMethod ({ cls := "ThreeBodiesModel", name := "meanDistance", desc := "()F" } : Jvm.MethodName)) ∈ lw_all := lw_g (lw_at lw_m14 60 rfl) rfl
theorem q3279 : (Jvm.Cond.selects "ThreeBodiesModel" ({ cls := "ThreeBodiesModel", name := "meanDistance", desc := "()F" } : Jvm.MethodName) ({ cls := "ThreeBodiesModel", name := "meanDistance", desc := "()F" } : Jvm.MethodName)) ∈ lw_all := lw_g (lw_at lw_m14 61 rfl) rfl
theorem q3280 : (Jvm.Cond.code ({ cls := "ThreeBodiesModel", name := "meanDistance", desc := "()F" } : Jvm.MethodName) prog_25_method_112_code (3 : Nat) (Option.some Jvm.ClassFile.FieldType.float)) ∈ lw_all := lw_g (lw_at lw_m14 62 rfl) rfl
theorem q3281 : (Jvm.Cond.constantFloat "ThreeBodiesModel" (435 : Nat) (1077936128 : UInt32)) ∈ lw_all := lw_g (lw_at lw_m14 63 rfl) rfl
theorem q3283 : (Jvm.Cond.instanceMethod ({ cls := "ThreeBodiesModel", name := "format", desc := "(I)I" } : Jvm.MethodName)) ∈ lw_all := lw_g (lw_at lw_m14 65 rfl) rfl
theorem q3284 : (Jvm.Cond.selects "ThreeBodiesModel" ({ cls := "ThreeBodiesModel", name := "format", desc := "(I)I" } : Jvm.MethodName) ({ cls := "ThreeBodiesModel", name := "format", desc := "(I)I" } : Jvm.MethodName)) ∈ lw_all := lw_g (lw_at lw_m14 66 rfl) rfl
theorem q3285 : (Jvm.Cond.code ({ cls := "ThreeBodiesModel", name := "format", desc := "(I)I" } : Jvm.MethodName) prog_25_method_115_code (2 : Nat) (Option.some Jvm.ClassFile.FieldType.int)) ∈ lw_all := lw_g (lw_at lw_m14 67 rfl) rfl
theorem q3286 : (Jvm.Cond.methodLink "ThreeBodiesModel" (439 : Nat) ({ cls := "ThreeBodiesModel", name := "says", desc := "(I)V" } : Jvm.MethodName)) ∈ lw_all := lw_g (lw_at lw_m14 68 rfl) rfl
theorem q3287 : (Jvm.Cond.privateMethod ({ cls := "ThreeBodiesModel", name := "says", desc := "(I)V" } : Jvm.MethodName)) ∈ lw_tbl := lw_at lw_m14 69 rfl
theorem q3288 : (Jvm.Cond.instanceMethod ({ cls := "ThreeBodiesModel", name := "says", desc := "(I)V" } : Jvm.MethodName)) ∈ lw_all := lw_g (lw_at lw_m14 70 rfl) rfl
theorem q3289 : (Jvm.Cond.code ({ cls := "ThreeBodiesModel", name := "says", desc := "(I)V" } : Jvm.MethodName) prog_25_method_113_code (2 : Nat) (Option.none : Option Jvm.ClassFile.FieldType)) ∈ lw_all := lw_g (lw_at lw_m14 71 rfl) rfl
theorem q3290 : (Jvm.Cond.methodLink "ThreeBodiesModel" (444 : Nat) ({ cls := "ThreeBodiesModel", name := "saysNumber", desc := "(J)V" } : Jvm.MethodName)) ∈ lw_all := lw_g (lw_at lw_m14 72 rfl) rfl
theorem q3291 : (Jvm.Cond.privateMethod ({ cls := "ThreeBodiesModel", name := "saysNumber", desc := "(J)V" } : Jvm.MethodName)) ∈ lw_tbl := lw_at lw_m14 73 rfl
theorem q3292 : (Jvm.Cond.instanceMethod ({ cls := "ThreeBodiesModel", name := "saysNumber", desc := "(J)V" } : Jvm.MethodName)) ∈ lw_all := lw_g (lw_at lw_m14 74 rfl) rfl
theorem q3293 : (Jvm.Cond.code ({ cls := "ThreeBodiesModel", name := "saysNumber", desc := "(J)V" } : Jvm.MethodName) prog_25_method_114_code (7 : Nat) (Option.none : Option Jvm.ClassFile.FieldType)) ∈ lw_all := lw_g (lw_at lw_m14 75 rfl) rfl
theorem q3294 : (Jvm.Cond.constantLong "ThreeBodiesModel" (442 : Nat) (9 : Int64)) ∈ lw_all := lw_g (lw_at lw_m14 76 rfl) rfl
theorem q3296 : (Jvm.Cond.instanceMethod ({ cls := "ThreeBodiesModel", name := "formattedByte", desc := "(I)I" } : Jvm.MethodName)) ∈ lw_all := lw_g (lw_at lw_m14 78 rfl) rfl
theorem q3297 : (Jvm.Cond.selects "ThreeBodiesModel" ({ cls := "ThreeBodiesModel", name := "formattedByte", desc := "(I)I" } : Jvm.MethodName) ({ cls := "ThreeBodiesModel", name := "formattedByte", desc := "(I)I" } : Jvm.MethodName)) ∈ lw_all := lw_g (lw_at lw_m14 79 rfl) rfl
theorem q3298 : (Jvm.Cond.code ({ cls := "ThreeBodiesModel", name := "formattedByte", desc := "(I)I" } : Jvm.MethodName) prog_25_method_116_code (2 : Nat) (Option.some Jvm.ClassFile.FieldType.int)) ∈ lw_all := lw_g (lw_at lw_m14 80 rfl) rfl
theorem q3300 : (Jvm.Cond.instanceMethod ({ cls := "ThreeBodiesModel", name := "query", desc := "(I)I" } : Jvm.MethodName)) ∈ lw_all := lw_g (lw_at lw_m14 82 rfl) rfl
theorem q3301 : (Jvm.Cond.selects "ThreeBodiesModel" ({ cls := "ThreeBodiesModel", name := "query", desc := "(I)I" } : Jvm.MethodName) ({ cls := "ThreeBodiesModel", name := "query", desc := "(I)I" } : Jvm.MethodName)) ∈ lw_all := lw_g (lw_at lw_m14 83 rfl) rfl
theorem q3302 : (Jvm.Cond.code ({ cls := "ThreeBodiesModel", name := "query", desc := "(I)I" } : Jvm.MethodName) prog_25_method_129_code (5 : Nat) (Option.some Jvm.ClassFile.FieldType.int)) ∈ lw_all := lw_g (lw_at lw_m14 84 rfl) rfl
theorem q3303 : (Jvm.Cond.constantLong "ThreeBodiesModel" (506 : Nat) (200 : Int64)) ∈ lw_all := lw_g (lw_at lw_m14 85 rfl) rfl
theorem q3304 : (Jvm.Cond.constantLong "ThreeBodiesModel" (508 : Nat) (3379448 : Int64)) ∈ lw_all := lw_g (lw_at lw_m14 86 rfl) rfl
theorem q3305 : (Jvm.Cond.constantLong "ThreeBodiesModel" (510 : Nat) (257011 : Int64)) ∈ lw_all := lw_g (lw_at lw_m14 87 rfl) rfl
theorem q3306 : (Jvm.Cond.methodLink "ThreeBodiesModel" (512 : Nat) ({ cls := "ThreeBodiesModel", name := "reads", desc := "()V" } : Jvm.MethodName)) ∈ lw_all := lw_g (lw_at lw_m14 88 rfl) rfl
theorem q3307 : (Jvm.Cond.privateMethod ({ cls := "ThreeBodiesModel", name := "reads", desc := "()V" } : Jvm.MethodName)) ∈ lw_tbl := lw_at lw_m14 89 rfl
theorem q3308 : (Jvm.Cond.instanceMethod ({ cls := "ThreeBodiesModel", name := "reads", desc := "()V" } : Jvm.MethodName)) ∈ lw_all := lw_g (lw_at lw_m14 90 rfl) rfl
theorem q3309 : (Jvm.Cond.code ({ cls := "ThreeBodiesModel", name := "reads", desc := "()V" } : Jvm.MethodName) prog_25_method_126_code (3 : Nat) (Option.none : Option Jvm.ClassFile.FieldType)) ∈ lw_all := lw_g (lw_at lw_m14 91 rfl) rfl
theorem q3310 : (Jvm.Cond.methodLink "ThreeBodiesModel" (491 : Nat) ({ cls := "ThreeBodiesModel", name := "comparisonRead", desc := "()V" } : Jvm.MethodName)) ∈ lw_all := lw_g (lw_at lw_m14 92 rfl) rfl
theorem q3311 : (Jvm.Cond.privateMethod ({ cls := "ThreeBodiesModel", name := "comparisonRead", desc := "()V" } : Jvm.MethodName)) ∈ lw_tbl := lw_at lw_m14 93 rfl
theorem q3312 : (Jvm.Cond.instanceMethod ({ cls := "ThreeBodiesModel", name := "comparisonRead", desc := "()V" } : Jvm.MethodName)) ∈ lw_all := lw_g (lw_at lw_m14 94 rfl) rfl
theorem q3313 : (Jvm.Cond.code ({ cls := "ThreeBodiesModel", name := "comparisonRead", desc := "()V" } : Jvm.MethodName) prog_25_method_124_code (2 : Nat) (Option.none : Option Jvm.ClassFile.FieldType)) ∈ lw_all := lw_g (lw_at lw_m14 95 rfl) rfl
theorem q3314 : (Jvm.Cond.constantLong "ThreeBodiesModel" (477 : Nat) (10631 : Int64)) ∈ lw_all := lw_g (lw_at lw_m14 96 rfl) rfl
theorem q3315 : (Jvm.Cond.methodLink "ThreeBodiesModel" (479 : Nat) ({ cls := "ThreeBodiesModel", name := "goesIn", desc := "(I)Z" } : Jvm.MethodName)) ∈ lw_all := lw_g (lw_at lw_m14 97 rfl) rfl
theorem q3316 : (Jvm.Cond.privateMethod ({ cls := "ThreeBodiesModel", name := "goesIn", desc := "(I)Z" } : Jvm.MethodName)) ∈ lw_tbl := lw_at lw_m14 98 rfl
theorem q3317 : (Jvm.Cond.instanceMethod ({ cls := "ThreeBodiesModel", name := "goesIn", desc := "(I)Z" } : Jvm.MethodName)) ∈ lw_all := lw_g (lw_at lw_m14 99 rfl) rfl
theorem q3318 : (Jvm.Cond.code ({ cls := "ThreeBodiesModel", name := "goesIn", desc := "(I)Z" } : Jvm.MethodName) prog_25_method_120_code (2 : Nat) (Option.some Jvm.ClassFile.FieldType.boolean)) ∈ lw_all := lw_g (lw_at lw_m14 100 rfl) rfl
theorem q3319 : (Jvm.Cond.methodLink "ThreeBodiesModel" (482 : Nat) ({ cls := "ThreeBodiesModel", name := "valueRead", desc := "()V" } : Jvm.MethodName)) ∈ lw_all := lw_g (lw_at lw_m14 101 rfl) rfl
theorem q3320 : (Jvm.Cond.privateMethod ({ cls := "ThreeBodiesModel", name := "valueRead", desc := "()V" } : Jvm.MethodName)) ∈ lw_tbl := lw_at lw_m14 102 rfl
theorem q3321 : (Jvm.Cond.instanceMethod ({ cls := "ThreeBodiesModel", name := "valueRead", desc := "()V" } : Jvm.MethodName)) ∈ lw_all := lw_g (lw_at lw_m14 103 rfl) rfl
theorem q3322 : (Jvm.Cond.code ({ cls := "ThreeBodiesModel", name := "valueRead", desc := "()V" } : Jvm.MethodName) prog_25_method_119_code (2 : Nat) (Option.none : Option Jvm.ClassFile.FieldType)) ∈ lw_all := lw_g (lw_at lw_m14 104 rfl) rfl
theorem q3323 : (Jvm.Cond.constantLong "ThreeBodiesModel" (459 : Nat) (9999999 : Int64)) ∈ lw_all := lw_g (lw_at lw_m14 105 rfl) rfl
theorem q3324 : (Jvm.Cond.methodLink "ThreeBodiesModel" (461 : Nat) ({ cls := "ThreeBodiesModel", name := "adds", desc := "(I)V" } : Jvm.MethodName)) ∈ lw_all := lw_g (lw_at lw_m14 106 rfl) rfl
theorem q3325 : (Jvm.Cond.privateMethod ({ cls := "ThreeBodiesModel", name := "adds", desc := "(I)V" } : Jvm.MethodName)) ∈ lw_tbl := lw_at lw_m14 107 rfl
theorem q3326 : (Jvm.Cond.instanceMethod ({ cls := "ThreeBodiesModel", name := "adds", desc := "(I)V" } : Jvm.MethodName)) ∈ lw_all := lw_g (lw_at lw_m14 108 rfl) rfl
theorem q3327 : (Jvm.Cond.code ({ cls := "ThreeBodiesModel", name := "adds", desc := "(I)V" } : Jvm.MethodName) prog_25_method_117_code (2 : Nat) (Option.none : Option Jvm.ClassFile.FieldType)) ∈ lw_all := lw_g (lw_at lw_m14 109 rfl) rfl
theorem q3328 : (Jvm.Cond.methodLink "ThreeBodiesModel" (464 : Nat) ({ cls := "ThreeBodiesModel", name := "propertyHere", desc := "()I" } : Jvm.MethodName)) ∈ lw_all := lw_g (lw_at lw_m14 110 rfl) rfl
theorem q3329 : (Jvm.Cond.privateMethod ({ cls := "ThreeBodiesModel", name := "propertyHere", desc := "()I" } : Jvm.MethodName)) ∈ lw_tbl := lw_at lw_m14 111 rfl
theorem q3330 : (Jvm.Cond.instanceMethod ({ cls := "ThreeBodiesModel", name := "propertyHere", desc := "()I" } : Jvm.MethodName)) ∈ lw_all := lw_g (lw_at lw_m14 112 rfl) rfl
theorem q3331 : (Jvm.Cond.code ({ cls := "ThreeBodiesModel", name := "propertyHere", desc := "()I" } : Jvm.MethodName) prog_25_method_118_code (1 : Nat) (Option.some Jvm.ClassFile.FieldType.int)) ∈ lw_all := lw_g (lw_at lw_m14 113 rfl) rfl
theorem q3332 : (Jvm.Cond.constantLong "ThreeBodiesModel" (451 : Nat) (212302449 : Int64)) ∈ lw_all := lw_g (lw_at lw_m14 114 rfl) rfl
theorem q3333 : (Jvm.Cond.constantLong "ThreeBodiesModel" (453 : Nat) (1841546 : Int64)) ∈ lw_all := lw_g (lw_at lw_m14 115 rfl) rfl
theorem q3334 : (Jvm.Cond.constantLong "ThreeBodiesModel" (455 : Nat) (315918 : Int64)) ∈ lw_all := lw_g (lw_at lw_m14 116 rfl) rfl
theorem q3335 : (Jvm.Cond.constantLong "ThreeBodiesModel" (457 : Nat) (45611485241 : Int64)) ∈ lw_all := lw_g (lw_at lw_m14 117 rfl) rfl
theorem q3336 : (Jvm.Cond.methodLink "ThreeBodiesModel" (494 : Nat) ({ cls := "ThreeBodiesModel", name := "closes", desc := "()V" } : Jvm.MethodName)) ∈ lw_all := lw_g (lw_at lw_m14 118 rfl) rfl
theorem q3337 : (Jvm.Cond.privateMethod ({ cls := "ThreeBodiesModel", name := "closes", desc := "()V" } : Jvm.MethodName)) ∈ lw_tbl := lw_at lw_m14 119 rfl
theorem q3338 : (Jvm.Cond.instanceMethod ({ cls := "ThreeBodiesModel", name := "closes", desc := "()V" } : Jvm.MethodName)) ∈ lw_all := lw_g (lw_at lw_m14 120 rfl) rfl
theorem q3339 : (Jvm.Cond.code ({ cls := "ThreeBodiesModel", name := "closes", desc := "()V" } : Jvm.MethodName) prog_25_method_125_code (1 : Nat) (Option.none : Option Jvm.ClassFile.FieldType)) ∈ lw_all := lw_g (lw_at lw_m14 121 rfl) rfl
theorem q3340 : (Jvm.Cond.methodLink "ThreeBodiesModel" (485 : Nat) ({ cls := "ThreeBodiesModel", name := "settles", desc := "(I)V" } : Jvm.MethodName)) ∈ lw_all := lw_g (lw_at lw_m14 122 rfl) rfl
theorem q3341 : (Jvm.Cond.privateMethod ({ cls := "ThreeBodiesModel", name := "settles", desc := "(I)V" } : Jvm.MethodName)) ∈ lw_tbl := lw_at lw_m14 123 rfl
theorem q3342 : (Jvm.Cond.instanceMethod ({ cls := "ThreeBodiesModel", name := "settles", desc := "(I)V" } : Jvm.MethodName)) ∈ lw_all := lw_g (lw_at lw_m14 124 rfl) rfl
theorem q3343 : (Jvm.Cond.code ({ cls := "ThreeBodiesModel", name := "settles", desc := "(I)V" } : Jvm.MethodName) prog_25_method_122_code (2 : Nat) (Option.none : Option Jvm.ClassFile.FieldType)) ∈ lw_all := lw_g (lw_at lw_m14 125 rfl) rfl
theorem q3344 : (Jvm.Cond.methodLink "ThreeBodiesModel" (474 : Nat) ({ cls := "ThreeBodiesModel", name := "strength", desc := "(I)I" } : Jvm.MethodName)) ∈ lw_all := lw_g (lw_at lw_m14 126 rfl) rfl
theorem q3345 : (Jvm.Cond.static ({ cls := "ThreeBodiesModel", name := "strength", desc := "(I)I" } : Jvm.MethodName)) ∈ lw_all := lw_g (lw_at lw_m14 127 rfl) rfl
theorem q3346 : (Jvm.Cond.code ({ cls := "ThreeBodiesModel", name := "strength", desc := "(I)I" } : Jvm.MethodName) prog_25_method_121_code (1 : Nat) (Option.some Jvm.ClassFile.FieldType.int)) ∈ lw_all := lw_g (lw_at lw_m14 128 rfl) rfl
theorem q3347 : (Jvm.Cond.methodLink "ThreeBodiesModel" (488 : Nat) ({ cls := "ThreeBodiesModel", name := "isInside", desc := "()Z" } : Jvm.MethodName)) ∈ lw_all := lw_g (lw_at lw_m14 129 rfl) rfl
theorem q3348 : (Jvm.Cond.privateMethod ({ cls := "ThreeBodiesModel", name := "isInside", desc := "()Z" } : Jvm.MethodName)) ∈ lw_tbl := lw_at lw_m14 130 rfl
theorem q3349 : (Jvm.Cond.instanceMethod ({ cls := "ThreeBodiesModel", name := "isInside", desc := "()Z" } : Jvm.MethodName)) ∈ lw_all := lw_g (lw_at lw_m14 131 rfl) rfl
theorem q3350 : (Jvm.Cond.code ({ cls := "ThreeBodiesModel", name := "isInside", desc := "()Z" } : Jvm.MethodName) prog_25_method_123_code (2 : Nat) (Option.some Jvm.ClassFile.FieldType.boolean)) ∈ lw_all := lw_g (lw_at lw_m14 132 rfl) rfl
theorem q3351 : (Jvm.Cond.constantLong "ThreeBodiesModel" (497 : Nat) (1111 : Int64)) ∈ lw_all := lw_g (lw_at lw_m14 133 rfl) rfl
theorem q3352 : (Jvm.Cond.constantLong "ThreeBodiesModel" (499 : Nat) (423 : Int64)) ∈ lw_all := lw_g (lw_at lw_m14 134 rfl) rfl
theorem q3353 : (Jvm.Cond.methodLink "ThreeBodiesModel" (515 : Nat) ({ cls := "ThreeBodiesModel", name := "holds", desc := "(I)Z" } : Jvm.MethodName)) ∈ lw_all := lw_g (lw_at lw_m14 135 rfl) rfl
theorem q3354 : (Jvm.Cond.privateMethod ({ cls := "ThreeBodiesModel", name := "holds", desc := "(I)Z" } : Jvm.MethodName)) ∈ lw_tbl := lw_at lw_m14 136 rfl
theorem q3355 : (Jvm.Cond.instanceMethod ({ cls := "ThreeBodiesModel", name := "holds", desc := "(I)Z" } : Jvm.MethodName)) ∈ lw_all := lw_g (lw_at lw_m14 137 rfl) rfl
theorem q3356 : (Jvm.Cond.code ({ cls := "ThreeBodiesModel", name := "holds", desc := "(I)Z" } : Jvm.MethodName) prog_25_method_128_code (5 : Nat) (Option.some Jvm.ClassFile.FieldType.boolean)) ∈ lw_all := lw_g (lw_at lw_m14 138 rfl) rfl
theorem q3357 : (Jvm.Cond.constantLong "ThreeBodiesModel" (501 : Nat) (25 : Int64)) ∈ lw_all := lw_g (lw_at lw_m14 139 rfl) rfl
theorem q3358 : (Jvm.Cond.methodLink "ThreeBodiesModel" (503 : Nat) ({ cls := "ThreeBodiesModel", name := "joined", desc := "(III)Z" } : Jvm.MethodName)) ∈ lw_all := lw_g (lw_at lw_m14 140 rfl) rfl
theorem q3359 : (Jvm.Cond.static ({ cls := "ThreeBodiesModel", name := "joined", desc := "(III)Z" } : Jvm.MethodName)) ∈ lw_all := lw_g (lw_at lw_m14 141 rfl) rfl
theorem q3360 : (Jvm.Cond.code ({ cls := "ThreeBodiesModel", name := "joined", desc := "(III)Z" } : Jvm.MethodName) prog_25_method_127_code (3 : Nat) (Option.some Jvm.ClassFile.FieldType.boolean)) ∈ lw_all := lw_g (lw_at lw_m14 142 rfl) rfl
theorem q3396 : (Jvm.Cond.castable "ThreeBodiesModel" "java/lang/Object") ∈ lw_tbl := lw_at lw_m14 178 rfl
theorem in_X6 : ∀ w ∈ wsX60, w ∈ lw_all := lw_in wsX60 [2792, 2794, 2796, 2798, 2800, 2802, 2804, 2806, 2808, 2810, 2812, 2814, 2816, 2818, 2820, 2822, 2824, 2826, 2828, 2830, 2832, 2834, 2836, 2838, 2840, 2842, 2844, 2846, 2848, 2850, 2852, 2854, 2856, 2858, 2860, 2862, 2864, 2866, 2868] (by decide +kernel) (by decide +kernel)
theorem q1692 : (Jvm.Cond.interfaceMethod "ThreeBodies$Measure" "ThreeBodies$Measure" "error" "(LThreeBodies$Path;I)I") ∈ lw_tbl := lw_at lw_m7 154 rfl
set_option maxRecDepth 100000
theorem q1693 : (Jvm.Cond.declares ({ cls := "ThreeBodies$Measure", name := "error", desc := "(LThreeBodies$Path;I)I" } : Jvm.MethodName)) ∈ lw_tbl := lw_at lw_m7 155 rfl
theorem q3386 : (Jvm.Cond.castable "ThreeBodies$Measure" "java/lang/Object") ∈ lw_tbl := lw_at lw_m14 168 rfl
theorem q719 : (Jvm.Cond.interfaceMethod "ThreeBodies$Part" "ThreeBodies$Part" "make" "(LThreeBodies$Bodies;I)V") ∈ lw_tbl := lw_at lw_m3 141 rfl
set_option maxRecDepth 100000
theorem q720 : (Jvm.Cond.declares ({ cls := "ThreeBodies$Part", name := "make", desc := "(LThreeBodies$Bodies;I)V" } : Jvm.MethodName)) ∈ lw_tbl := lw_at lw_m3 142 rfl
theorem q3385 : (Jvm.Cond.castable "ThreeBodies$Part" "java/lang/Object") ∈ lw_tbl := lw_at lw_m14 167 rfl
theorem q2639 : (Jvm.Cond.interfaceMethod "ThreeBodies$Test" "ThreeBodies$Test" "holds" "(LThreeBodies$Approach;I)Z") ∈ lw_tbl := lw_at lw_m11 141 rfl
set_option maxRecDepth 100000
theorem q2640 : (Jvm.Cond.declares ({ cls := "ThreeBodies$Test", name := "holds", desc := "(LThreeBodies$Approach;I)Z" } : Jvm.MethodName)) ∈ lw_tbl := lw_at lw_m11 142 rfl
theorem q3388 : (Jvm.Cond.castable "ThreeBodies$Test" "java/lang/Object") ∈ lw_tbl := lw_at lw_m14 170 rfl
theorem q2684 : (Jvm.Cond.interfaceMethod "ThreeBodies$Value" "ThreeBodies$Value" "of" "(LThreeBodies$Approach;I)I") ∈ lw_tbl := lw_at lw_m11 186 rfl
set_option maxRecDepth 100000
theorem q2685 : (Jvm.Cond.declares ({ cls := "ThreeBodies$Value", name := "of", desc := "(LThreeBodies$Approach;I)I" } : Jvm.MethodName)) ∈ lw_tbl := lw_at lw_m11 187 rfl
theorem q1018 : (Jvm.Cond.sameMethod "[B" "java/lang/Object" "clone" "()Ljava/lang/Object;") ∈ lw_all := lw_g (lw_at lw_m4 200 rfl) rfl
set_option maxRecDepth 100000
theorem q1021 : (Jvm.Cond.selects "[B" ({ cls := "[B", name := "clone", desc := "()Ljava/lang/Object;" } : Jvm.MethodName) ({ cls := "java/lang/Object", name := "clone", desc := "()Ljava/lang/Object;" } : Jvm.MethodName)) ∈ lw_all := lw_g (lw_at lw_m4 203 rfl) rfl
theorem q1022 : (Jvm.Cond.castable "[B" "java/lang/Cloneable") ∈ lw_tbl := lw_at lw_m4 204 rfl
theorem q3427 : (Jvm.Cond.castable "[B" "java/lang/Object") ∈ lw_tbl := lw_at lw_m14 209 rfl
theorem q3428 : (Jvm.Cond.castable "[I" "java/lang/Object") ∈ lw_tbl := lw_at lw_m14 210 rfl
set_option maxRecDepth 100000
theorem q3429 : (Jvm.Cond.castable "[J" "java/lang/Object") ∈ lw_tbl := lw_at lw_m14 211 rfl
set_option maxRecDepth 100000
theorem q3433 : (Jvm.Cond.castable "[LThreeBodies$Measure;" "java/lang/Object") ∈ lw_tbl := lw_at lw_m14 215 rfl
set_option maxRecDepth 100000
theorem q3432 : (Jvm.Cond.castable "[LThreeBodies$Part;" "java/lang/Object") ∈ lw_tbl := lw_at lw_m14 214 rfl
set_option maxRecDepth 100000
theorem q3436 : (Jvm.Cond.castable "[LThreeBodies$Test;" "java/lang/Object") ∈ lw_tbl := lw_at lw_m14 218 rfl
set_option maxRecDepth 100000
theorem q3424 : (Jvm.Cond.sameMethod "[Ljava/lang/Object;" "java/lang/Object" "getClass" "()Ljava/lang/Class;") ∈ lw_all := lw_g (lw_at lw_m14 206 rfl) rfl
set_option maxRecDepth 100000
theorem q3425 : (Jvm.Cond.selects "[Ljava/lang/Object;" ({ cls := "java/lang/Object", name := "getClass", desc := "()Ljava/lang/Class;" } : Jvm.MethodName) ({ cls := "java/lang/Object", name := "getClass", desc := "()Ljava/lang/Class;" } : Jvm.MethodName)) ∈ lw_all := lw_g (lw_at lw_m14 207 rfl) rfl
theorem q3430 : (Jvm.Cond.castable "[Ljava/lang/Object;" "java/lang/Object") ∈ lw_tbl := lw_at lw_m14 212 rfl
theorem q3435 : (Jvm.Cond.castable "[Ljava/util/HashMap$Node;" "java/lang/Object") ∈ lw_tbl := lw_at lw_m14 217 rfl
set_option maxRecDepth 100000
theorem q3434 : (Jvm.Cond.castable "[[I" "java/lang/Object") ∈ lw_tbl := lw_at lw_m14 216 rfl
set_option maxRecDepth 100000
theorem q3431 : (Jvm.Cond.castable "[[LThreeBodies$Part;" "java/lang/Object") ∈ lw_tbl := lw_at lw_m14 213 rfl
set_option maxRecDepth 100000
theorem q1985 : (Jvm.Cond.interfaceMethod "java/lang/Comparable" "java/lang/Comparable" "compareTo" "(Ljava/lang/Object;)I") ∈ lw_tbl := lw_at lw_m8 207 rfl
set_option maxRecDepth 100000
theorem q1986 : (Jvm.Cond.declares ({ cls := "java/lang/Comparable", name := "compareTo", desc := "(Ljava/lang/Object;)I" } : Jvm.MethodName)) ∈ lw_tbl := lw_at lw_m8 208 rfl
theorem q123 : (Jvm.Cond.initialized "java/lang/Number") ∈ lw_all := lw_g (lw_at lw_m1 25 rfl) rfl
set_option maxRecDepth 100000
theorem q120 : (Jvm.Cond.initialized "java/lang/System") ∈ lw_all := lw_g (lw_at lw_m1 22 rfl) rfl
set_option maxRecDepth 100000
theorem q671 : (Jvm.Cond.static ({ cls := "java/lang/System", name := "arraycopy", desc := "(Ljava/lang/Object;ILjava/lang/Object;II)V" } : Jvm.MethodName)) ∈ lw_all := lw_g (lw_at lw_m3 93 rfl) rfl
theorem q672 : (Jvm.Cond.native ({ cls := "java/lang/System", name := "arraycopy", desc := "(Ljava/lang/Object;ILjava/lang/Object;II)V" } : Jvm.MethodName)) ∈ lw_all := lw_g (lw_at lw_m3 94 rfl) rfl
theorem q699 : (Jvm.Cond.interfaceMethod "java/util/Iterator" "java/util/Iterator" "hasNext" "()Z") ∈ lw_tbl := lw_at lw_m3 121 rfl
set_option maxRecDepth 100000
theorem q700 : (Jvm.Cond.declares ({ cls := "java/util/Iterator", name := "hasNext", desc := "()Z" } : Jvm.MethodName)) ∈ lw_tbl := lw_at lw_m3 122 rfl
theorem q739 : (Jvm.Cond.interfaceMethod "java/util/Iterator" "java/util/Iterator" "next" "()Ljava/lang/Object;") ∈ lw_tbl := lw_at lw_m3 161 rfl
theorem q740 : (Jvm.Cond.declares ({ cls := "java/util/Iterator", name := "next", desc := "()Ljava/lang/Object;" } : Jvm.MethodName)) ∈ lw_tbl := lw_at lw_m3 162 rfl
theorem q1825 : (Jvm.Cond.interfaceMethod "java/util/Map" "java/util/Map" "get" "(Ljava/lang/Object;)Ljava/lang/Object;") ∈ lw_tbl := lw_at lw_m8 47 rfl
set_option maxRecDepth 100000
theorem q1826 : (Jvm.Cond.declares ({ cls := "java/util/Map", name := "get", desc := "(Ljava/lang/Object;)Ljava/lang/Object;" } : Jvm.MethodName)) ∈ lw_tbl := lw_at lw_m8 48 rfl
theorem q2180 : (Jvm.Cond.interfaceMethod "java/util/Map" "java/util/Map" "put" "(Ljava/lang/Object;Ljava/lang/Object;)Ljava/lang/Object;") ∈ lw_tbl := lw_at lw_m9 162 rfl
theorem q2181 : (Jvm.Cond.declares ({ cls := "java/util/Map", name := "put", desc := "(Ljava/lang/Object;Ljava/lang/Object;)Ljava/lang/Object;" } : Jvm.MethodName)) ∈ lw_tbl := lw_at lw_m9 163 rfl
theorem q2370 : (Jvm.Cond.interfaceMethod "java/util/Map" "java/util/Map" "size" "()I") ∈ lw_tbl := lw_at lw_m10 112 rfl
theorem q2371 : (Jvm.Cond.declares ({ cls := "java/util/Map", name := "size", desc := "()I" } : Jvm.MethodName)) ∈ lw_tbl := lw_at lw_m10 113 rfl
theorem q2387 : (Jvm.Cond.interfaceMethod "java/util/Map" "java/util/Map" "entrySet" "()Ljava/util/Set;") ∈ lw_tbl := lw_at lw_m10 129 rfl
theorem q2388 : (Jvm.Cond.declares ({ cls := "java/util/Map", name := "entrySet", desc := "()Ljava/util/Set;" } : Jvm.MethodName)) ∈ lw_tbl := lw_at lw_m10 130 rfl
theorem q2453 : (Jvm.Cond.interfaceMethod "java/util/Map$Entry" "java/util/Map$Entry" "getKey" "()Ljava/lang/Object;") ∈ lw_tbl := lw_at lw_m10 195 rfl
set_option maxRecDepth 100000
theorem q2454 : (Jvm.Cond.declares ({ cls := "java/util/Map$Entry", name := "getKey", desc := "()Ljava/lang/Object;" } : Jvm.MethodName)) ∈ lw_tbl := lw_at lw_m10 196 rfl
theorem q2469 : (Jvm.Cond.interfaceMethod "java/util/Map$Entry" "java/util/Map$Entry" "getValue" "()Ljava/lang/Object;") ∈ lw_tbl := lw_at lw_m10 211 rfl
theorem q2470 : (Jvm.Cond.declares ({ cls := "java/util/Map$Entry", name := "getValue", desc := "()Ljava/lang/Object;" } : Jvm.MethodName)) ∈ lw_tbl := lw_at lw_m10 212 rfl
theorem q2417 : (Jvm.Cond.interfaceMethod "java/util/Set" "java/util/Set" "iterator" "()Ljava/util/Iterator;") ∈ lw_tbl := lw_at lw_m10 159 rfl
set_option maxRecDepth 100000
theorem q2418 : (Jvm.Cond.declares ({ cls := "java/util/Set", name := "iterator", desc := "()Ljava/util/Iterator;" } : Jvm.MethodName)) ∈ lw_tbl := lw_at lw_m10 160 rfl
theorem q1888 : (Jvm.Cond.interfaceMethod "jdk/internal/access/JavaLangAccess" "jdk/internal/access/JavaLangAccess" "getUTF16Char" "([BI)C") ∈ lw_tbl := lw_at lw_m8 110 rfl
set_option maxRecDepth 100000
theorem q1889 : (Jvm.Cond.declares ({ cls := "jdk/internal/access/JavaLangAccess", name := "getUTF16Char", desc := "([BI)C" } : Jvm.MethodName)) ∈ lw_tbl := lw_at lw_m8 111 rfl
theorem q140 : (Jvm.Cond.initialized "jdk/internal/misc/UnsafeConstants") ∈ lw_all := lw_g (lw_at lw_m1 42 rfl) rfl
set_option maxRecDepth 100000
theorem q2043 : (Jvm.Cond.laysStatic "jdk/internal/misc/UnsafeConstants" "BIG_ENDIAN" "Z") ∈ lw_tbl := lw_at lw_m9 25 rfl
theorem q224 : (Jvm.Cond.arrayClass Jvm.ClassFile.FieldType.byte) ∈ lw_all := lw_g (lw_at lw_m1 126 rfl) rfl
set_option maxRecDepth 100000
theorem q225 : (Jvm.Cond.arrayClass Jvm.ClassFile.FieldType.int) ∈ lw_all := lw_g (lw_at lw_m1 127 rfl) rfl
theorem q226 : (Jvm.Cond.arrayClass Jvm.ClassFile.FieldType.long) ∈ lw_all := lw_g (lw_at lw_m1 128 rfl) rfl
theorem q237 : (Jvm.Cond.arrayOver (Jvm.ClassFile.FieldType.object "java/lang/Object")) ∈ lw_tbl := lw_at lw_m1 139 rfl
theorem q427 : (Jvm.Cond.arrayOver (Jvm.ClassFile.FieldType.array (Jvm.ClassFile.FieldType.object "ThreeBodies$Part"))) ∈ lw_tbl := lw_at lw_m2 89 rfl
theorem q428 : (Jvm.Cond.arrayOver (Jvm.ClassFile.FieldType.object "ThreeBodies$Part")) ∈ lw_tbl := lw_at lw_m2 90 rfl
theorem q437 : (Jvm.Cond.arrayOver (Jvm.ClassFile.FieldType.object "ThreeBodies$Measure")) ∈ lw_tbl := lw_at lw_m2 99 rfl
theorem q508 : (Jvm.Cond.arrayOver (Jvm.ClassFile.FieldType.array Jvm.ClassFile.FieldType.int)) ∈ lw_tbl := lw_at lw_m2 170 rfl
theorem q2201 : (Jvm.Cond.arrayOver (Jvm.ClassFile.FieldType.object "java/util/HashMap$Node")) ∈ lw_tbl := lw_at lw_m9 183 rfl
theorem q2596 : (Jvm.Cond.arrayOver (Jvm.ClassFile.FieldType.object "ThreeBodies$Test")) ∈ lw_tbl := lw_at lw_m11 98 rfl
theorem q3437 : (Jvm.Cond.arrayClass Jvm.ClassFile.FieldType.char) ∈ lw_all := lw_g (lw_at lw_m14 219 rfl) rfl
theorem q3438 : (Jvm.Cond.arrayClass Jvm.ClassFile.FieldType.short) ∈ lw_all := lw_g (lw_at lw_m14 220 rfl) rfl
