/-! DECODE ROWS BY BYTES: one lemma an opcode; a method's code is cut into short pieces once, and a row reads its own piece alone. -/
set_option maxRecDepth 100000
/-- the code has just these bytes from pc on -/
def DkAt (code : ByteArray) (pc : Nat) (bs : List UInt8) : Prop := ∀ (j : Nat) (b : UInt8), bs[j]? = some b → code.data.toList[pc + j]? = some b
/-- the piece W has the bytes bs from its place j on -/
def dkIn (W : List UInt8) (j : Nat) (bs : List UInt8) : Bool := decide ((W.drop j).take bs.length = bs)
theorem dk_seg {l W T : List UInt8} {o o2 : Nat} (h : l.drop o = W ++ T) (n : Nat) (hn : W.length = n) (ho : o + n = o2) : l.drop o2 = T := by
  subst ho
  rw [← List.drop_drop, h, List.drop_left' hn]
theorem dk_at {code : ByteArray} {W T bs : List UInt8} {o pc : Nat} (h : code.data.toList.drop o = W ++ T) (j : Nat) (hp : o + j = pc) (hw : dkIn W j bs = true) : DkAt code pc bs := by
  subst hp
  intro i b e
  have h1 := of_decide_eq_true hw
  have h2 : i < bs.length := (List.getElem?_eq_some_iff.mp e).1
  have h3 : W[j + i]? = some b := by
    rw [← h1, List.getElem?_take, if_pos h2, List.getElem?_drop] at e
    exact e
  have h4 : j + i < W.length := (List.getElem?_eq_some_iff.mp h3).1
  have h5 : (code.data.toList.drop o)[j + i]? = some b := by
    rw [h, List.getElem?_append_left h4]
    exact h3
  rw [List.getElem?_drop, ← Nat.add_assoc] at h5
  exact h5
theorem dk_u1 {A : ByteArray} {p : Nat} {b : UInt8} (h : A.data.toList[p]? = some b) : (Reader.u1 : Reader DecodeError Nat) A p = .ok (b.toNat, p + 1) := by
  obtain ⟨h1, h2⟩ := List.getElem?_eq_some_iff.mp h
  have h3 : p < A.size := by simpa using h1
  have h4 : A[p]'h3 = b := h2
  have e : (Reader.u1 : Reader DecodeError Nat) A p = (if h : p < A.size then .ok (A[p].toNat, p + 1) else .error (HasTruncated.truncated p)) := by
    show (do if h : p < A.size then do set (p + 1); Pure.pure A[p].toNat else MonadExcept.throw (HasTruncated.truncated p) : Reader DecodeError Nat) A p = _
    by_cases hi : p < A.size
    · rw [dif_pos hi, dif_pos hi]; rfl
    · rw [dif_neg hi, dif_neg hi]; rfl
  rw [e, dif_pos h3, h4]
theorem dk_bind {α β : Type} {r : Reader DecodeError α} {f : α → Reader DecodeError β} {A : ByteArray} {p s : Nat} {a : α} (h : r A p = .ok (a, s)) : (r >>= f) A p = f a A s := by
  show (do let (a, s) ← r A p; f a A s : Except DecodeError (β × Nat)) = _
  rw [h]
  rfl
theorem dk_map {α β : Type} {r : Reader DecodeError α} {g : α → β} {A : ByteArray} {p s : Nat} {a : α} (h : r A p = .ok (a, s)) : (g <$> r) A p = .ok (g a, s) := by
  show (do let (a, s) ← r A p; .ok (g a, s) : Except DecodeError (β × Nat)) = _
  rw [h]
  rfl
theorem dk_u2 {A : ByteArray} {p : Nat} {a b : UInt8} (h : A.data.toList[p]? = some a) (h2 : A.data.toList[p + 1]? = some b) : (Reader.u2 : Reader DecodeError Nat) A p = .ok (a.toNat * 256 + b.toNat, p + 2) := by
  show (Reader.u1 >>= fun hi => Reader.u1 >>= fun lo => Pure.pure (hi * 256 + lo) : Reader DecodeError Nat) A p = _
  rw [dk_bind (dk_u1 h), dk_bind (dk_u1 h2)]
  rfl
theorem dk_of {code : ByteArray} {pc n : Nat} {i : Instr} (h : Decoder.instr pc code pc = .ok (i, pc + n)) : decode code pc = .ok (i, n) := by
  have e : decode code pc = (match Decoder.instr pc code pc with | .error x => .error x | .ok (j, s) => .ok (j, s - pc)) := by
    show (do let (j, s) ← Decoder.instr pc code pc; Pure.pure (j, s - pc) : Except DecodeError (Instr × Nat)) = _
    cases Decoder.instr pc code pc <;> rfl
  rw [e, h]
  show Except.ok (i, pc + n - pc) = _
  rw [Nat.add_sub_cancel_left]
theorem dk_1 {code : ByteArray} {pc : Nat} (h : DkAt code pc [1]) : decode code pc = .ok (.aconst_null, 1) := dk_of ((dk_bind (dk_u1 (h 0 _ rfl))).trans rfl)
theorem dk_2 {code : ByteArray} {pc : Nat} (h : DkAt code pc [2]) : decode code pc = .ok (.iconst (-1), 1) := dk_of ((dk_bind (dk_u1 (h 0 _ rfl))).trans rfl)
theorem dk_3 {code : ByteArray} {pc : Nat} (h : DkAt code pc [3]) : decode code pc = .ok (.iconst 0, 1) := dk_of ((dk_bind (dk_u1 (h 0 _ rfl))).trans rfl)
theorem dk_4 {code : ByteArray} {pc : Nat} (h : DkAt code pc [4]) : decode code pc = .ok (.iconst 1, 1) := dk_of ((dk_bind (dk_u1 (h 0 _ rfl))).trans rfl)
theorem dk_5 {code : ByteArray} {pc : Nat} (h : DkAt code pc [5]) : decode code pc = .ok (.iconst 2, 1) := dk_of ((dk_bind (dk_u1 (h 0 _ rfl))).trans rfl)
theorem dk_6 {code : ByteArray} {pc : Nat} (h : DkAt code pc [6]) : decode code pc = .ok (.iconst 3, 1) := dk_of ((dk_bind (dk_u1 (h 0 _ rfl))).trans rfl)
theorem dk_7 {code : ByteArray} {pc : Nat} (h : DkAt code pc [7]) : decode code pc = .ok (.iconst 4, 1) := dk_of ((dk_bind (dk_u1 (h 0 _ rfl))).trans rfl)
theorem dk_8 {code : ByteArray} {pc : Nat} (h : DkAt code pc [8]) : decode code pc = .ok (.iconst 5, 1) := dk_of ((dk_bind (dk_u1 (h 0 _ rfl))).trans rfl)
theorem dk_9 {code : ByteArray} {pc : Nat} (h : DkAt code pc [9]) : decode code pc = .ok (.lconst 0, 1) := dk_of ((dk_bind (dk_u1 (h 0 _ rfl))).trans rfl)
theorem dk_10 {code : ByteArray} {pc : Nat} (h : DkAt code pc [10]) : decode code pc = .ok (.lconst 1, 1) := dk_of ((dk_bind (dk_u1 (h 0 _ rfl))).trans rfl)
theorem dk_14 {code : ByteArray} {pc : Nat} (h : DkAt code pc [14]) : decode code pc = .ok (.dconst 0, 1) := dk_of ((dk_bind (dk_u1 (h 0 _ rfl))).trans rfl)
theorem dk_15 {code : ByteArray} {pc : Nat} (h : DkAt code pc [15]) : decode code pc = .ok (.dconst 1, 1) := dk_of ((dk_bind (dk_u1 (h 0 _ rfl))).trans rfl)
theorem dk_16 {code : ByteArray} {pc : Nat} (a : UInt8) (h : DkAt code pc [16, a]) : decode code pc = .ok (.bipush (Reader.signed 8 a.toNat), 2) := dk_of ((dk_bind (dk_u1 (h 0 _ rfl))).trans ((dk_bind (dk_map (dk_u1 (h 1 _ rfl)))).trans rfl))
theorem dk_17 {code : ByteArray} {pc : Nat} (a b : UInt8) (h : DkAt code pc [17, a, b]) : decode code pc = .ok (.sipush (Reader.signed 16 (a.toNat * 256 + b.toNat)), 3) := dk_of ((dk_bind (dk_u1 (h 0 _ rfl))).trans ((dk_bind (dk_map (dk_u2 (h 1 _ rfl) (h 2 _ rfl)))).trans rfl))
theorem dk_18 {code : ByteArray} {pc : Nat} (a : UInt8) (h : DkAt code pc [18, a]) : decode code pc = .ok (.ldc a.toNat, 2) := dk_of ((dk_bind (dk_u1 (h 0 _ rfl))).trans ((dk_bind (dk_u1 (h 1 _ rfl))).trans rfl))
theorem dk_19 {code : ByteArray} {pc : Nat} (a b : UInt8) (h : DkAt code pc [19, a, b]) : decode code pc = .ok (.ldc_w (a.toNat * 256 + b.toNat), 3) := dk_of ((dk_bind (dk_u1 (h 0 _ rfl))).trans ((dk_bind (dk_u2 (h 1 _ rfl) (h 2 _ rfl))).trans rfl))
theorem dk_20 {code : ByteArray} {pc : Nat} (a b : UInt8) (h : DkAt code pc [20, a, b]) : decode code pc = .ok (.ldc2_w (a.toNat * 256 + b.toNat), 3) := dk_of ((dk_bind (dk_u1 (h 0 _ rfl))).trans ((dk_bind (dk_u2 (h 1 _ rfl) (h 2 _ rfl))).trans rfl))
theorem dk_21 {code : ByteArray} {pc : Nat} (a : UInt8) (h : DkAt code pc [21, a]) : decode code pc = .ok (.iload a.toNat, 2) := dk_of ((dk_bind (dk_u1 (h 0 _ rfl))).trans ((dk_bind (dk_u1 (h 1 _ rfl))).trans rfl))
theorem dk_22 {code : ByteArray} {pc : Nat} (a : UInt8) (h : DkAt code pc [22, a]) : decode code pc = .ok (.lload a.toNat, 2) := dk_of ((dk_bind (dk_u1 (h 0 _ rfl))).trans ((dk_bind (dk_u1 (h 1 _ rfl))).trans rfl))
theorem dk_24 {code : ByteArray} {pc : Nat} (a : UInt8) (h : DkAt code pc [24, a]) : decode code pc = .ok (.dload a.toNat, 2) := dk_of ((dk_bind (dk_u1 (h 0 _ rfl))).trans ((dk_bind (dk_u1 (h 1 _ rfl))).trans rfl))
theorem dk_25 {code : ByteArray} {pc : Nat} (a : UInt8) (h : DkAt code pc [25, a]) : decode code pc = .ok (.aload a.toNat, 2) := dk_of ((dk_bind (dk_u1 (h 0 _ rfl))).trans ((dk_bind (dk_u1 (h 1 _ rfl))).trans rfl))
theorem dk_26 {code : ByteArray} {pc : Nat} (h : DkAt code pc [26]) : decode code pc = .ok (.iload_n 0, 1) := dk_of ((dk_bind (dk_u1 (h 0 _ rfl))).trans rfl)
theorem dk_27 {code : ByteArray} {pc : Nat} (h : DkAt code pc [27]) : decode code pc = .ok (.iload_n 1, 1) := dk_of ((dk_bind (dk_u1 (h 0 _ rfl))).trans rfl)
theorem dk_28 {code : ByteArray} {pc : Nat} (h : DkAt code pc [28]) : decode code pc = .ok (.iload_n 2, 1) := dk_of ((dk_bind (dk_u1 (h 0 _ rfl))).trans rfl)
theorem dk_29 {code : ByteArray} {pc : Nat} (h : DkAt code pc [29]) : decode code pc = .ok (.iload_n 3, 1) := dk_of ((dk_bind (dk_u1 (h 0 _ rfl))).trans rfl)
theorem dk_30 {code : ByteArray} {pc : Nat} (h : DkAt code pc [30]) : decode code pc = .ok (.lload_n 0, 1) := dk_of ((dk_bind (dk_u1 (h 0 _ rfl))).trans rfl)
theorem dk_31 {code : ByteArray} {pc : Nat} (h : DkAt code pc [31]) : decode code pc = .ok (.lload_n 1, 1) := dk_of ((dk_bind (dk_u1 (h 0 _ rfl))).trans rfl)
theorem dk_32 {code : ByteArray} {pc : Nat} (h : DkAt code pc [32]) : decode code pc = .ok (.lload_n 2, 1) := dk_of ((dk_bind (dk_u1 (h 0 _ rfl))).trans rfl)
theorem dk_33 {code : ByteArray} {pc : Nat} (h : DkAt code pc [33]) : decode code pc = .ok (.lload_n 3, 1) := dk_of ((dk_bind (dk_u1 (h 0 _ rfl))).trans rfl)
theorem dk_38 {code : ByteArray} {pc : Nat} (h : DkAt code pc [38]) : decode code pc = .ok (.dload_n 0, 1) := dk_of ((dk_bind (dk_u1 (h 0 _ rfl))).trans rfl)
theorem dk_39 {code : ByteArray} {pc : Nat} (h : DkAt code pc [39]) : decode code pc = .ok (.dload_n 1, 1) := dk_of ((dk_bind (dk_u1 (h 0 _ rfl))).trans rfl)
theorem dk_40 {code : ByteArray} {pc : Nat} (h : DkAt code pc [40]) : decode code pc = .ok (.dload_n 2, 1) := dk_of ((dk_bind (dk_u1 (h 0 _ rfl))).trans rfl)
theorem dk_41 {code : ByteArray} {pc : Nat} (h : DkAt code pc [41]) : decode code pc = .ok (.dload_n 3, 1) := dk_of ((dk_bind (dk_u1 (h 0 _ rfl))).trans rfl)
theorem dk_42 {code : ByteArray} {pc : Nat} (h : DkAt code pc [42]) : decode code pc = .ok (.aload_n 0, 1) := dk_of ((dk_bind (dk_u1 (h 0 _ rfl))).trans rfl)
theorem dk_43 {code : ByteArray} {pc : Nat} (h : DkAt code pc [43]) : decode code pc = .ok (.aload_n 1, 1) := dk_of ((dk_bind (dk_u1 (h 0 _ rfl))).trans rfl)
theorem dk_44 {code : ByteArray} {pc : Nat} (h : DkAt code pc [44]) : decode code pc = .ok (.aload_n 2, 1) := dk_of ((dk_bind (dk_u1 (h 0 _ rfl))).trans rfl)
theorem dk_45 {code : ByteArray} {pc : Nat} (h : DkAt code pc [45]) : decode code pc = .ok (.aload_n 3, 1) := dk_of ((dk_bind (dk_u1 (h 0 _ rfl))).trans rfl)
theorem dk_46 {code : ByteArray} {pc : Nat} (h : DkAt code pc [46]) : decode code pc = .ok (.iaload, 1) := dk_of ((dk_bind (dk_u1 (h 0 _ rfl))).trans rfl)
theorem dk_50 {code : ByteArray} {pc : Nat} (h : DkAt code pc [50]) : decode code pc = .ok (.aaload, 1) := dk_of ((dk_bind (dk_u1 (h 0 _ rfl))).trans rfl)
theorem dk_51 {code : ByteArray} {pc : Nat} (h : DkAt code pc [51]) : decode code pc = .ok (.baload, 1) := dk_of ((dk_bind (dk_u1 (h 0 _ rfl))).trans rfl)
theorem dk_54 {code : ByteArray} {pc : Nat} (a : UInt8) (h : DkAt code pc [54, a]) : decode code pc = .ok (.istore a.toNat, 2) := dk_of ((dk_bind (dk_u1 (h 0 _ rfl))).trans ((dk_bind (dk_u1 (h 1 _ rfl))).trans rfl))
theorem dk_55 {code : ByteArray} {pc : Nat} (a : UInt8) (h : DkAt code pc [55, a]) : decode code pc = .ok (.lstore a.toNat, 2) := dk_of ((dk_bind (dk_u1 (h 0 _ rfl))).trans ((dk_bind (dk_u1 (h 1 _ rfl))).trans rfl))
theorem dk_57 {code : ByteArray} {pc : Nat} (a : UInt8) (h : DkAt code pc [57, a]) : decode code pc = .ok (.dstore a.toNat, 2) := dk_of ((dk_bind (dk_u1 (h 0 _ rfl))).trans ((dk_bind (dk_u1 (h 1 _ rfl))).trans rfl))
theorem dk_58 {code : ByteArray} {pc : Nat} (a : UInt8) (h : DkAt code pc [58, a]) : decode code pc = .ok (.astore a.toNat, 2) := dk_of ((dk_bind (dk_u1 (h 0 _ rfl))).trans ((dk_bind (dk_u1 (h 1 _ rfl))).trans rfl))
theorem dk_59 {code : ByteArray} {pc : Nat} (h : DkAt code pc [59]) : decode code pc = .ok (.istore_n 0, 1) := dk_of ((dk_bind (dk_u1 (h 0 _ rfl))).trans rfl)
theorem dk_60 {code : ByteArray} {pc : Nat} (h : DkAt code pc [60]) : decode code pc = .ok (.istore_n 1, 1) := dk_of ((dk_bind (dk_u1 (h 0 _ rfl))).trans rfl)
theorem dk_61 {code : ByteArray} {pc : Nat} (h : DkAt code pc [61]) : decode code pc = .ok (.istore_n 2, 1) := dk_of ((dk_bind (dk_u1 (h 0 _ rfl))).trans rfl)
theorem dk_62 {code : ByteArray} {pc : Nat} (h : DkAt code pc [62]) : decode code pc = .ok (.istore_n 3, 1) := dk_of ((dk_bind (dk_u1 (h 0 _ rfl))).trans rfl)
theorem dk_64 {code : ByteArray} {pc : Nat} (h : DkAt code pc [64]) : decode code pc = .ok (.lstore_n 1, 1) := dk_of ((dk_bind (dk_u1 (h 0 _ rfl))).trans rfl)
theorem dk_65 {code : ByteArray} {pc : Nat} (h : DkAt code pc [65]) : decode code pc = .ok (.lstore_n 2, 1) := dk_of ((dk_bind (dk_u1 (h 0 _ rfl))).trans rfl)
theorem dk_66 {code : ByteArray} {pc : Nat} (h : DkAt code pc [66]) : decode code pc = .ok (.lstore_n 3, 1) := dk_of ((dk_bind (dk_u1 (h 0 _ rfl))).trans rfl)
theorem dk_71 {code : ByteArray} {pc : Nat} (h : DkAt code pc [71]) : decode code pc = .ok (.dstore_n 0, 1) := dk_of ((dk_bind (dk_u1 (h 0 _ rfl))).trans rfl)
theorem dk_72 {code : ByteArray} {pc : Nat} (h : DkAt code pc [72]) : decode code pc = .ok (.dstore_n 1, 1) := dk_of ((dk_bind (dk_u1 (h 0 _ rfl))).trans rfl)
theorem dk_73 {code : ByteArray} {pc : Nat} (h : DkAt code pc [73]) : decode code pc = .ok (.dstore_n 2, 1) := dk_of ((dk_bind (dk_u1 (h 0 _ rfl))).trans rfl)
theorem dk_75 {code : ByteArray} {pc : Nat} (h : DkAt code pc [75]) : decode code pc = .ok (.astore_n 0, 1) := dk_of ((dk_bind (dk_u1 (h 0 _ rfl))).trans rfl)
theorem dk_76 {code : ByteArray} {pc : Nat} (h : DkAt code pc [76]) : decode code pc = .ok (.astore_n 1, 1) := dk_of ((dk_bind (dk_u1 (h 0 _ rfl))).trans rfl)
theorem dk_77 {code : ByteArray} {pc : Nat} (h : DkAt code pc [77]) : decode code pc = .ok (.astore_n 2, 1) := dk_of ((dk_bind (dk_u1 (h 0 _ rfl))).trans rfl)
theorem dk_78 {code : ByteArray} {pc : Nat} (h : DkAt code pc [78]) : decode code pc = .ok (.astore_n 3, 1) := dk_of ((dk_bind (dk_u1 (h 0 _ rfl))).trans rfl)
theorem dk_79 {code : ByteArray} {pc : Nat} (h : DkAt code pc [79]) : decode code pc = .ok (.iastore, 1) := dk_of ((dk_bind (dk_u1 (h 0 _ rfl))).trans rfl)
theorem dk_83 {code : ByteArray} {pc : Nat} (h : DkAt code pc [83]) : decode code pc = .ok (.aastore, 1) := dk_of ((dk_bind (dk_u1 (h 0 _ rfl))).trans rfl)
theorem dk_84 {code : ByteArray} {pc : Nat} (h : DkAt code pc [84]) : decode code pc = .ok (.bastore, 1) := dk_of ((dk_bind (dk_u1 (h 0 _ rfl))).trans rfl)
theorem dk_87 {code : ByteArray} {pc : Nat} (h : DkAt code pc [87]) : decode code pc = .ok (.pop, 1) := dk_of ((dk_bind (dk_u1 (h 0 _ rfl))).trans rfl)
theorem dk_89 {code : ByteArray} {pc : Nat} (h : DkAt code pc [89]) : decode code pc = .ok (.dup, 1) := dk_of ((dk_bind (dk_u1 (h 0 _ rfl))).trans rfl)
theorem dk_90 {code : ByteArray} {pc : Nat} (h : DkAt code pc [90]) : decode code pc = .ok (.dup_x1, 1) := dk_of ((dk_bind (dk_u1 (h 0 _ rfl))).trans rfl)
theorem dk_91 {code : ByteArray} {pc : Nat} (h : DkAt code pc [91]) : decode code pc = .ok (.dup_x2, 1) := dk_of ((dk_bind (dk_u1 (h 0 _ rfl))).trans rfl)
theorem dk_92 {code : ByteArray} {pc : Nat} (h : DkAt code pc [92]) : decode code pc = .ok (.dup2, 1) := dk_of ((dk_bind (dk_u1 (h 0 _ rfl))).trans rfl)
theorem dk_96 {code : ByteArray} {pc : Nat} (h : DkAt code pc [96]) : decode code pc = .ok (.iadd, 1) := dk_of ((dk_bind (dk_u1 (h 0 _ rfl))).trans rfl)
theorem dk_97 {code : ByteArray} {pc : Nat} (h : DkAt code pc [97]) : decode code pc = .ok (.ladd, 1) := dk_of ((dk_bind (dk_u1 (h 0 _ rfl))).trans rfl)
theorem dk_99 {code : ByteArray} {pc : Nat} (h : DkAt code pc [99]) : decode code pc = .ok (.dadd, 1) := dk_of ((dk_bind (dk_u1 (h 0 _ rfl))).trans rfl)
theorem dk_100 {code : ByteArray} {pc : Nat} (h : DkAt code pc [100]) : decode code pc = .ok (.isub, 1) := dk_of ((dk_bind (dk_u1 (h 0 _ rfl))).trans rfl)
theorem dk_101 {code : ByteArray} {pc : Nat} (h : DkAt code pc [101]) : decode code pc = .ok (.lsub, 1) := dk_of ((dk_bind (dk_u1 (h 0 _ rfl))).trans rfl)
theorem dk_103 {code : ByteArray} {pc : Nat} (h : DkAt code pc [103]) : decode code pc = .ok (.dsub, 1) := dk_of ((dk_bind (dk_u1 (h 0 _ rfl))).trans rfl)
theorem dk_104 {code : ByteArray} {pc : Nat} (h : DkAt code pc [104]) : decode code pc = .ok (.imul, 1) := dk_of ((dk_bind (dk_u1 (h 0 _ rfl))).trans rfl)
theorem dk_105 {code : ByteArray} {pc : Nat} (h : DkAt code pc [105]) : decode code pc = .ok (.lmul, 1) := dk_of ((dk_bind (dk_u1 (h 0 _ rfl))).trans rfl)
theorem dk_107 {code : ByteArray} {pc : Nat} (h : DkAt code pc [107]) : decode code pc = .ok (.dmul, 1) := dk_of ((dk_bind (dk_u1 (h 0 _ rfl))).trans rfl)
theorem dk_108 {code : ByteArray} {pc : Nat} (h : DkAt code pc [108]) : decode code pc = .ok (.idiv, 1) := dk_of ((dk_bind (dk_u1 (h 0 _ rfl))).trans rfl)
theorem dk_109 {code : ByteArray} {pc : Nat} (h : DkAt code pc [109]) : decode code pc = .ok (.ldiv, 1) := dk_of ((dk_bind (dk_u1 (h 0 _ rfl))).trans rfl)
theorem dk_111 {code : ByteArray} {pc : Nat} (h : DkAt code pc [111]) : decode code pc = .ok (.ddiv, 1) := dk_of ((dk_bind (dk_u1 (h 0 _ rfl))).trans rfl)
theorem dk_112 {code : ByteArray} {pc : Nat} (h : DkAt code pc [112]) : decode code pc = .ok (.irem, 1) := dk_of ((dk_bind (dk_u1 (h 0 _ rfl))).trans rfl)
theorem dk_113 {code : ByteArray} {pc : Nat} (h : DkAt code pc [113]) : decode code pc = .ok (.lrem, 1) := dk_of ((dk_bind (dk_u1 (h 0 _ rfl))).trans rfl)
theorem dk_116 {code : ByteArray} {pc : Nat} (h : DkAt code pc [116]) : decode code pc = .ok (.ineg, 1) := dk_of ((dk_bind (dk_u1 (h 0 _ rfl))).trans rfl)
theorem dk_117 {code : ByteArray} {pc : Nat} (h : DkAt code pc [117]) : decode code pc = .ok (.lneg, 1) := dk_of ((dk_bind (dk_u1 (h 0 _ rfl))).trans rfl)
theorem dk_119 {code : ByteArray} {pc : Nat} (h : DkAt code pc [119]) : decode code pc = .ok (.dneg, 1) := dk_of ((dk_bind (dk_u1 (h 0 _ rfl))).trans rfl)
theorem dk_120 {code : ByteArray} {pc : Nat} (h : DkAt code pc [120]) : decode code pc = .ok (.ishl, 1) := dk_of ((dk_bind (dk_u1 (h 0 _ rfl))).trans rfl)
theorem dk_121 {code : ByteArray} {pc : Nat} (h : DkAt code pc [121]) : decode code pc = .ok (.lshl, 1) := dk_of ((dk_bind (dk_u1 (h 0 _ rfl))).trans rfl)
theorem dk_122 {code : ByteArray} {pc : Nat} (h : DkAt code pc [122]) : decode code pc = .ok (.ishr, 1) := dk_of ((dk_bind (dk_u1 (h 0 _ rfl))).trans rfl)
theorem dk_123 {code : ByteArray} {pc : Nat} (h : DkAt code pc [123]) : decode code pc = .ok (.lshr, 1) := dk_of ((dk_bind (dk_u1 (h 0 _ rfl))).trans rfl)
theorem dk_124 {code : ByteArray} {pc : Nat} (h : DkAt code pc [124]) : decode code pc = .ok (.iushr, 1) := dk_of ((dk_bind (dk_u1 (h 0 _ rfl))).trans rfl)
theorem dk_125 {code : ByteArray} {pc : Nat} (h : DkAt code pc [125]) : decode code pc = .ok (.lushr, 1) := dk_of ((dk_bind (dk_u1 (h 0 _ rfl))).trans rfl)
theorem dk_126 {code : ByteArray} {pc : Nat} (h : DkAt code pc [126]) : decode code pc = .ok (.iand, 1) := dk_of ((dk_bind (dk_u1 (h 0 _ rfl))).trans rfl)
theorem dk_127 {code : ByteArray} {pc : Nat} (h : DkAt code pc [127]) : decode code pc = .ok (.land, 1) := dk_of ((dk_bind (dk_u1 (h 0 _ rfl))).trans rfl)
theorem dk_128 {code : ByteArray} {pc : Nat} (h : DkAt code pc [128]) : decode code pc = .ok (.ior, 1) := dk_of ((dk_bind (dk_u1 (h 0 _ rfl))).trans rfl)
theorem dk_129 {code : ByteArray} {pc : Nat} (h : DkAt code pc [129]) : decode code pc = .ok (.lor, 1) := dk_of ((dk_bind (dk_u1 (h 0 _ rfl))).trans rfl)
theorem dk_130 {code : ByteArray} {pc : Nat} (h : DkAt code pc [130]) : decode code pc = .ok (.ixor, 1) := dk_of ((dk_bind (dk_u1 (h 0 _ rfl))).trans rfl)
theorem dk_131 {code : ByteArray} {pc : Nat} (h : DkAt code pc [131]) : decode code pc = .ok (.lxor, 1) := dk_of ((dk_bind (dk_u1 (h 0 _ rfl))).trans rfl)
theorem dk_132 {code : ByteArray} {pc : Nat} (a b : UInt8) (h : DkAt code pc [132, a, b]) : decode code pc = .ok (.iinc a.toNat (Reader.signed 8 b.toNat), 3) := dk_of ((dk_bind (dk_u1 (h 0 _ rfl))).trans ((dk_bind (dk_u1 (h 1 _ rfl))).trans ((dk_bind (dk_map (dk_u1 (h 2 _ rfl)))).trans rfl)))
theorem dk_133 {code : ByteArray} {pc : Nat} (h : DkAt code pc [133]) : decode code pc = .ok (.i2l, 1) := dk_of ((dk_bind (dk_u1 (h 0 _ rfl))).trans rfl)
theorem dk_135 {code : ByteArray} {pc : Nat} (h : DkAt code pc [135]) : decode code pc = .ok (.i2d, 1) := dk_of ((dk_bind (dk_u1 (h 0 _ rfl))).trans rfl)
theorem dk_136 {code : ByteArray} {pc : Nat} (h : DkAt code pc [136]) : decode code pc = .ok (.l2i, 1) := dk_of ((dk_bind (dk_u1 (h 0 _ rfl))).trans rfl)
theorem dk_142 {code : ByteArray} {pc : Nat} (h : DkAt code pc [142]) : decode code pc = .ok (.d2i, 1) := dk_of ((dk_bind (dk_u1 (h 0 _ rfl))).trans rfl)
theorem dk_145 {code : ByteArray} {pc : Nat} (h : DkAt code pc [145]) : decode code pc = .ok (.i2b, 1) := dk_of ((dk_bind (dk_u1 (h 0 _ rfl))).trans rfl)
theorem dk_146 {code : ByteArray} {pc : Nat} (h : DkAt code pc [146]) : decode code pc = .ok (.i2c, 1) := dk_of ((dk_bind (dk_u1 (h 0 _ rfl))).trans rfl)
theorem dk_148 {code : ByteArray} {pc : Nat} (h : DkAt code pc [148]) : decode code pc = .ok (.lcmp, 1) := dk_of ((dk_bind (dk_u1 (h 0 _ rfl))).trans rfl)
theorem dk_151 {code : ByteArray} {pc : Nat} (h : DkAt code pc [151]) : decode code pc = .ok (.dcmp .l, 1) := dk_of ((dk_bind (dk_u1 (h 0 _ rfl))).trans rfl)
theorem dk_152 {code : ByteArray} {pc : Nat} (h : DkAt code pc [152]) : decode code pc = .ok (.dcmp .g, 1) := dk_of ((dk_bind (dk_u1 (h 0 _ rfl))).trans rfl)
theorem dk_153 {code : ByteArray} {pc : Nat} (a b : UInt8) (h : DkAt code pc [153, a, b]) : decode code pc = .ok (.ifCond .eq (Reader.signed 16 (a.toNat * 256 + b.toNat)), 3) := dk_of ((dk_bind (dk_u1 (h 0 _ rfl))).trans ((dk_bind (dk_map (dk_u2 (h 1 _ rfl) (h 2 _ rfl)))).trans rfl))
theorem dk_154 {code : ByteArray} {pc : Nat} (a b : UInt8) (h : DkAt code pc [154, a, b]) : decode code pc = .ok (.ifCond .ne (Reader.signed 16 (a.toNat * 256 + b.toNat)), 3) := dk_of ((dk_bind (dk_u1 (h 0 _ rfl))).trans ((dk_bind (dk_map (dk_u2 (h 1 _ rfl) (h 2 _ rfl)))).trans rfl))
theorem dk_155 {code : ByteArray} {pc : Nat} (a b : UInt8) (h : DkAt code pc [155, a, b]) : decode code pc = .ok (.ifCond .lt (Reader.signed 16 (a.toNat * 256 + b.toNat)), 3) := dk_of ((dk_bind (dk_u1 (h 0 _ rfl))).trans ((dk_bind (dk_map (dk_u2 (h 1 _ rfl) (h 2 _ rfl)))).trans rfl))
theorem dk_156 {code : ByteArray} {pc : Nat} (a b : UInt8) (h : DkAt code pc [156, a, b]) : decode code pc = .ok (.ifCond .ge (Reader.signed 16 (a.toNat * 256 + b.toNat)), 3) := dk_of ((dk_bind (dk_u1 (h 0 _ rfl))).trans ((dk_bind (dk_map (dk_u2 (h 1 _ rfl) (h 2 _ rfl)))).trans rfl))
theorem dk_157 {code : ByteArray} {pc : Nat} (a b : UInt8) (h : DkAt code pc [157, a, b]) : decode code pc = .ok (.ifCond .gt (Reader.signed 16 (a.toNat * 256 + b.toNat)), 3) := dk_of ((dk_bind (dk_u1 (h 0 _ rfl))).trans ((dk_bind (dk_map (dk_u2 (h 1 _ rfl) (h 2 _ rfl)))).trans rfl))
theorem dk_158 {code : ByteArray} {pc : Nat} (a b : UInt8) (h : DkAt code pc [158, a, b]) : decode code pc = .ok (.ifCond .le (Reader.signed 16 (a.toNat * 256 + b.toNat)), 3) := dk_of ((dk_bind (dk_u1 (h 0 _ rfl))).trans ((dk_bind (dk_map (dk_u2 (h 1 _ rfl) (h 2 _ rfl)))).trans rfl))
theorem dk_159 {code : ByteArray} {pc : Nat} (a b : UInt8) (h : DkAt code pc [159, a, b]) : decode code pc = .ok (.if_icmp .eq (Reader.signed 16 (a.toNat * 256 + b.toNat)), 3) := dk_of ((dk_bind (dk_u1 (h 0 _ rfl))).trans ((dk_bind (dk_map (dk_u2 (h 1 _ rfl) (h 2 _ rfl)))).trans rfl))
theorem dk_160 {code : ByteArray} {pc : Nat} (a b : UInt8) (h : DkAt code pc [160, a, b]) : decode code pc = .ok (.if_icmp .ne (Reader.signed 16 (a.toNat * 256 + b.toNat)), 3) := dk_of ((dk_bind (dk_u1 (h 0 _ rfl))).trans ((dk_bind (dk_map (dk_u2 (h 1 _ rfl) (h 2 _ rfl)))).trans rfl))
theorem dk_161 {code : ByteArray} {pc : Nat} (a b : UInt8) (h : DkAt code pc [161, a, b]) : decode code pc = .ok (.if_icmp .lt (Reader.signed 16 (a.toNat * 256 + b.toNat)), 3) := dk_of ((dk_bind (dk_u1 (h 0 _ rfl))).trans ((dk_bind (dk_map (dk_u2 (h 1 _ rfl) (h 2 _ rfl)))).trans rfl))
theorem dk_162 {code : ByteArray} {pc : Nat} (a b : UInt8) (h : DkAt code pc [162, a, b]) : decode code pc = .ok (.if_icmp .ge (Reader.signed 16 (a.toNat * 256 + b.toNat)), 3) := dk_of ((dk_bind (dk_u1 (h 0 _ rfl))).trans ((dk_bind (dk_map (dk_u2 (h 1 _ rfl) (h 2 _ rfl)))).trans rfl))
theorem dk_163 {code : ByteArray} {pc : Nat} (a b : UInt8) (h : DkAt code pc [163, a, b]) : decode code pc = .ok (.if_icmp .gt (Reader.signed 16 (a.toNat * 256 + b.toNat)), 3) := dk_of ((dk_bind (dk_u1 (h 0 _ rfl))).trans ((dk_bind (dk_map (dk_u2 (h 1 _ rfl) (h 2 _ rfl)))).trans rfl))
theorem dk_164 {code : ByteArray} {pc : Nat} (a b : UInt8) (h : DkAt code pc [164, a, b]) : decode code pc = .ok (.if_icmp .le (Reader.signed 16 (a.toNat * 256 + b.toNat)), 3) := dk_of ((dk_bind (dk_u1 (h 0 _ rfl))).trans ((dk_bind (dk_map (dk_u2 (h 1 _ rfl) (h 2 _ rfl)))).trans rfl))
theorem dk_166 {code : ByteArray} {pc : Nat} (a b : UInt8) (h : DkAt code pc [166, a, b]) : decode code pc = .ok (.if_acmp .ne (Reader.signed 16 (a.toNat * 256 + b.toNat)), 3) := dk_of ((dk_bind (dk_u1 (h 0 _ rfl))).trans ((dk_bind (dk_map (dk_u2 (h 1 _ rfl) (h 2 _ rfl)))).trans rfl))
theorem dk_167 {code : ByteArray} {pc : Nat} (a b : UInt8) (h : DkAt code pc [167, a, b]) : decode code pc = .ok (.goto (Reader.signed 16 (a.toNat * 256 + b.toNat)), 3) := dk_of ((dk_bind (dk_u1 (h 0 _ rfl))).trans ((dk_bind (dk_map (dk_u2 (h 1 _ rfl) (h 2 _ rfl)))).trans rfl))
theorem dk_172 {code : ByteArray} {pc : Nat} (h : DkAt code pc [172]) : decode code pc = .ok (.ireturn, 1) := dk_of ((dk_bind (dk_u1 (h 0 _ rfl))).trans rfl)
theorem dk_173 {code : ByteArray} {pc : Nat} (h : DkAt code pc [173]) : decode code pc = .ok (.lreturn, 1) := dk_of ((dk_bind (dk_u1 (h 0 _ rfl))).trans rfl)
theorem dk_175 {code : ByteArray} {pc : Nat} (h : DkAt code pc [175]) : decode code pc = .ok (.dreturn, 1) := dk_of ((dk_bind (dk_u1 (h 0 _ rfl))).trans rfl)
theorem dk_176 {code : ByteArray} {pc : Nat} (h : DkAt code pc [176]) : decode code pc = .ok (.areturn, 1) := dk_of ((dk_bind (dk_u1 (h 0 _ rfl))).trans rfl)
theorem dk_177 {code : ByteArray} {pc : Nat} (h : DkAt code pc [177]) : decode code pc = .ok (.return_, 1) := dk_of ((dk_bind (dk_u1 (h 0 _ rfl))).trans rfl)
theorem dk_178 {code : ByteArray} {pc : Nat} (a b : UInt8) (h : DkAt code pc [178, a, b]) : decode code pc = .ok (.getstatic (a.toNat * 256 + b.toNat), 3) := dk_of ((dk_bind (dk_u1 (h 0 _ rfl))).trans ((dk_bind (dk_u2 (h 1 _ rfl) (h 2 _ rfl))).trans rfl))
theorem dk_180 {code : ByteArray} {pc : Nat} (a b : UInt8) (h : DkAt code pc [180, a, b]) : decode code pc = .ok (.getfield (a.toNat * 256 + b.toNat), 3) := dk_of ((dk_bind (dk_u1 (h 0 _ rfl))).trans ((dk_bind (dk_u2 (h 1 _ rfl) (h 2 _ rfl))).trans rfl))
theorem dk_181 {code : ByteArray} {pc : Nat} (a b : UInt8) (h : DkAt code pc [181, a, b]) : decode code pc = .ok (.putfield (a.toNat * 256 + b.toNat), 3) := dk_of ((dk_bind (dk_u1 (h 0 _ rfl))).trans ((dk_bind (dk_u2 (h 1 _ rfl) (h 2 _ rfl))).trans rfl))
theorem dk_182 {code : ByteArray} {pc : Nat} (a b : UInt8) (h : DkAt code pc [182, a, b]) : decode code pc = .ok (.invokevirtual (a.toNat * 256 + b.toNat), 3) := dk_of ((dk_bind (dk_u1 (h 0 _ rfl))).trans ((dk_bind (dk_u2 (h 1 _ rfl) (h 2 _ rfl))).trans rfl))
theorem dk_183 {code : ByteArray} {pc : Nat} (a b : UInt8) (h : DkAt code pc [183, a, b]) : decode code pc = .ok (.invokespecial (a.toNat * 256 + b.toNat), 3) := dk_of ((dk_bind (dk_u1 (h 0 _ rfl))).trans ((dk_bind (dk_u2 (h 1 _ rfl) (h 2 _ rfl))).trans rfl))
theorem dk_184 {code : ByteArray} {pc : Nat} (a b : UInt8) (h : DkAt code pc [184, a, b]) : decode code pc = .ok (.invokestatic (a.toNat * 256 + b.toNat), 3) := dk_of ((dk_bind (dk_u1 (h 0 _ rfl))).trans ((dk_bind (dk_u2 (h 1 _ rfl) (h 2 _ rfl))).trans rfl))
theorem dk_187 {code : ByteArray} {pc : Nat} (a b : UInt8) (h : DkAt code pc [187, a, b]) : decode code pc = .ok (.new (a.toNat * 256 + b.toNat), 3) := dk_of ((dk_bind (dk_u1 (h 0 _ rfl))).trans ((dk_bind (dk_u2 (h 1 _ rfl) (h 2 _ rfl))).trans rfl))
theorem dk_188_8 {code : ByteArray} {pc : Nat} (h : DkAt code pc [188, 8]) : decode code pc = .ok (.newarray .byte, 2) := dk_of ((dk_bind (dk_u1 (h 0 _ rfl))).trans ((dk_bind (dk_u1 (h 1 _ rfl))).trans rfl))
theorem dk_188_10 {code : ByteArray} {pc : Nat} (h : DkAt code pc [188, 10]) : decode code pc = .ok (.newarray .int, 2) := dk_of ((dk_bind (dk_u1 (h 0 _ rfl))).trans ((dk_bind (dk_u1 (h 1 _ rfl))).trans rfl))
theorem dk_189 {code : ByteArray} {pc : Nat} (a b : UInt8) (h : DkAt code pc [189, a, b]) : decode code pc = .ok (.anewarray (a.toNat * 256 + b.toNat), 3) := dk_of ((dk_bind (dk_u1 (h 0 _ rfl))).trans ((dk_bind (dk_u2 (h 1 _ rfl) (h 2 _ rfl))).trans rfl))
theorem dk_190 {code : ByteArray} {pc : Nat} (h : DkAt code pc [190]) : decode code pc = .ok (.arraylength, 1) := dk_of ((dk_bind (dk_u1 (h 0 _ rfl))).trans rfl)
theorem dk_191 {code : ByteArray} {pc : Nat} (h : DkAt code pc [191]) : decode code pc = .ok (.athrow, 1) := dk_of ((dk_bind (dk_u1 (h 0 _ rfl))).trans rfl)
theorem dk_192 {code : ByteArray} {pc : Nat} (a b : UInt8) (h : DkAt code pc [192, a, b]) : decode code pc = .ok (.checkcast (a.toNat * 256 + b.toNat), 3) := dk_of ((dk_bind (dk_u1 (h 0 _ rfl))).trans ((dk_bind (dk_u2 (h 1 _ rfl) (h 2 _ rfl))).trans rfl))
theorem dk_193 {code : ByteArray} {pc : Nat} (a b : UInt8) (h : DkAt code pc [193, a, b]) : decode code pc = .ok (.instanceof (a.toNat * 256 + b.toNat), 3) := dk_of ((dk_bind (dk_u1 (h 0 _ rfl))).trans ((dk_bind (dk_u2 (h 1 _ rfl) (h 2 _ rfl))).trans rfl))
theorem dk_198 {code : ByteArray} {pc : Nat} (a b : UInt8) (h : DkAt code pc [198, a, b]) : decode code pc = .ok (.ifnull (Reader.signed 16 (a.toNat * 256 + b.toNat)), 3) := dk_of ((dk_bind (dk_u1 (h 0 _ rfl))).trans ((dk_bind (dk_map (dk_u2 (h 1 _ rfl) (h 2 _ rfl)))).trans rfl))
theorem dk_199 {code : ByteArray} {pc : Nat} (a b : UInt8) (h : DkAt code pc [199, a, b]) : decode code pc = .ok (.ifnonnull (Reader.signed 16 (a.toNat * 256 + b.toNat)), 3) := dk_of ((dk_bind (dk_u1 (h 0 _ rfl))).trans ((dk_bind (dk_map (dk_u2 (h 1 _ rfl) (h 2 _ rfl)))).trans rfl))

/-! java/lang/Throwable -/
set_option maxRecDepth 100000
def RJ0 : String := "java/lang/Throwable"
def TJ0 : u_T := fun k => match k with
  | 0 => ("java/lang/Throwable", "cause", "Ljava/lang/Throwable;", false)
  | 1 => ("java/lang/Throwable", "stackTrace", "[Ljava/lang/StackTraceElement;", false)
  | 2 => ("java/lang/Throwable", "suppressedExceptions", "Ljava/util/List;", false)
  | 3 => ("java/lang/Throwable", "detailMessage", "Ljava/lang/String;", false)
  | _ => ("java/lang/Throwable", "backtrace", "Ljava/lang/Object;", false)
def tyJ0 : Nat → FieldType := fun k => match k with
  | 0 => .object "java/lang/Throwable"
  | 1 => .array (.object "java/lang/StackTraceElement")
  | 2 => .object "java/util/List"
  | 3 => .object "java/lang/String"
  | _ => .object "java/lang/Object"
abbrev wsJ00 : List Cond := u_ws RJ0 TJ0 5
theorem nmJ0 : ∀ a, a < 5 → ∀ b, b < 5 → a ≠ b → (TJ0 a).2.1 ≠ (TJ0 b).2.1 := by decide +kernel
theorem tyJ0_ok : ∀ k, k < 5 → parseFieldDescriptor (TJ0 k).2.2.1 = some (tyJ0 k) := by decide +kernel
abbrev cJ0_init : ByteArray := prog_26_method_1_code
def yJ0_init : MethodName := ⟨RJ0, "<init>", "()V"⟩
def dkwJ0_init_1 : List UInt8 := [182, 0, 27, 87, 177]
abbrev dktJ0_init_1 : List UInt8 := dkwJ0_init_1 ++ []
def dkwJ0_init_0 : List UInt8 := [42, 183, 0, 1, 42, 42, 181, 0, 7, 42, 178, 0, 13, 181, 0, 17, 42, 178, 0, 20, 181, 0, 24, 42]
abbrev dktJ0_init_0 : List UInt8 := dkwJ0_init_0 ++ dktJ0_init_1
theorem dksJ0_init_0 : cJ0_init.data.toList.drop 0 = dktJ0_init_0 := by decide +kernel
theorem dksJ0_init_1 : cJ0_init.data.toList.drop 24 = dktJ0_init_1 := dk_seg dksJ0_init_0 24 rfl rfl
theorem dJ0_init_0 : decode cJ0_init 0 = .ok (.aload_n 0, 1) := dk_42 (dk_at dksJ0_init_0 0 rfl rfl)
theorem dJ0_init_1 : decode cJ0_init 1 = .ok (.invokespecial 1, 3) := dk_183 0 1 (dk_at dksJ0_init_0 1 rfl rfl)
theorem dJ0_init_4 : decode cJ0_init 4 = .ok (.aload_n 0, 1) := dk_42 (dk_at dksJ0_init_0 4 rfl rfl)
theorem dJ0_init_5 : decode cJ0_init 5 = .ok (.aload_n 0, 1) := dk_42 (dk_at dksJ0_init_0 5 rfl rfl)
theorem dJ0_init_6 : decode cJ0_init 6 = .ok (.putfield 7, 3) := dk_181 0 7 (dk_at dksJ0_init_0 6 rfl rfl)
theorem dJ0_init_9 : decode cJ0_init 9 = .ok (.aload_n 0, 1) := dk_42 (dk_at dksJ0_init_0 9 rfl rfl)
theorem dJ0_init_10 : decode cJ0_init 10 = .ok (.getstatic 13, 3) := dk_178 0 13 (dk_at dksJ0_init_0 10 rfl rfl)
theorem dJ0_init_13 : decode cJ0_init 13 = .ok (.putfield 17, 3) := dk_181 0 17 (dk_at dksJ0_init_0 13 rfl rfl)
theorem dJ0_init_16 : decode cJ0_init 16 = .ok (.aload_n 0, 1) := dk_42 (dk_at dksJ0_init_0 16 rfl rfl)
theorem dJ0_init_17 : decode cJ0_init 17 = .ok (.getstatic 20, 3) := dk_178 0 20 (dk_at dksJ0_init_0 17 rfl rfl)
theorem dJ0_init_20 : decode cJ0_init 20 = .ok (.putfield 24, 3) := dk_181 0 24 (dk_at dksJ0_init_0 20 rfl rfl)
theorem dJ0_init_23 : decode cJ0_init 23 = .ok (.aload_n 0, 1) := dk_42 (dk_at dksJ0_init_0 23 rfl rfl)
theorem dJ0_init_24 : decode cJ0_init 24 = .ok (.invokevirtual 27, 3) := dk_182 0 27 (dk_at dksJ0_init_1 0 rfl rfl)
theorem dJ0_init_27 : decode cJ0_init 27 = .ok (.pop, 1) := dk_87 (dk_at dksJ0_init_1 3 rfl rfl)
theorem dJ0_init_28 : decode cJ0_init 28 = .ok (.return_, 1) := dk_177 (dk_at dksJ0_init_1 4 rfl rfl)
abbrev cJ0_init_2 : ByteArray := prog_26_method_2_code
def yJ0_init_2 : MethodName := ⟨RJ0, "<init>", "(Ljava/lang/String;)V"⟩
def dkwJ0_init_2_1 : List UInt8 := [182, 0, 27, 87, 42, 43, 181, 0, 31, 177]
abbrev dktJ0_init_2_1 : List UInt8 := dkwJ0_init_2_1 ++ []
def dkwJ0_init_2_0 : List UInt8 := [42, 183, 0, 1, 42, 42, 181, 0, 7, 42, 178, 0, 13, 181, 0, 17, 42, 178, 0, 20, 181, 0, 24, 42]
abbrev dktJ0_init_2_0 : List UInt8 := dkwJ0_init_2_0 ++ dktJ0_init_2_1
theorem dksJ0_init_2_0 : cJ0_init_2.data.toList.drop 0 = dktJ0_init_2_0 := by decide +kernel
theorem dksJ0_init_2_1 : cJ0_init_2.data.toList.drop 24 = dktJ0_init_2_1 := dk_seg dksJ0_init_2_0 24 rfl rfl
theorem dJ0_init_2_0 : decode cJ0_init_2 0 = .ok (.aload_n 0, 1) := dk_42 (dk_at dksJ0_init_2_0 0 rfl rfl)
theorem dJ0_init_2_1 : decode cJ0_init_2 1 = .ok (.invokespecial 1, 3) := dk_183 0 1 (dk_at dksJ0_init_2_0 1 rfl rfl)
theorem dJ0_init_2_4 : decode cJ0_init_2 4 = .ok (.aload_n 0, 1) := dk_42 (dk_at dksJ0_init_2_0 4 rfl rfl)
theorem dJ0_init_2_5 : decode cJ0_init_2 5 = .ok (.aload_n 0, 1) := dk_42 (dk_at dksJ0_init_2_0 5 rfl rfl)
theorem dJ0_init_2_6 : decode cJ0_init_2 6 = .ok (.putfield 7, 3) := dk_181 0 7 (dk_at dksJ0_init_2_0 6 rfl rfl)
theorem dJ0_init_2_9 : decode cJ0_init_2 9 = .ok (.aload_n 0, 1) := dk_42 (dk_at dksJ0_init_2_0 9 rfl rfl)
theorem dJ0_init_2_10 : decode cJ0_init_2 10 = .ok (.getstatic 13, 3) := dk_178 0 13 (dk_at dksJ0_init_2_0 10 rfl rfl)
theorem dJ0_init_2_13 : decode cJ0_init_2 13 = .ok (.putfield 17, 3) := dk_181 0 17 (dk_at dksJ0_init_2_0 13 rfl rfl)
theorem dJ0_init_2_16 : decode cJ0_init_2 16 = .ok (.aload_n 0, 1) := dk_42 (dk_at dksJ0_init_2_0 16 rfl rfl)
theorem dJ0_init_2_17 : decode cJ0_init_2 17 = .ok (.getstatic 20, 3) := dk_178 0 20 (dk_at dksJ0_init_2_0 17 rfl rfl)
theorem dJ0_init_2_20 : decode cJ0_init_2 20 = .ok (.putfield 24, 3) := dk_181 0 24 (dk_at dksJ0_init_2_0 20 rfl rfl)
theorem dJ0_init_2_23 : decode cJ0_init_2 23 = .ok (.aload_n 0, 1) := dk_42 (dk_at dksJ0_init_2_0 23 rfl rfl)
theorem dJ0_init_2_24 : decode cJ0_init_2 24 = .ok (.invokevirtual 27, 3) := dk_182 0 27 (dk_at dksJ0_init_2_1 0 rfl rfl)
theorem dJ0_init_2_27 : decode cJ0_init_2 27 = .ok (.pop, 1) := dk_87 (dk_at dksJ0_init_2_1 3 rfl rfl)
theorem dJ0_init_2_28 : decode cJ0_init_2 28 = .ok (.aload_n 0, 1) := dk_42 (dk_at dksJ0_init_2_1 4 rfl rfl)
theorem dJ0_init_2_29 : decode cJ0_init_2 29 = .ok (.aload_n 1, 1) := dk_43 (dk_at dksJ0_init_2_1 5 rfl rfl)
theorem dJ0_init_2_30 : decode cJ0_init_2 30 = .ok (.putfield 31, 3) := dk_181 0 31 (dk_at dksJ0_init_2_1 6 rfl rfl)
theorem dJ0_init_2_33 : decode cJ0_init_2 33 = .ok (.return_, 1) := dk_177 (dk_at dksJ0_init_2_1 9 rfl rfl)
theorem q45 : (Jvm.Cond.initialized "java/lang/Throwable") ∈ lw_all := lw_g (lw_at lw_m1 5 rfl) rfl
theorem q290 : (Jvm.Cond.declares ({ cls := "java/lang/Throwable", name := "<init>", desc := "()V" } : Jvm.MethodName)) ∈ lw_tbl := lw_at lw_m2 10 rfl
theorem q291 : (Jvm.Cond.declares ({ cls := "java/lang/Throwable", name := "<init>", desc := "(Ljava/lang/String;)V" } : Jvm.MethodName)) ∈ lw_tbl := lw_at lw_m2 11 rfl
theorem q295 : (Jvm.Cond.lays "java/lang/Throwable" "java/lang/Throwable" "cause" "Ljava/lang/Throwable;") ∈ lw_all := lw_g (lw_at lw_m2 15 rfl) rfl
theorem q297 : (Jvm.Cond.lays "java/lang/Throwable" "java/lang/Throwable" "stackTrace" "[Ljava/lang/StackTraceElement;") ∈ lw_all := lw_g (lw_at lw_m2 17 rfl) rfl
theorem q299 : (Jvm.Cond.lays "java/lang/Throwable" "java/lang/Throwable" "suppressedExceptions" "Ljava/util/List;") ∈ lw_all := lw_g (lw_at lw_m2 19 rfl) rfl
theorem q301 : (Jvm.Cond.lays "java/lang/Throwable" "java/lang/Throwable" "detailMessage" "Ljava/lang/String;") ∈ lw_all := lw_g (lw_at lw_m2 21 rfl) rfl
theorem q303 : (Jvm.Cond.lays "java/lang/Throwable" "java/lang/Throwable" "backtrace" "Ljava/lang/Object;") ∈ lw_all := lw_g (lw_at lw_m2 23 rfl) rfl
theorem q304 : (Jvm.Cond.fieldLink "java/lang/Throwable" (198 : Nat) "java/lang/Throwable" "backtrace" "Ljava/lang/Object;") ∈ lw_all := lw_g (lw_at lw_m2 24 rfl) rfl
theorem q305 : (Jvm.Cond.superclass "java/lang/Throwable" "java/lang/Object") ∈ lw_all := lw_g (lw_at lw_m2 25 rfl) rfl
theorem q306 : (Jvm.Cond.instanceMethod ({ cls := "java/lang/Throwable", name := "<init>", desc := "()V" } : Jvm.MethodName)) ∈ lw_all := lw_g (lw_at lw_m2 26 rfl) rfl
theorem q307 : (Jvm.Cond.code ({ cls := "java/lang/Throwable", name := "<init>", desc := "()V" } : Jvm.MethodName) prog_26_method_1_code (1 : Nat) (Option.none : Option Jvm.ClassFile.FieldType)) ∈ lw_all := lw_g (lw_at lw_m2 27 rfl) rfl
theorem q308 : (Jvm.Cond.methodLink "java/lang/Throwable" (1 : Nat) ({ cls := "java/lang/Object", name := "<init>", desc := "()V" } : Jvm.MethodName)) ∈ lw_all := lw_g (lw_at lw_m2 28 rfl) rfl
theorem q309 : (Jvm.Cond.fieldLink "java/lang/Throwable" (13 : Nat) "java/lang/Throwable" "UNASSIGNED_STACK" "[Ljava/lang/StackTraceElement;") ∈ lw_all := lw_g (lw_at lw_m2 29 rfl) rfl
theorem q310 : (Jvm.Cond.laysStatic "java/lang/Throwable" "UNASSIGNED_STACK" "[Ljava/lang/StackTraceElement;") ∈ lw_tbl := lw_at lw_m2 30 rfl
theorem q311 : (Jvm.Cond.fieldLink "java/lang/Throwable" (20 : Nat) "java/lang/Throwable" "SUPPRESSED_SENTINEL" "Ljava/util/List;") ∈ lw_all := lw_g (lw_at lw_m2 31 rfl) rfl
theorem q312 : (Jvm.Cond.laysStatic "java/lang/Throwable" "SUPPRESSED_SENTINEL" "Ljava/util/List;") ∈ lw_tbl := lw_at lw_m2 32 rfl
theorem q313 : (Jvm.Cond.methodLink "java/lang/Throwable" (27 : Nat) ({ cls := "java/lang/Throwable", name := "fillInStackTrace", desc := "()Ljava/lang/Throwable;" } : Jvm.MethodName)) ∈ lw_all := lw_g (lw_at lw_m2 33 rfl) rfl
theorem q314 : (Jvm.Cond.instanceMethod ({ cls := "java/lang/Throwable", name := "fillInStackTrace", desc := "()Ljava/lang/Throwable;" } : Jvm.MethodName)) ∈ lw_all := lw_g (lw_at lw_m2 34 rfl) rfl
theorem q315 : (Jvm.Cond.sameMethod "java/lang/Throwable" "java/lang/Throwable" "fillInStackTrace" "()Ljava/lang/Throwable;") ∈ lw_all := lw_g (lw_at lw_m2 35 rfl) rfl
theorem q319 : (Jvm.Cond.codeSync ({ cls := "java/lang/Throwable", name := "fillInStackTrace", desc := "()Ljava/lang/Throwable;" } : Jvm.MethodName) prog_26_method_18_code (1 : Nat) (Option.some (Jvm.ClassFile.FieldType.object "java/lang/Throwable"))) ∈ lw_all := lw_g (lw_at lw_m2 39 rfl) rfl
theorem q320 : (Jvm.Cond.methodLink "java/lang/Throwable" (202 : Nat) ({ cls := "java/lang/Throwable", name := "fillInStackTrace", desc := "(I)Ljava/lang/Throwable;" } : Jvm.MethodName)) ∈ lw_all := lw_g (lw_at lw_m2 40 rfl) rfl
theorem q321 : (Jvm.Cond.privateMethod ({ cls := "java/lang/Throwable", name := "fillInStackTrace", desc := "(I)Ljava/lang/Throwable;" } : Jvm.MethodName)) ∈ lw_tbl := lw_at lw_m2 41 rfl
theorem q322 : (Jvm.Cond.instanceMethod ({ cls := "java/lang/Throwable", name := "fillInStackTrace", desc := "(I)Ljava/lang/Throwable;" } : Jvm.MethodName)) ∈ lw_all := lw_g (lw_at lw_m2 42 rfl) rfl
theorem q323 : (Jvm.Cond.instantiable "java/lang/Throwable" (6 : Nat)) ∈ lw_all := lw_g (lw_at lw_m2 43 rfl) rfl
theorem q324 : (Jvm.Cond.native ({ cls := "java/lang/Throwable", name := "fillInStackTrace", desc := "(I)Ljava/lang/Throwable;" } : Jvm.MethodName)) ∈ lw_all := lw_g (lw_at lw_m2 44 rfl) rfl
theorem q335 : (Jvm.Cond.fieldLink "java/lang/Throwable" (198 : Nat) "java/lang/Throwable" "backtrace" "Ljava/lang/Object;") ∈ lw_all := lw_g (lw_at lw_m2 55 rfl) rfl
theorem q336 : (Jvm.Cond.fieldLink "java/lang/Throwable" (31 : Nat) "java/lang/Throwable" "detailMessage" "Ljava/lang/String;") ∈ lw_all := lw_g (lw_at lw_m2 56 rfl) rfl
theorem q337 : (Jvm.Cond.fieldLink "java/lang/Throwable" (7 : Nat) "java/lang/Throwable" "cause" "Ljava/lang/Throwable;") ∈ lw_all := lw_g (lw_at lw_m2 57 rfl) rfl
theorem q338 : (Jvm.Cond.fieldLink "java/lang/Throwable" (17 : Nat) "java/lang/Throwable" "stackTrace" "[Ljava/lang/StackTraceElement;") ∈ lw_all := lw_g (lw_at lw_m2 58 rfl) rfl
theorem q339 : (Jvm.Cond.fieldLink "java/lang/Throwable" (24 : Nat) "java/lang/Throwable" "suppressedExceptions" "Ljava/util/List;") ∈ lw_all := lw_g (lw_at lw_m2 59 rfl) rfl
theorem q340 : (Jvm.Cond.soleField "java/lang/Throwable" "backtrace") ∈ lw_all := lw_g (lw_at lw_m2 60 rfl) rfl
theorem q341 : (Jvm.Cond.soleField "java/lang/Throwable" "detailMessage") ∈ lw_all := lw_g (lw_at lw_m2 61 rfl) rfl
theorem q342 : (Jvm.Cond.soleField "java/lang/Throwable" "cause") ∈ lw_all := lw_g (lw_at lw_m2 62 rfl) rfl
theorem q343 : (Jvm.Cond.soleField "java/lang/Throwable" "stackTrace") ∈ lw_all := lw_g (lw_at lw_m2 63 rfl) rfl
theorem q345 : (Jvm.Cond.soleField "java/lang/Throwable" "depth") ∈ lw_all := lw_g (lw_at lw_m2 65 rfl) rfl
theorem q346 : (Jvm.Cond.soleField "java/lang/Throwable" "suppressedExceptions") ∈ lw_all := lw_g (lw_at lw_m2 66 rfl) rfl
theorem q510 : (Jvm.Cond.instanceMethod ({ cls := "java/lang/Throwable", name := "<init>", desc := "(Ljava/lang/String;)V" } : Jvm.MethodName)) ∈ lw_all := lw_g (lw_at lw_m2 230 rfl) rfl
theorem q511 : (Jvm.Cond.code ({ cls := "java/lang/Throwable", name := "<init>", desc := "(Ljava/lang/String;)V" } : Jvm.MethodName) prog_26_method_2_code (2 : Nat) (Option.none : Option Jvm.ClassFile.FieldType)) ∈ lw_all := lw_g (lw_at lw_m2 231 rfl) rfl
theorem q1855 : (Jvm.Cond.sameMethod "java/lang/Throwable" "java/lang/Throwable" "fillInStackTrace" "(I)Ljava/lang/Throwable;") ∈ lw_all := lw_g (lw_at lw_m8 135 rfl) rfl
theorem in_J0 : ∀ w ∈ wsJ00, w ∈ lw_all := lw_in wsJ00 [295, 297, 299, 301, 303] (by decide +kernel) (by decide +kernel)

/-! java/lang/Exception -/
set_option maxRecDepth 100000
def RJ1 : String := "java/lang/Exception"
abbrev cJ1_init : ByteArray := prog_10_method_1_code
def yJ1_init : MethodName := ⟨RJ1, "<init>", "()V"⟩
theorem dJ1_init_0 : decode cJ1_init 0 = .ok (.aload_n 0, 1) := by decide +kernel
theorem dJ1_init_1 : decode cJ1_init 1 = .ok (.invokespecial 1, 3) := by decide +kernel
theorem dJ1_init_4 : decode cJ1_init 4 = .ok (.return_, 1) := by decide +kernel
abbrev cJ1_init_2 : ByteArray := prog_10_method_2_code
def yJ1_init_2 : MethodName := ⟨RJ1, "<init>", "(Ljava/lang/String;)V"⟩
def dkwJ1_init_2_0 : List UInt8 := [42, 43, 183, 0, 7, 177]
abbrev dktJ1_init_2_0 : List UInt8 := dkwJ1_init_2_0 ++ []
theorem dksJ1_init_2_0 : cJ1_init_2.data.toList.drop 0 = dktJ1_init_2_0 := by decide +kernel
theorem dJ1_init_2_0 : decode cJ1_init_2 0 = .ok (.aload_n 0, 1) := dk_42 (dk_at dksJ1_init_2_0 0 rfl rfl)
theorem dJ1_init_2_1 : decode cJ1_init_2 1 = .ok (.aload_n 1, 1) := dk_43 (dk_at dksJ1_init_2_0 1 rfl rfl)
theorem dJ1_init_2_2 : decode cJ1_init_2 2 = .ok (.invokespecial 7, 3) := dk_183 0 7 (dk_at dksJ1_init_2_0 2 rfl rfl)
theorem dJ1_init_2_5 : decode cJ1_init_2 5 = .ok (.return_, 1) := dk_177 (dk_at dksJ1_init_2_0 5 rfl rfl)
theorem q46 : (Jvm.Cond.initialized "java/lang/Exception") ∈ lw_all := lw_g (lw_at lw_m1 6 rfl) rfl
theorem q288 : (Jvm.Cond.declares ({ cls := "java/lang/Exception", name := "<init>", desc := "()V" } : Jvm.MethodName)) ∈ lw_tbl := lw_at lw_m2 8 rfl
theorem q289 : (Jvm.Cond.declares ({ cls := "java/lang/Exception", name := "<init>", desc := "(Ljava/lang/String;)V" } : Jvm.MethodName)) ∈ lw_tbl := lw_at lw_m2 9 rfl
theorem q332 : (Jvm.Cond.instanceMethod ({ cls := "java/lang/Exception", name := "<init>", desc := "()V" } : Jvm.MethodName)) ∈ lw_all := lw_g (lw_at lw_m2 52 rfl) rfl
theorem q333 : (Jvm.Cond.code ({ cls := "java/lang/Exception", name := "<init>", desc := "()V" } : Jvm.MethodName) prog_10_method_1_code (1 : Nat) (Option.none : Option Jvm.ClassFile.FieldType)) ∈ lw_all := lw_g (lw_at lw_m2 53 rfl) rfl
theorem q334 : (Jvm.Cond.methodLink "java/lang/Exception" (1 : Nat) ({ cls := "java/lang/Throwable", name := "<init>", desc := "()V" } : Jvm.MethodName)) ∈ lw_all := lw_g (lw_at lw_m2 54 rfl) rfl
theorem q507 : (Jvm.Cond.instanceMethod ({ cls := "java/lang/Exception", name := "<init>", desc := "(Ljava/lang/String;)V" } : Jvm.MethodName)) ∈ lw_all := lw_g (lw_at lw_m2 227 rfl) rfl
theorem q508 : (Jvm.Cond.code ({ cls := "java/lang/Exception", name := "<init>", desc := "(Ljava/lang/String;)V" } : Jvm.MethodName) prog_10_method_2_code (2 : Nat) (Option.none : Option Jvm.ClassFile.FieldType)) ∈ lw_all := lw_g (lw_at lw_m2 228 rfl) rfl
theorem q509 : (Jvm.Cond.methodLink "java/lang/Exception" (7 : Nat) ({ cls := "java/lang/Throwable", name := "<init>", desc := "(Ljava/lang/String;)V" } : Jvm.MethodName)) ∈ lw_all := lw_g (lw_at lw_m2 229 rfl) rfl

/-! java/lang/RuntimeException -/
set_option maxRecDepth 100000
def RJ2 : String := "java/lang/RuntimeException"
abbrev cJ2_init : ByteArray := prog_19_method_1_code
def yJ2_init : MethodName := ⟨RJ2, "<init>", "()V"⟩
theorem dJ2_init_0 : decode cJ2_init 0 = .ok (.aload_n 0, 1) := by decide +kernel
theorem dJ2_init_1 : decode cJ2_init 1 = .ok (.invokespecial 1, 3) := by decide +kernel
theorem dJ2_init_4 : decode cJ2_init 4 = .ok (.return_, 1) := by decide +kernel
abbrev cJ2_init_2 : ByteArray := prog_19_method_2_code
def yJ2_init_2 : MethodName := ⟨RJ2, "<init>", "(Ljava/lang/String;)V"⟩
def dkwJ2_init_2_0 : List UInt8 := [42, 43, 183, 0, 7, 177]
abbrev dktJ2_init_2_0 : List UInt8 := dkwJ2_init_2_0 ++ []
theorem dksJ2_init_2_0 : cJ2_init_2.data.toList.drop 0 = dktJ2_init_2_0 := by decide +kernel
theorem dJ2_init_2_0 : decode cJ2_init_2 0 = .ok (.aload_n 0, 1) := dk_42 (dk_at dksJ2_init_2_0 0 rfl rfl)
theorem dJ2_init_2_1 : decode cJ2_init_2 1 = .ok (.aload_n 1, 1) := dk_43 (dk_at dksJ2_init_2_0 1 rfl rfl)
theorem dJ2_init_2_2 : decode cJ2_init_2 2 = .ok (.invokespecial 7, 3) := dk_183 0 7 (dk_at dksJ2_init_2_0 2 rfl rfl)
theorem dJ2_init_2_5 : decode cJ2_init_2 5 = .ok (.return_, 1) := dk_177 (dk_at dksJ2_init_2_0 5 rfl rfl)
theorem q47 : (Jvm.Cond.initialized "java/lang/RuntimeException") ∈ lw_all := lw_g (lw_at lw_m1 7 rfl) rfl
theorem q286 : (Jvm.Cond.declares ({ cls := "java/lang/RuntimeException", name := "<init>", desc := "()V" } : Jvm.MethodName)) ∈ lw_tbl := lw_at lw_m2 6 rfl
theorem q287 : (Jvm.Cond.declares ({ cls := "java/lang/RuntimeException", name := "<init>", desc := "(Ljava/lang/String;)V" } : Jvm.MethodName)) ∈ lw_tbl := lw_at lw_m2 7 rfl
theorem q329 : (Jvm.Cond.instanceMethod ({ cls := "java/lang/RuntimeException", name := "<init>", desc := "()V" } : Jvm.MethodName)) ∈ lw_all := lw_g (lw_at lw_m2 49 rfl) rfl
theorem q330 : (Jvm.Cond.code ({ cls := "java/lang/RuntimeException", name := "<init>", desc := "()V" } : Jvm.MethodName) prog_19_method_1_code (1 : Nat) (Option.none : Option Jvm.ClassFile.FieldType)) ∈ lw_all := lw_g (lw_at lw_m2 50 rfl) rfl
theorem q331 : (Jvm.Cond.methodLink "java/lang/RuntimeException" (1 : Nat) ({ cls := "java/lang/Exception", name := "<init>", desc := "()V" } : Jvm.MethodName)) ∈ lw_all := lw_g (lw_at lw_m2 51 rfl) rfl
theorem q504 : (Jvm.Cond.instanceMethod ({ cls := "java/lang/RuntimeException", name := "<init>", desc := "(Ljava/lang/String;)V" } : Jvm.MethodName)) ∈ lw_all := lw_g (lw_at lw_m2 224 rfl) rfl
theorem q505 : (Jvm.Cond.code ({ cls := "java/lang/RuntimeException", name := "<init>", desc := "(Ljava/lang/String;)V" } : Jvm.MethodName) prog_19_method_2_code (2 : Nat) (Option.none : Option Jvm.ClassFile.FieldType)) ∈ lw_all := lw_g (lw_at lw_m2 225 rfl) rfl
theorem q506 : (Jvm.Cond.methodLink "java/lang/RuntimeException" (7 : Nat) ({ cls := "java/lang/Exception", name := "<init>", desc := "(Ljava/lang/String;)V" } : Jvm.MethodName)) ∈ lw_all := lw_g (lw_at lw_m2 226 rfl) rfl

/-! java/lang/IndexOutOfBoundsException -/
set_option maxRecDepth 100000
def RJ3 : String := "java/lang/IndexOutOfBoundsException"
def TJ3 : u_T := fun k => match k with
  | 0 => ("java/lang/Throwable", "cause", "Ljava/lang/Throwable;", false)
  | 1 => ("java/lang/Throwable", "stackTrace", "[Ljava/lang/StackTraceElement;", false)
  | 2 => ("java/lang/Throwable", "suppressedExceptions", "Ljava/util/List;", false)
  | 3 => ("java/lang/Throwable", "detailMessage", "Ljava/lang/String;", false)
  | 4 => ("java/lang/Throwable", "backtrace", "Ljava/lang/Object;", false)
  | _ => ("java/lang/Throwable", "depth", "I", false)
def tyJ3 : Nat → FieldType := fun k => match k with
  | 0 => .object "java/lang/Throwable"
  | 1 => .array (.object "java/lang/StackTraceElement")
  | 2 => .object "java/util/List"
  | 3 => .object "java/lang/String"
  | 4 => .object "java/lang/Object"
  | _ => .int
abbrev wsJ30 : List Cond := u_ws RJ3 TJ3 6
theorem nmJ3 : ∀ a, a < 6 → ∀ b, b < 6 → a ≠ b → (TJ3 a).2.1 ≠ (TJ3 b).2.1 := by decide +kernel
theorem tyJ3_ok : ∀ k, k < 6 → parseFieldDescriptor (TJ3 k).2.2.1 = some (tyJ3 k) := by decide +kernel
abbrev cJ3_init : ByteArray := prog_15_method_1_code
def yJ3_init : MethodName := ⟨RJ3, "<init>", "()V"⟩
theorem dJ3_init_0 : decode cJ3_init 0 = .ok (.aload_n 0, 1) := by decide +kernel
theorem dJ3_init_1 : decode cJ3_init 1 = .ok (.invokespecial 1, 3) := by decide +kernel
theorem dJ3_init_4 : decode cJ3_init 4 = .ok (.return_, 1) := by decide +kernel
abbrev cJ3_init_2 : ByteArray := prog_15_method_2_code
def yJ3_init_2 : MethodName := ⟨RJ3, "<init>", "(Ljava/lang/String;)V"⟩
def dkwJ3_init_2_0 : List UInt8 := [42, 43, 183, 0, 7, 177]
abbrev dktJ3_init_2_0 : List UInt8 := dkwJ3_init_2_0 ++ []
theorem dksJ3_init_2_0 : cJ3_init_2.data.toList.drop 0 = dktJ3_init_2_0 := by decide +kernel
theorem dJ3_init_2_0 : decode cJ3_init_2 0 = .ok (.aload_n 0, 1) := dk_42 (dk_at dksJ3_init_2_0 0 rfl rfl)
theorem dJ3_init_2_1 : decode cJ3_init_2 1 = .ok (.aload_n 1, 1) := dk_43 (dk_at dksJ3_init_2_0 1 rfl rfl)
theorem dJ3_init_2_2 : decode cJ3_init_2 2 = .ok (.invokespecial 7, 3) := dk_183 0 7 (dk_at dksJ3_init_2_0 2 rfl rfl)
theorem dJ3_init_2_5 : decode cJ3_init_2 5 = .ok (.return_, 1) := dk_177 (dk_at dksJ3_init_2_0 5 rfl rfl)
theorem q48 : (Jvm.Cond.initialized "java/lang/IndexOutOfBoundsException") ∈ lw_all := lw_g (lw_at lw_m1 8 rfl) rfl
theorem q318 : (Jvm.Cond.selects "java/lang/IndexOutOfBoundsException" ({ cls := "java/lang/Throwable", name := "fillInStackTrace", desc := "()Ljava/lang/Throwable;" } : Jvm.MethodName) ({ cls := "java/lang/Throwable", name := "fillInStackTrace", desc := "()Ljava/lang/Throwable;" } : Jvm.MethodName)) ∈ lw_all := lw_g (lw_at lw_m2 38 rfl) rfl
theorem q407 : (Jvm.Cond.instantiable "java/lang/IndexOutOfBoundsException" (6 : Nat)) ∈ lw_all := lw_g (lw_at lw_m2 127 rfl) rfl
theorem q408 : (Jvm.Cond.castable "java/lang/IndexOutOfBoundsException" "java/lang/IndexOutOfBoundsException") ∈ lw_tbl := lw_at lw_m2 128 rfl
theorem q409 : (Jvm.Cond.selects "java/lang/IndexOutOfBoundsException" ({ cls := "java/lang/Throwable", name := "fillInStackTrace", desc := "(I)Ljava/lang/Throwable;" } : Jvm.MethodName) ({ cls := "java/lang/Throwable", name := "fillInStackTrace", desc := "(I)Ljava/lang/Throwable;" } : Jvm.MethodName)) ∈ lw_all := lw_g (lw_at lw_m2 129 rfl) rfl
theorem q410 : (Jvm.Cond.lays "java/lang/IndexOutOfBoundsException" "java/lang/Throwable" "cause" "Ljava/lang/Throwable;") ∈ lw_all := lw_g (lw_at lw_m2 130 rfl) rfl
theorem q411 : (Jvm.Cond.lays "java/lang/IndexOutOfBoundsException" "java/lang/Throwable" "stackTrace" "[Ljava/lang/StackTraceElement;") ∈ lw_all := lw_g (lw_at lw_m2 131 rfl) rfl
theorem q412 : (Jvm.Cond.lays "java/lang/IndexOutOfBoundsException" "java/lang/Throwable" "suppressedExceptions" "Ljava/util/List;") ∈ lw_all := lw_g (lw_at lw_m2 132 rfl) rfl
theorem q413 : (Jvm.Cond.lays "java/lang/IndexOutOfBoundsException" "java/lang/Throwable" "detailMessage" "Ljava/lang/String;") ∈ lw_all := lw_g (lw_at lw_m2 133 rfl) rfl
theorem q414 : (Jvm.Cond.lays "java/lang/IndexOutOfBoundsException" "java/lang/Throwable" "backtrace" "Ljava/lang/Object;") ∈ lw_all := lw_g (lw_at lw_m2 134 rfl) rfl
theorem q416 : (Jvm.Cond.instanceMethod ({ cls := "java/lang/IndexOutOfBoundsException", name := "<init>", desc := "()V" } : Jvm.MethodName)) ∈ lw_all := lw_g (lw_at lw_m2 136 rfl) rfl
theorem q417 : (Jvm.Cond.code ({ cls := "java/lang/IndexOutOfBoundsException", name := "<init>", desc := "()V" } : Jvm.MethodName) prog_15_method_1_code (1 : Nat) (Option.none : Option Jvm.ClassFile.FieldType)) ∈ lw_all := lw_g (lw_at lw_m2 137 rfl) rfl
theorem q418 : (Jvm.Cond.methodLink "java/lang/IndexOutOfBoundsException" (1 : Nat) ({ cls := "java/lang/RuntimeException", name := "<init>", desc := "()V" } : Jvm.MethodName)) ∈ lw_all := lw_g (lw_at lw_m2 138 rfl) rfl
theorem q419 : (Jvm.Cond.lays "java/lang/IndexOutOfBoundsException" "java/lang/Throwable" "depth" "I") ∈ lw_all := lw_g (lw_at lw_m2 139 rfl) rfl
theorem q420 : (Jvm.Cond.superclass "java/lang/IndexOutOfBoundsException" "java/lang/RuntimeException") ∈ lw_all := lw_g (lw_at lw_m2 140 rfl) rfl
theorem q501 : (Jvm.Cond.instanceMethod ({ cls := "java/lang/IndexOutOfBoundsException", name := "<init>", desc := "(Ljava/lang/String;)V" } : Jvm.MethodName)) ∈ lw_all := lw_g (lw_at lw_m2 221 rfl) rfl
theorem q502 : (Jvm.Cond.code ({ cls := "java/lang/IndexOutOfBoundsException", name := "<init>", desc := "(Ljava/lang/String;)V" } : Jvm.MethodName) prog_15_method_2_code (2 : Nat) (Option.none : Option Jvm.ClassFile.FieldType)) ∈ lw_all := lw_g (lw_at lw_m2 222 rfl) rfl
theorem q503 : (Jvm.Cond.methodLink "java/lang/IndexOutOfBoundsException" (7 : Nat) ({ cls := "java/lang/RuntimeException", name := "<init>", desc := "(Ljava/lang/String;)V" } : Jvm.MethodName)) ∈ lw_all := lw_g (lw_at lw_m2 223 rfl) rfl
theorem q520 : (Jvm.Cond.declares ({ cls := "java/lang/IndexOutOfBoundsException", name := "<init>", desc := "()V" } : Jvm.MethodName)) ∈ lw_tbl := lw_at lw_m3 0 rfl
theorem q521 : (Jvm.Cond.declares ({ cls := "java/lang/IndexOutOfBoundsException", name := "<init>", desc := "(Ljava/lang/String;)V" } : Jvm.MethodName)) ∈ lw_tbl := lw_at lw_m3 1 rfl
theorem in_J3 : ∀ w ∈ wsJ30, w ∈ lw_all := lw_in wsJ30 [410, 411, 412, 413, 414, 419] (by decide +kernel) (by decide +kernel)

/-! java/lang/ArrayIndexOutOfBoundsException -/
set_option maxRecDepth 100000
def RJ4 : String := "java/lang/ArrayIndexOutOfBoundsException"
def TJ4 : u_T := fun k => match k with
  | 0 => ("java/lang/Throwable", "backtrace", "Ljava/lang/Object;", false)
  | 1 => ("java/lang/Throwable", "detailMessage", "Ljava/lang/String;", false)
  | 2 => ("java/lang/Throwable", "cause", "Ljava/lang/Throwable;", false)
  | 3 => ("java/lang/Throwable", "stackTrace", "[Ljava/lang/StackTraceElement;", false)
  | 4 => ("java/lang/Throwable", "depth", "I", false)
  | _ => ("java/lang/Throwable", "suppressedExceptions", "Ljava/util/List;", false)
def tyJ4 : Nat → FieldType := fun k => match k with
  | 0 => .object "java/lang/Object"
  | 1 => .object "java/lang/String"
  | 2 => .object "java/lang/Throwable"
  | 3 => .array (.object "java/lang/StackTraceElement")
  | 4 => .int
  | _ => .object "java/util/List"
abbrev wsJ40 : List Cond := u_ws RJ4 TJ4 6
theorem nmJ4 : ∀ a, a < 6 → ∀ b, b < 6 → a ≠ b → (TJ4 a).2.1 ≠ (TJ4 b).2.1 := by decide +kernel
theorem tyJ4_ok : ∀ k, k < 6 → parseFieldDescriptor (TJ4 k).2.2.1 = some (tyJ4 k) := by decide +kernel
abbrev cJ4_init : ByteArray := prog_7_method_2_code
def yJ4_init : MethodName := ⟨RJ4, "<init>", "(Ljava/lang/String;)V"⟩
def dkwJ4_init_0 : List UInt8 := [42, 43, 183, 0, 7, 177]
abbrev dktJ4_init_0 : List UInt8 := dkwJ4_init_0 ++ []
theorem dksJ4_init_0 : cJ4_init.data.toList.drop 0 = dktJ4_init_0 := by decide +kernel
theorem dJ4_init_0 : decode cJ4_init 0 = .ok (.aload_n 0, 1) := dk_42 (dk_at dksJ4_init_0 0 rfl rfl)
theorem dJ4_init_1 : decode cJ4_init 1 = .ok (.aload_n 1, 1) := dk_43 (dk_at dksJ4_init_0 1 rfl rfl)
theorem dJ4_init_2 : decode cJ4_init 2 = .ok (.invokespecial 7, 3) := dk_183 0 7 (dk_at dksJ4_init_0 2 rfl rfl)
theorem dJ4_init_5 : decode cJ4_init 5 = .ok (.return_, 1) := dk_177 (dk_at dksJ4_init_0 5 rfl rfl)
abbrev cJ4_init_2 : ByteArray := prog_7_method_3_code
def yJ4_init_2 : MethodName := ⟨RJ4, "<init>", "(I)V"⟩
def dkwJ4_init_2_0 : List UInt8 := [42, 187, 0, 10, 89, 183, 0, 12, 18, 13, 182, 0, 15, 27, 182, 0, 19, 182, 0, 22, 183, 0, 7, 177]
abbrev dktJ4_init_2_0 : List UInt8 := dkwJ4_init_2_0 ++ []
theorem dksJ4_init_2_0 : cJ4_init_2.data.toList.drop 0 = dktJ4_init_2_0 := by decide +kernel
theorem dJ4_init_2_0 : decode cJ4_init_2 0 = .ok (.aload_n 0, 1) := dk_42 (dk_at dksJ4_init_2_0 0 rfl rfl)
theorem dJ4_init_2_1 : decode cJ4_init_2 1 = .ok (.new 10, 3) := dk_187 0 10 (dk_at dksJ4_init_2_0 1 rfl rfl)
theorem dJ4_init_2_4 : decode cJ4_init_2 4 = .ok (.dup, 1) := dk_89 (dk_at dksJ4_init_2_0 4 rfl rfl)
theorem dJ4_init_2_5 : decode cJ4_init_2 5 = .ok (.invokespecial 12, 3) := dk_183 0 12 (dk_at dksJ4_init_2_0 5 rfl rfl)
theorem dJ4_init_2_8 : decode cJ4_init_2 8 = .ok (.ldc 13, 2) := dk_18 13 (dk_at dksJ4_init_2_0 8 rfl rfl)
theorem dJ4_init_2_10 : decode cJ4_init_2 10 = .ok (.invokevirtual 15, 3) := dk_182 0 15 (dk_at dksJ4_init_2_0 10 rfl rfl)
theorem dJ4_init_2_13 : decode cJ4_init_2 13 = .ok (.iload_n 1, 1) := dk_27 (dk_at dksJ4_init_2_0 13 rfl rfl)
theorem dJ4_init_2_14 : decode cJ4_init_2 14 = .ok (.invokevirtual 19, 3) := dk_182 0 19 (dk_at dksJ4_init_2_0 14 rfl rfl)
theorem dJ4_init_2_17 : decode cJ4_init_2 17 = .ok (.invokevirtual 22, 3) := dk_182 0 22 (dk_at dksJ4_init_2_0 17 rfl rfl)
theorem dJ4_init_2_20 : decode cJ4_init_2 20 = .ok (.invokespecial 7, 3) := dk_183 0 7 (dk_at dksJ4_init_2_0 20 rfl rfl)
theorem dJ4_init_2_23 : decode cJ4_init_2 23 = .ok (.return_, 1) := dk_177 (dk_at dksJ4_init_2_0 23 rfl rfl)
theorem q49 : (Jvm.Cond.initialized "java/lang/ArrayIndexOutOfBoundsException") ∈ lw_all := lw_g (lw_at lw_m1 9 rfl) rfl
theorem q316 : (Jvm.Cond.selects "java/lang/ArrayIndexOutOfBoundsException" ({ cls := "java/lang/Throwable", name := "fillInStackTrace", desc := "()Ljava/lang/Throwable;" } : Jvm.MethodName) ({ cls := "java/lang/Throwable", name := "fillInStackTrace", desc := "()Ljava/lang/Throwable;" } : Jvm.MethodName)) ∈ lw_all := lw_g (lw_at lw_m2 36 rfl) rfl
theorem q497 : (Jvm.Cond.instantiable "java/lang/ArrayIndexOutOfBoundsException" (6 : Nat)) ∈ lw_all := lw_g (lw_at lw_m2 217 rfl) rfl
theorem q498 : (Jvm.Cond.instanceMethod ({ cls := "java/lang/ArrayIndexOutOfBoundsException", name := "<init>", desc := "(Ljava/lang/String;)V" } : Jvm.MethodName)) ∈ lw_all := lw_g (lw_at lw_m2 218 rfl) rfl
theorem q499 : (Jvm.Cond.code ({ cls := "java/lang/ArrayIndexOutOfBoundsException", name := "<init>", desc := "(Ljava/lang/String;)V" } : Jvm.MethodName) prog_7_method_2_code (2 : Nat) (Option.none : Option Jvm.ClassFile.FieldType)) ∈ lw_all := lw_g (lw_at lw_m2 219 rfl) rfl
theorem q500 : (Jvm.Cond.methodLink "java/lang/ArrayIndexOutOfBoundsException" (7 : Nat) ({ cls := "java/lang/IndexOutOfBoundsException", name := "<init>", desc := "(Ljava/lang/String;)V" } : Jvm.MethodName)) ∈ lw_all := lw_g (lw_at lw_m2 220 rfl) rfl
theorem q512 : (Jvm.Cond.lays "java/lang/ArrayIndexOutOfBoundsException" "java/lang/Throwable" "backtrace" "Ljava/lang/Object;") ∈ lw_all := lw_g (lw_at lw_m2 232 rfl) rfl
theorem q513 : (Jvm.Cond.lays "java/lang/ArrayIndexOutOfBoundsException" "java/lang/Throwable" "detailMessage" "Ljava/lang/String;") ∈ lw_all := lw_g (lw_at lw_m2 233 rfl) rfl
theorem q514 : (Jvm.Cond.lays "java/lang/ArrayIndexOutOfBoundsException" "java/lang/Throwable" "cause" "Ljava/lang/Throwable;") ∈ lw_all := lw_g (lw_at lw_m2 234 rfl) rfl
theorem q515 : (Jvm.Cond.lays "java/lang/ArrayIndexOutOfBoundsException" "java/lang/Throwable" "stackTrace" "[Ljava/lang/StackTraceElement;") ∈ lw_all := lw_g (lw_at lw_m2 235 rfl) rfl
theorem q516 : (Jvm.Cond.lays "java/lang/ArrayIndexOutOfBoundsException" "java/lang/Throwable" "depth" "I") ∈ lw_all := lw_g (lw_at lw_m2 236 rfl) rfl
theorem q517 : (Jvm.Cond.lays "java/lang/ArrayIndexOutOfBoundsException" "java/lang/Throwable" "suppressedExceptions" "Ljava/util/List;") ∈ lw_all := lw_g (lw_at lw_m2 237 rfl) rfl
theorem q518 : (Jvm.Cond.superclass "java/lang/ArrayIndexOutOfBoundsException" "java/lang/IndexOutOfBoundsException") ∈ lw_all := lw_g (lw_at lw_m2 238 rfl) rfl
theorem q519 : (Jvm.Cond.castable "java/lang/ArrayIndexOutOfBoundsException" "java/lang/ArrayIndexOutOfBoundsException") ∈ lw_tbl := lw_at lw_m2 239 rfl
theorem q522 : (Jvm.Cond.selects "java/lang/ArrayIndexOutOfBoundsException" ({ cls := "java/lang/Throwable", name := "fillInStackTrace", desc := "(I)Ljava/lang/Throwable;" } : Jvm.MethodName) ({ cls := "java/lang/Throwable", name := "fillInStackTrace", desc := "(I)Ljava/lang/Throwable;" } : Jvm.MethodName)) ∈ lw_all := lw_g (lw_at lw_m3 2 rfl) rfl
theorem q1592 : (Jvm.Cond.instanceMethod ({ cls := "java/lang/ArrayIndexOutOfBoundsException", name := "<init>", desc := "(I)V" } : Jvm.MethodName)) ∈ lw_all := lw_g (lw_at lw_m7 112 rfl) rfl
theorem q1593 : (Jvm.Cond.code ({ cls := "java/lang/ArrayIndexOutOfBoundsException", name := "<init>", desc := "(I)V" } : Jvm.MethodName) prog_7_method_3_code (2 : Nat) (Option.none : Option Jvm.ClassFile.FieldType)) ∈ lw_all := lw_g (lw_at lw_m7 113 rfl) rfl
theorem q1594 : (Jvm.Cond.classLink "java/lang/ArrayIndexOutOfBoundsException" (10 : Nat) "java/lang/StringBuilder") ∈ lw_all := lw_g (lw_at lw_m7 114 rfl) rfl
theorem q1595 : (Jvm.Cond.methodLink "java/lang/ArrayIndexOutOfBoundsException" (12 : Nat) ({ cls := "java/lang/StringBuilder", name := "<init>", desc := "()V" } : Jvm.MethodName)) ∈ lw_all := lw_g (lw_at lw_m7 115 rfl) rfl
theorem q1596 : (Jvm.Cond.stringRef "java/lang/ArrayIndexOutOfBoundsException" (13 : Nat) "Array index out of range: ") ∈ lw_tbl := lw_at lw_m7 116 rfl
theorem q1597 : (Jvm.Cond.methodLink "java/lang/ArrayIndexOutOfBoundsException" (15 : Nat) ({ cls := "java/lang/StringBuilder", name := "append", desc := "(Ljava/lang/String;)Ljava/lang/StringBuilder;" } : Jvm.MethodName)) ∈ lw_all := lw_g (lw_at lw_m7 117 rfl) rfl
theorem q1598 : (Jvm.Cond.methodLink "java/lang/ArrayIndexOutOfBoundsException" (19 : Nat) ({ cls := "java/lang/StringBuilder", name := "append", desc := "(I)Ljava/lang/StringBuilder;" } : Jvm.MethodName)) ∈ lw_all := lw_g (lw_at lw_m7 118 rfl) rfl
theorem q1599 : (Jvm.Cond.methodLink "java/lang/ArrayIndexOutOfBoundsException" (22 : Nat) ({ cls := "java/lang/StringBuilder", name := "toString", desc := "()Ljava/lang/String;" } : Jvm.MethodName)) ∈ lw_all := lw_g (lw_at lw_m7 119 rfl) rfl
theorem q1865 : (Jvm.Cond.castable "java/lang/ArrayIndexOutOfBoundsException" "java/lang/IndexOutOfBoundsException") ∈ lw_tbl := lw_at lw_m8 145 rfl
theorem in_J4 : ∀ w ∈ wsJ40, w ∈ lw_all := lw_in wsJ40 [512, 513, 514, 515, 516, 517] (by decide +kernel) (by decide +kernel)

/-! java/lang/String -/
set_option maxRecDepth 100000
def RJ5 : String := "java/lang/String"
def TJ5 : u_T := fun k => match k with
  | 0 => ("java/lang/String", "value", "[B", true)
  | 1 => ("java/lang/String", "coder", "B", true)
  | 2 => ("java/lang/String", "hash", "I", false)
  | _ => ("java/lang/String", "hashIsZero", "Z", false)
def tyJ5 : Nat → FieldType := fun k => match k with
  | 0 => .array .byte
  | 1 => .byte
  | 2 => .int
  | _ => .boolean
abbrev wsJ50 : List Cond := u_ws RJ5 TJ5 4
theorem nmJ5 : ∀ a, a < 4 → ∀ b, b < 4 → a ≠ b → (TJ5 a).2.1 ≠ (TJ5 b).2.1 := by decide +kernel
theorem tyJ5_ok : ∀ k, k < 4 → parseFieldDescriptor (TJ5 k).2.2.1 = some (tyJ5 k) := by decide +kernel
abbrev cJ5_checkBoundsBeginEnd : ByteArray := prog_21_method_158_code
def yJ5_checkBoundsBeginEnd : MethodName := ⟨RJ5, "checkBoundsBeginEnd", "(III)V"⟩
def dkwJ5_checkBoundsBeginEnd_0 : List UInt8 := [26, 27, 28, 178, 4, 29, 184, 4, 38, 87, 177]
abbrev dktJ5_checkBoundsBeginEnd_0 : List UInt8 := dkwJ5_checkBoundsBeginEnd_0 ++ []
theorem dksJ5_checkBoundsBeginEnd_0 : cJ5_checkBoundsBeginEnd.data.toList.drop 0 = dktJ5_checkBoundsBeginEnd_0 := by decide +kernel
theorem dJ5_checkBoundsBeginEnd_0 : decode cJ5_checkBoundsBeginEnd 0 = .ok (.iload_n 0, 1) := dk_26 (dk_at dksJ5_checkBoundsBeginEnd_0 0 rfl rfl)
theorem dJ5_checkBoundsBeginEnd_1 : decode cJ5_checkBoundsBeginEnd 1 = .ok (.iload_n 1, 1) := dk_27 (dk_at dksJ5_checkBoundsBeginEnd_0 1 rfl rfl)
theorem dJ5_checkBoundsBeginEnd_2 : decode cJ5_checkBoundsBeginEnd 2 = .ok (.iload_n 2, 1) := dk_28 (dk_at dksJ5_checkBoundsBeginEnd_0 2 rfl rfl)
theorem dJ5_checkBoundsBeginEnd_3 : decode cJ5_checkBoundsBeginEnd 3 = .ok (.getstatic 1053, 3) := dk_178 4 29 (dk_at dksJ5_checkBoundsBeginEnd_0 3 rfl rfl)
theorem dJ5_checkBoundsBeginEnd_6 : decode cJ5_checkBoundsBeginEnd 6 = .ok (.invokestatic 1062, 3) := dk_184 4 38 (dk_at dksJ5_checkBoundsBeginEnd_0 6 rfl rfl)
theorem dJ5_checkBoundsBeginEnd_9 : decode cJ5_checkBoundsBeginEnd 9 = .ok (.pop, 1) := dk_87 (dk_at dksJ5_checkBoundsBeginEnd_0 9 rfl rfl)
theorem dJ5_checkBoundsBeginEnd_10 : decode cJ5_checkBoundsBeginEnd 10 = .ok (.return_, 1) := dk_177 (dk_at dksJ5_checkBoundsBeginEnd_0 10 rfl rfl)
abbrev cJ5_length : ByteArray := prog_21_method_54_code
def yJ5_length : MethodName := ⟨RJ5, "length", "()I"⟩
def dkwJ5_length_0 : List UInt8 := [42, 180, 0, 9, 190, 42, 182, 1, 79, 122, 172]
abbrev dktJ5_length_0 : List UInt8 := dkwJ5_length_0 ++ []
theorem dksJ5_length_0 : cJ5_length.data.toList.drop 0 = dktJ5_length_0 := by decide +kernel
theorem dJ5_length_0 : decode cJ5_length 0 = .ok (.aload_n 0, 1) := dk_42 (dk_at dksJ5_length_0 0 rfl rfl)
theorem dJ5_length_1 : decode cJ5_length 1 = .ok (.getfield 9, 3) := dk_180 0 9 (dk_at dksJ5_length_0 1 rfl rfl)
theorem dJ5_length_4 : decode cJ5_length 4 = .ok (.arraylength, 1) := dk_190 (dk_at dksJ5_length_0 4 rfl rfl)
theorem dJ5_length_5 : decode cJ5_length 5 = .ok (.aload_n 0, 1) := dk_42 (dk_at dksJ5_length_0 5 rfl rfl)
theorem dJ5_length_6 : decode cJ5_length 6 = .ok (.invokevirtual 335, 3) := dk_182 1 79 (dk_at dksJ5_length_0 6 rfl rfl)
theorem dJ5_length_9 : decode cJ5_length 9 = .ok (.ishr, 1) := dk_122 (dk_at dksJ5_length_0 9 rfl rfl)
theorem dJ5_length_10 : decode cJ5_length 10 = .ok (.ireturn, 1) := dk_172 (dk_at dksJ5_length_0 10 rfl rfl)
abbrev cJ5_coder : ByteArray := prog_21_method_152_code
def yJ5_coder : MethodName := ⟨RJ5, "coder", "()B"⟩
def dkwJ5_coder_0 : List UInt8 := [178, 0, 38, 153, 0, 10, 42, 180, 0, 15, 167, 0, 4, 4, 172]
abbrev dktJ5_coder_0 : List UInt8 := dkwJ5_coder_0 ++ []
theorem dksJ5_coder_0 : cJ5_coder.data.toList.drop 0 = dktJ5_coder_0 := by decide +kernel
theorem dJ5_coder_0 : decode cJ5_coder 0 = .ok (.getstatic 38, 3) := dk_178 0 38 (dk_at dksJ5_coder_0 0 rfl rfl)
theorem dJ5_coder_3 : decode cJ5_coder 3 = .ok (.ifCond .eq 10, 3) := dk_153 0 10 (dk_at dksJ5_coder_0 3 rfl rfl)
theorem dJ5_coder_6 : decode cJ5_coder 6 = .ok (.aload_n 0, 1) := dk_42 (dk_at dksJ5_coder_0 6 rfl rfl)
theorem dJ5_coder_7 : decode cJ5_coder 7 = .ok (.getfield 15, 3) := dk_180 0 15 (dk_at dksJ5_coder_0 7 rfl rfl)
theorem dJ5_coder_10 : decode cJ5_coder 10 = .ok (.goto 4, 3) := dk_167 0 4 (dk_at dksJ5_coder_0 10 rfl rfl)
theorem dJ5_coder_13 : decode cJ5_coder 13 = .ok (.iconst 1, 1) := dk_4 (dk_at dksJ5_coder_0 13 rfl rfl)
theorem dJ5_coder_14 : decode cJ5_coder 14 = .ok (.ireturn, 1) := dk_172 (dk_at dksJ5_coder_0 14 rfl rfl)
abbrev cJ5_checkBoundsOffCount : ByteArray := prog_21_method_157_code
def yJ5_checkBoundsOffCount : MethodName := ⟨RJ5, "checkBoundsOffCount", "(III)I"⟩
def dkwJ5_checkBoundsOffCount_0 : List UInt8 := [26, 27, 28, 178, 4, 29, 184, 4, 41, 172]
abbrev dktJ5_checkBoundsOffCount_0 : List UInt8 := dkwJ5_checkBoundsOffCount_0 ++ []
theorem dksJ5_checkBoundsOffCount_0 : cJ5_checkBoundsOffCount.data.toList.drop 0 = dktJ5_checkBoundsOffCount_0 := by decide +kernel
theorem dJ5_checkBoundsOffCount_0 : decode cJ5_checkBoundsOffCount 0 = .ok (.iload_n 0, 1) := dk_26 (dk_at dksJ5_checkBoundsOffCount_0 0 rfl rfl)
theorem dJ5_checkBoundsOffCount_1 : decode cJ5_checkBoundsOffCount 1 = .ok (.iload_n 1, 1) := dk_27 (dk_at dksJ5_checkBoundsOffCount_0 1 rfl rfl)
theorem dJ5_checkBoundsOffCount_2 : decode cJ5_checkBoundsOffCount 2 = .ok (.iload_n 2, 1) := dk_28 (dk_at dksJ5_checkBoundsOffCount_0 2 rfl rfl)
theorem dJ5_checkBoundsOffCount_3 : decode cJ5_checkBoundsOffCount 3 = .ok (.getstatic 1053, 3) := dk_178 4 29 (dk_at dksJ5_checkBoundsOffCount_0 3 rfl rfl)
theorem dJ5_checkBoundsOffCount_6 : decode cJ5_checkBoundsOffCount 6 = .ok (.invokestatic 1065, 3) := dk_184 4 41 (dk_at dksJ5_checkBoundsOffCount_0 6 rfl rfl)
theorem dJ5_checkBoundsOffCount_9 : decode cJ5_checkBoundsOffCount 9 = .ok (.ireturn, 1) := dk_172 (dk_at dksJ5_checkBoundsOffCount_0 9 rfl rfl)
abbrev cJ5_getBytes : ByteArray := prog_21_method_147_code
def yJ5_getBytes : MethodName := ⟨RJ5, "getBytes", "([BIB)V"⟩
def dkwJ5_getBytes_1 : List UInt8 := [184, 0, 212, 167, 0, 18, 42, 180, 0, 9, 3, 43, 28, 42, 180, 0, 9, 190, 184, 0, 106, 177]
abbrev dktJ5_getBytes_1 : List UInt8 := dkwJ5_getBytes_1 ++ []
def dkwJ5_getBytes_0 : List UInt8 := [42, 182, 1, 79, 29, 160, 0, 23, 42, 180, 0, 9, 3, 43, 28, 29, 120, 42, 180, 0, 9, 190]
abbrev dktJ5_getBytes_0 : List UInt8 := dkwJ5_getBytes_0 ++ dktJ5_getBytes_1
theorem dksJ5_getBytes_0 : cJ5_getBytes.data.toList.drop 0 = dktJ5_getBytes_0 := by decide +kernel
theorem dksJ5_getBytes_1 : cJ5_getBytes.data.toList.drop 22 = dktJ5_getBytes_1 := dk_seg dksJ5_getBytes_0 22 rfl rfl
theorem dJ5_getBytes_0 : decode cJ5_getBytes 0 = .ok (.aload_n 0, 1) := dk_42 (dk_at dksJ5_getBytes_0 0 rfl rfl)
theorem dJ5_getBytes_1 : decode cJ5_getBytes 1 = .ok (.invokevirtual 335, 3) := dk_182 1 79 (dk_at dksJ5_getBytes_0 1 rfl rfl)
theorem dJ5_getBytes_4 : decode cJ5_getBytes 4 = .ok (.iload_n 3, 1) := dk_29 (dk_at dksJ5_getBytes_0 4 rfl rfl)
theorem dJ5_getBytes_5 : decode cJ5_getBytes 5 = .ok (.if_icmp .ne 23, 3) := dk_160 0 23 (dk_at dksJ5_getBytes_0 5 rfl rfl)
theorem dJ5_getBytes_8 : decode cJ5_getBytes 8 = .ok (.aload_n 0, 1) := dk_42 (dk_at dksJ5_getBytes_0 8 rfl rfl)
theorem dJ5_getBytes_9 : decode cJ5_getBytes 9 = .ok (.getfield 9, 3) := dk_180 0 9 (dk_at dksJ5_getBytes_0 9 rfl rfl)
theorem dJ5_getBytes_12 : decode cJ5_getBytes 12 = .ok (.iconst 0, 1) := dk_3 (dk_at dksJ5_getBytes_0 12 rfl rfl)
theorem dJ5_getBytes_13 : decode cJ5_getBytes 13 = .ok (.aload_n 1, 1) := dk_43 (dk_at dksJ5_getBytes_0 13 rfl rfl)
theorem dJ5_getBytes_14 : decode cJ5_getBytes 14 = .ok (.iload_n 2, 1) := dk_28 (dk_at dksJ5_getBytes_0 14 rfl rfl)
theorem dJ5_getBytes_15 : decode cJ5_getBytes 15 = .ok (.iload_n 3, 1) := dk_29 (dk_at dksJ5_getBytes_0 15 rfl rfl)
theorem dJ5_getBytes_16 : decode cJ5_getBytes 16 = .ok (.ishl, 1) := dk_120 (dk_at dksJ5_getBytes_0 16 rfl rfl)
theorem dJ5_getBytes_17 : decode cJ5_getBytes 17 = .ok (.aload_n 0, 1) := dk_42 (dk_at dksJ5_getBytes_0 17 rfl rfl)
theorem dJ5_getBytes_18 : decode cJ5_getBytes 18 = .ok (.getfield 9, 3) := dk_180 0 9 (dk_at dksJ5_getBytes_0 18 rfl rfl)
theorem dJ5_getBytes_21 : decode cJ5_getBytes 21 = .ok (.arraylength, 1) := dk_190 (dk_at dksJ5_getBytes_0 21 rfl rfl)
theorem dJ5_getBytes_22 : decode cJ5_getBytes 22 = .ok (.invokestatic 212, 3) := dk_184 0 212 (dk_at dksJ5_getBytes_1 0 rfl rfl)
theorem dJ5_getBytes_25 : decode cJ5_getBytes 25 = .ok (.goto 18, 3) := dk_167 0 18 (dk_at dksJ5_getBytes_1 3 rfl rfl)
theorem dJ5_getBytes_28 : decode cJ5_getBytes 28 = .ok (.aload_n 0, 1) := dk_42 (dk_at dksJ5_getBytes_1 6 rfl rfl)
theorem dJ5_getBytes_29 : decode cJ5_getBytes 29 = .ok (.getfield 9, 3) := dk_180 0 9 (dk_at dksJ5_getBytes_1 7 rfl rfl)
theorem dJ5_getBytes_32 : decode cJ5_getBytes 32 = .ok (.iconst 0, 1) := dk_3 (dk_at dksJ5_getBytes_1 10 rfl rfl)
theorem dJ5_getBytes_33 : decode cJ5_getBytes 33 = .ok (.aload_n 1, 1) := dk_43 (dk_at dksJ5_getBytes_1 11 rfl rfl)
theorem dJ5_getBytes_34 : decode cJ5_getBytes 34 = .ok (.iload_n 2, 1) := dk_28 (dk_at dksJ5_getBytes_1 12 rfl rfl)
theorem dJ5_getBytes_35 : decode cJ5_getBytes 35 = .ok (.aload_n 0, 1) := dk_42 (dk_at dksJ5_getBytes_1 13 rfl rfl)
theorem dJ5_getBytes_36 : decode cJ5_getBytes 36 = .ok (.getfield 9, 3) := dk_180 0 9 (dk_at dksJ5_getBytes_1 14 rfl rfl)
theorem dJ5_getBytes_39 : decode cJ5_getBytes 39 = .ok (.arraylength, 1) := dk_190 (dk_at dksJ5_getBytes_1 17 rfl rfl)
theorem dJ5_getBytes_40 : decode cJ5_getBytes 40 = .ok (.invokestatic 106, 3) := dk_184 0 106 (dk_at dksJ5_getBytes_1 18 rfl rfl)
theorem dJ5_getBytes_43 : decode cJ5_getBytes 43 = .ok (.return_, 1) := dk_177 (dk_at dksJ5_getBytes_1 21 rfl rfl)
abbrev cJ5_init : ByteArray := prog_21_method_53_code
def yJ5_init : MethodName := ⟨RJ5, "<init>", "(Ljava/lang/StringBuilder;)V"⟩
def dkwJ5_init_0 : List UInt8 := [42, 43, 1, 183, 1, 233, 177]
abbrev dktJ5_init_0 : List UInt8 := dkwJ5_init_0 ++ []
theorem dksJ5_init_0 : cJ5_init.data.toList.drop 0 = dktJ5_init_0 := by decide +kernel
theorem dJ5_init_0 : decode cJ5_init 0 = .ok (.aload_n 0, 1) := dk_42 (dk_at dksJ5_init_0 0 rfl rfl)
theorem dJ5_init_1 : decode cJ5_init 1 = .ok (.aload_n 1, 1) := dk_43 (dk_at dksJ5_init_0 1 rfl rfl)
theorem dJ5_init_2 : decode cJ5_init 2 = .ok (.aconst_null, 1) := dk_1 (dk_at dksJ5_init_0 2 rfl rfl)
theorem dJ5_init_3 : decode cJ5_init 3 = .ok (.invokespecial 489, 3) := dk_183 1 233 (dk_at dksJ5_init_0 3 rfl rfl)
theorem dJ5_init_6 : decode cJ5_init 6 = .ok (.return_, 1) := dk_177 (dk_at dksJ5_init_0 6 rfl rfl)
abbrev cJ5_init_2 : ByteArray := prog_21_method_150_code
def yJ5_init_2 : MethodName := ⟨RJ5, "<init>", "(Ljava/lang/AbstractStringBuilder;Ljava/lang/Void;)V"⟩
def dkwJ5_init_2_4 : List UInt8 := [181, 0, 9, 177]
abbrev dktJ5_init_2_4 : List UInt8 := dkwJ5_init_2_4 ++ []
def dkwJ5_init_2_3 : List UInt8 := [184, 0, 47, 181, 0, 15, 177, 42, 4, 181, 0, 15, 42, 45, 3, 21, 4, 4, 120, 184, 0, 54]
abbrev dktJ5_init_2_3 : List UInt8 := dkwJ5_init_2_3 ++ dktJ5_init_2_4
def dkwJ5_init_2_2 : List UInt8 := [180, 4, 24, 153, 0, 28, 42, 45, 3, 21, 4, 184, 4, 27, 181, 0, 9, 42, 42, 180, 0, 9, 21, 4]
abbrev dktJ5_init_2_2 : List UInt8 := dkwJ5_init_2_2 ++ dktJ5_init_2_3
def dkwJ5_init_2_1 : List UInt8 := [181, 0, 15, 42, 45, 3, 21, 4, 184, 0, 54, 181, 0, 9, 167, 0, 59, 178, 0, 38, 153, 0, 35, 43]
abbrev dktJ5_init_2_1 : List UInt8 := dkwJ5_init_2_1 ++ dktJ5_init_2_2
def dkwJ5_init_2_0 : List UInt8 := [42, 183, 0, 1, 43, 182, 2, 40, 78, 43, 182, 2, 37, 54, 4, 43, 182, 4, 23, 153, 0, 22, 42, 3]
abbrev dktJ5_init_2_0 : List UInt8 := dkwJ5_init_2_0 ++ dktJ5_init_2_1
theorem dksJ5_init_2_0 : cJ5_init_2.data.toList.drop 0 = dktJ5_init_2_0 := by decide +kernel
theorem dksJ5_init_2_1 : cJ5_init_2.data.toList.drop 24 = dktJ5_init_2_1 := dk_seg dksJ5_init_2_0 24 rfl rfl
theorem dksJ5_init_2_2 : cJ5_init_2.data.toList.drop 48 = dktJ5_init_2_2 := dk_seg dksJ5_init_2_1 24 rfl rfl
theorem dksJ5_init_2_3 : cJ5_init_2.data.toList.drop 72 = dktJ5_init_2_3 := dk_seg dksJ5_init_2_2 24 rfl rfl
theorem dksJ5_init_2_4 : cJ5_init_2.data.toList.drop 94 = dktJ5_init_2_4 := dk_seg dksJ5_init_2_3 22 rfl rfl
theorem dJ5_init_2_0 : decode cJ5_init_2 0 = .ok (.aload_n 0, 1) := dk_42 (dk_at dksJ5_init_2_0 0 rfl rfl)
theorem dJ5_init_2_1 : decode cJ5_init_2 1 = .ok (.invokespecial 1, 3) := dk_183 0 1 (dk_at dksJ5_init_2_0 1 rfl rfl)
theorem dJ5_init_2_4 : decode cJ5_init_2 4 = .ok (.aload_n 1, 1) := dk_43 (dk_at dksJ5_init_2_0 4 rfl rfl)
theorem dJ5_init_2_5 : decode cJ5_init_2 5 = .ok (.invokevirtual 552, 3) := dk_182 2 40 (dk_at dksJ5_init_2_0 5 rfl rfl)
theorem dJ5_init_2_8 : decode cJ5_init_2 8 = .ok (.astore_n 3, 1) := dk_78 (dk_at dksJ5_init_2_0 8 rfl rfl)
theorem dJ5_init_2_9 : decode cJ5_init_2 9 = .ok (.aload_n 1, 1) := dk_43 (dk_at dksJ5_init_2_0 9 rfl rfl)
theorem dJ5_init_2_10 : decode cJ5_init_2 10 = .ok (.invokevirtual 549, 3) := dk_182 2 37 (dk_at dksJ5_init_2_0 10 rfl rfl)
theorem dJ5_init_2_13 : decode cJ5_init_2 13 = .ok (.istore 4, 2) := dk_54 4 (dk_at dksJ5_init_2_0 13 rfl rfl)
theorem dJ5_init_2_15 : decode cJ5_init_2 15 = .ok (.aload_n 1, 1) := dk_43 (dk_at dksJ5_init_2_0 15 rfl rfl)
theorem dJ5_init_2_16 : decode cJ5_init_2 16 = .ok (.invokevirtual 1047, 3) := dk_182 4 23 (dk_at dksJ5_init_2_0 16 rfl rfl)
theorem dJ5_init_2_19 : decode cJ5_init_2 19 = .ok (.ifCond .eq 22, 3) := dk_153 0 22 (dk_at dksJ5_init_2_0 19 rfl rfl)
theorem dJ5_init_2_22 : decode cJ5_init_2 22 = .ok (.aload_n 0, 1) := dk_42 (dk_at dksJ5_init_2_0 22 rfl rfl)
theorem dJ5_init_2_23 : decode cJ5_init_2 23 = .ok (.iconst 0, 1) := dk_3 (dk_at dksJ5_init_2_0 23 rfl rfl)
theorem dJ5_init_2_24 : decode cJ5_init_2 24 = .ok (.putfield 15, 3) := dk_181 0 15 (dk_at dksJ5_init_2_1 0 rfl rfl)
theorem dJ5_init_2_27 : decode cJ5_init_2 27 = .ok (.aload_n 0, 1) := dk_42 (dk_at dksJ5_init_2_1 3 rfl rfl)
theorem dJ5_init_2_28 : decode cJ5_init_2 28 = .ok (.aload_n 3, 1) := dk_45 (dk_at dksJ5_init_2_1 4 rfl rfl)
theorem dJ5_init_2_29 : decode cJ5_init_2 29 = .ok (.iconst 0, 1) := dk_3 (dk_at dksJ5_init_2_1 5 rfl rfl)
theorem dJ5_init_2_30 : decode cJ5_init_2 30 = .ok (.iload 4, 2) := dk_21 4 (dk_at dksJ5_init_2_1 6 rfl rfl)
theorem dJ5_init_2_32 : decode cJ5_init_2 32 = .ok (.invokestatic 54, 3) := dk_184 0 54 (dk_at dksJ5_init_2_1 8 rfl rfl)
theorem dJ5_init_2_35 : decode cJ5_init_2 35 = .ok (.putfield 9, 3) := dk_181 0 9 (dk_at dksJ5_init_2_1 11 rfl rfl)
theorem dJ5_init_2_38 : decode cJ5_init_2 38 = .ok (.goto 59, 3) := dk_167 0 59 (dk_at dksJ5_init_2_1 14 rfl rfl)
theorem dJ5_init_2_41 : decode cJ5_init_2 41 = .ok (.getstatic 38, 3) := dk_178 0 38 (dk_at dksJ5_init_2_1 17 rfl rfl)
theorem dJ5_init_2_44 : decode cJ5_init_2 44 = .ok (.ifCond .eq 35, 3) := dk_153 0 35 (dk_at dksJ5_init_2_1 20 rfl rfl)
theorem dJ5_init_2_47 : decode cJ5_init_2 47 = .ok (.aload_n 1, 1) := dk_43 (dk_at dksJ5_init_2_1 23 rfl rfl)
theorem dJ5_init_2_48 : decode cJ5_init_2 48 = .ok (.getfield 1048, 3) := dk_180 4 24 (dk_at dksJ5_init_2_2 0 rfl rfl)
theorem dJ5_init_2_51 : decode cJ5_init_2 51 = .ok (.ifCond .eq 28, 3) := dk_153 0 28 (dk_at dksJ5_init_2_2 3 rfl rfl)
theorem dJ5_init_2_54 : decode cJ5_init_2 54 = .ok (.aload_n 0, 1) := dk_42 (dk_at dksJ5_init_2_2 6 rfl rfl)
theorem dJ5_init_2_55 : decode cJ5_init_2 55 = .ok (.aload_n 3, 1) := dk_45 (dk_at dksJ5_init_2_2 7 rfl rfl)
theorem dJ5_init_2_56 : decode cJ5_init_2 56 = .ok (.iconst 0, 1) := dk_3 (dk_at dksJ5_init_2_2 8 rfl rfl)
theorem dJ5_init_2_57 : decode cJ5_init_2 57 = .ok (.iload 4, 2) := dk_21 4 (dk_at dksJ5_init_2_2 9 rfl rfl)
theorem dJ5_init_2_59 : decode cJ5_init_2 59 = .ok (.invokestatic 1051, 3) := dk_184 4 27 (dk_at dksJ5_init_2_2 11 rfl rfl)
theorem dJ5_init_2_62 : decode cJ5_init_2 62 = .ok (.putfield 9, 3) := dk_181 0 9 (dk_at dksJ5_init_2_2 14 rfl rfl)
theorem dJ5_init_2_65 : decode cJ5_init_2 65 = .ok (.aload_n 0, 1) := dk_42 (dk_at dksJ5_init_2_2 17 rfl rfl)
theorem dJ5_init_2_66 : decode cJ5_init_2 66 = .ok (.aload_n 0, 1) := dk_42 (dk_at dksJ5_init_2_2 18 rfl rfl)
theorem dJ5_init_2_67 : decode cJ5_init_2 67 = .ok (.getfield 9, 3) := dk_180 0 9 (dk_at dksJ5_init_2_2 19 rfl rfl)
theorem dJ5_init_2_70 : decode cJ5_init_2 70 = .ok (.iload 4, 2) := dk_21 4 (dk_at dksJ5_init_2_2 22 rfl rfl)
theorem dJ5_init_2_72 : decode cJ5_init_2 72 = .ok (.invokestatic 47, 3) := dk_184 0 47 (dk_at dksJ5_init_2_3 0 rfl rfl)
theorem dJ5_init_2_75 : decode cJ5_init_2 75 = .ok (.putfield 15, 3) := dk_181 0 15 (dk_at dksJ5_init_2_3 3 rfl rfl)
theorem dJ5_init_2_78 : decode cJ5_init_2 78 = .ok (.return_, 1) := dk_177 (dk_at dksJ5_init_2_3 6 rfl rfl)
theorem dJ5_init_2_79 : decode cJ5_init_2 79 = .ok (.aload_n 0, 1) := dk_42 (dk_at dksJ5_init_2_3 7 rfl rfl)
theorem dJ5_init_2_80 : decode cJ5_init_2 80 = .ok (.iconst 1, 1) := dk_4 (dk_at dksJ5_init_2_3 8 rfl rfl)
theorem dJ5_init_2_81 : decode cJ5_init_2 81 = .ok (.putfield 15, 3) := dk_181 0 15 (dk_at dksJ5_init_2_3 9 rfl rfl)
theorem dJ5_init_2_84 : decode cJ5_init_2 84 = .ok (.aload_n 0, 1) := dk_42 (dk_at dksJ5_init_2_3 12 rfl rfl)
theorem dJ5_init_2_85 : decode cJ5_init_2 85 = .ok (.aload_n 3, 1) := dk_45 (dk_at dksJ5_init_2_3 13 rfl rfl)
theorem dJ5_init_2_86 : decode cJ5_init_2 86 = .ok (.iconst 0, 1) := dk_3 (dk_at dksJ5_init_2_3 14 rfl rfl)
theorem dJ5_init_2_87 : decode cJ5_init_2 87 = .ok (.iload 4, 2) := dk_21 4 (dk_at dksJ5_init_2_3 15 rfl rfl)
theorem dJ5_init_2_89 : decode cJ5_init_2 89 = .ok (.iconst 1, 1) := dk_4 (dk_at dksJ5_init_2_3 17 rfl rfl)
theorem dJ5_init_2_90 : decode cJ5_init_2 90 = .ok (.ishl, 1) := dk_120 (dk_at dksJ5_init_2_3 18 rfl rfl)
theorem dJ5_init_2_91 : decode cJ5_init_2 91 = .ok (.invokestatic 54, 3) := dk_184 0 54 (dk_at dksJ5_init_2_3 19 rfl rfl)
theorem dJ5_init_2_94 : decode cJ5_init_2 94 = .ok (.putfield 9, 3) := dk_181 0 9 (dk_at dksJ5_init_2_4 0 rfl rfl)
theorem dJ5_init_2_97 : decode cJ5_init_2 97 = .ok (.return_, 1) := dk_177 (dk_at dksJ5_init_2_4 3 rfl rfl)
abbrev cJ5_equals : ByteArray := prog_21_method_66_code
def yJ5_equals : MethodName := ⟨RJ5, "equals", "(Ljava/lang/Object;)Z"⟩
def dkwJ5_equals_2 : List UInt8 := [184, 2, 29, 153, 0, 7, 4, 167, 0, 4, 3, 172]
abbrev dktJ5_equals_2 : List UInt8 := dkwJ5_equals_2 ++ []
def dkwJ5_equals_1 : List UInt8 := [153, 0, 14, 42, 180, 0, 15, 44, 180, 0, 15, 160, 0, 21, 42, 180, 0, 9, 44, 180, 0, 9]
abbrev dktJ5_equals_1 : List UInt8 := dkwJ5_equals_1 ++ dktJ5_equals_2
def dkwJ5_equals_0 : List UInt8 := [42, 43, 166, 0, 5, 4, 172, 43, 193, 0, 10, 153, 0, 43, 43, 192, 0, 10, 77, 178, 0, 38]
abbrev dktJ5_equals_0 : List UInt8 := dkwJ5_equals_0 ++ dktJ5_equals_1
theorem dksJ5_equals_0 : cJ5_equals.data.toList.drop 0 = dktJ5_equals_0 := by decide +kernel
theorem dksJ5_equals_1 : cJ5_equals.data.toList.drop 22 = dktJ5_equals_1 := dk_seg dksJ5_equals_0 22 rfl rfl
theorem dksJ5_equals_2 : cJ5_equals.data.toList.drop 44 = dktJ5_equals_2 := dk_seg dksJ5_equals_1 22 rfl rfl
theorem dJ5_equals_0 : decode cJ5_equals 0 = .ok (.aload_n 0, 1) := dk_42 (dk_at dksJ5_equals_0 0 rfl rfl)
theorem dJ5_equals_1 : decode cJ5_equals 1 = .ok (.aload_n 1, 1) := dk_43 (dk_at dksJ5_equals_0 1 rfl rfl)
theorem dJ5_equals_2 : decode cJ5_equals 2 = .ok (.if_acmp .ne 5, 3) := dk_166 0 5 (dk_at dksJ5_equals_0 2 rfl rfl)
theorem dJ5_equals_5 : decode cJ5_equals 5 = .ok (.iconst 1, 1) := dk_4 (dk_at dksJ5_equals_0 5 rfl rfl)
theorem dJ5_equals_6 : decode cJ5_equals 6 = .ok (.ireturn, 1) := dk_172 (dk_at dksJ5_equals_0 6 rfl rfl)
theorem dJ5_equals_7 : decode cJ5_equals 7 = .ok (.aload_n 1, 1) := dk_43 (dk_at dksJ5_equals_0 7 rfl rfl)
theorem dJ5_equals_8 : decode cJ5_equals 8 = .ok (.instanceof 10, 3) := dk_193 0 10 (dk_at dksJ5_equals_0 8 rfl rfl)
theorem dJ5_equals_11 : decode cJ5_equals 11 = .ok (.ifCond .eq 43, 3) := dk_153 0 43 (dk_at dksJ5_equals_0 11 rfl rfl)
theorem dJ5_equals_14 : decode cJ5_equals 14 = .ok (.aload_n 1, 1) := dk_43 (dk_at dksJ5_equals_0 14 rfl rfl)
theorem dJ5_equals_15 : decode cJ5_equals 15 = .ok (.checkcast 10, 3) := dk_192 0 10 (dk_at dksJ5_equals_0 15 rfl rfl)
theorem dJ5_equals_18 : decode cJ5_equals 18 = .ok (.astore_n 2, 1) := dk_77 (dk_at dksJ5_equals_0 18 rfl rfl)
theorem dJ5_equals_19 : decode cJ5_equals 19 = .ok (.getstatic 38, 3) := dk_178 0 38 (dk_at dksJ5_equals_0 19 rfl rfl)
theorem dJ5_equals_22 : decode cJ5_equals 22 = .ok (.ifCond .eq 14, 3) := dk_153 0 14 (dk_at dksJ5_equals_1 0 rfl rfl)
theorem dJ5_equals_25 : decode cJ5_equals 25 = .ok (.aload_n 0, 1) := dk_42 (dk_at dksJ5_equals_1 3 rfl rfl)
theorem dJ5_equals_26 : decode cJ5_equals 26 = .ok (.getfield 15, 3) := dk_180 0 15 (dk_at dksJ5_equals_1 4 rfl rfl)
theorem dJ5_equals_29 : decode cJ5_equals 29 = .ok (.aload_n 2, 1) := dk_44 (dk_at dksJ5_equals_1 7 rfl rfl)
theorem dJ5_equals_30 : decode cJ5_equals 30 = .ok (.getfield 15, 3) := dk_180 0 15 (dk_at dksJ5_equals_1 8 rfl rfl)
theorem dJ5_equals_33 : decode cJ5_equals 33 = .ok (.if_icmp .ne 21, 3) := dk_160 0 21 (dk_at dksJ5_equals_1 11 rfl rfl)
theorem dJ5_equals_36 : decode cJ5_equals 36 = .ok (.aload_n 0, 1) := dk_42 (dk_at dksJ5_equals_1 14 rfl rfl)
theorem dJ5_equals_37 : decode cJ5_equals 37 = .ok (.getfield 9, 3) := dk_180 0 9 (dk_at dksJ5_equals_1 15 rfl rfl)
theorem dJ5_equals_40 : decode cJ5_equals 40 = .ok (.aload_n 2, 1) := dk_44 (dk_at dksJ5_equals_1 18 rfl rfl)
theorem dJ5_equals_41 : decode cJ5_equals 41 = .ok (.getfield 9, 3) := dk_180 0 9 (dk_at dksJ5_equals_1 19 rfl rfl)
theorem dJ5_equals_44 : decode cJ5_equals 44 = .ok (.invokestatic 541, 3) := dk_184 2 29 (dk_at dksJ5_equals_2 0 rfl rfl)
theorem dJ5_equals_47 : decode cJ5_equals 47 = .ok (.ifCond .eq 7, 3) := dk_153 0 7 (dk_at dksJ5_equals_2 3 rfl rfl)
theorem dJ5_equals_50 : decode cJ5_equals 50 = .ok (.iconst 1, 1) := dk_4 (dk_at dksJ5_equals_2 6 rfl rfl)
theorem dJ5_equals_51 : decode cJ5_equals 51 = .ok (.goto 4, 3) := dk_167 0 4 (dk_at dksJ5_equals_2 7 rfl rfl)
theorem dJ5_equals_54 : decode cJ5_equals 54 = .ok (.iconst 0, 1) := dk_3 (dk_at dksJ5_equals_2 10 rfl rfl)
theorem dJ5_equals_55 : decode cJ5_equals 55 = .ok (.ireturn, 1) := dk_172 (dk_at dksJ5_equals_2 11 rfl rfl)
theorem q50 : (Jvm.Cond.initialized "java/lang/String") ∈ lw_all := lw_g (lw_at lw_m1 10 rfl) rfl
theorem q523 : (Jvm.Cond.instantiable "java/lang/String" (4 : Nat)) ∈ lw_all := lw_g (lw_at lw_m3 3 rfl) rfl
theorem q525 : (Jvm.Cond.laysFinal "java/lang/String" "java/lang/String" "value" "[B") ∈ lw_all := lw_g (lw_at lw_m3 5 rfl) rfl
theorem q526 : (Jvm.Cond.soleField "java/lang/String" "value") ∈ lw_all := lw_g (lw_at lw_m3 6 rfl) rfl
theorem q527 : (Jvm.Cond.laysFinal "java/lang/String" "java/lang/String" "coder" "B") ∈ lw_all := lw_g (lw_at lw_m3 7 rfl) rfl
theorem q528 : (Jvm.Cond.soleField "java/lang/String" "coder") ∈ lw_all := lw_g (lw_at lw_m3 8 rfl) rfl
theorem q729 : (Jvm.Cond.laysStatic "java/lang/String" "COMPACT_STRINGS" "Z") ∈ lw_tbl := lw_at lw_m3 209 rfl
theorem q739 : (Jvm.Cond.fieldLink "java/lang/String" (1048 : Nat) "java/lang/AbstractStringBuilder" "maybeLatin1" "Z") ∈ lw_all := lw_g (lw_at lw_m3 219 rfl) rfl
theorem q816 : (Jvm.Cond.static ({ cls := "java/lang/String", name := "checkBoundsBeginEnd", desc := "(III)V" } : Jvm.MethodName)) ∈ lw_all := lw_g (lw_at lw_m4 56 rfl) rfl
theorem q817 : (Jvm.Cond.code ({ cls := "java/lang/String", name := "checkBoundsBeginEnd", desc := "(III)V" } : Jvm.MethodName) prog_21_method_158_code (3 : Nat) (Option.none : Option Jvm.ClassFile.FieldType)) ∈ lw_all := lw_g (lw_at lw_m4 57 rfl) rfl
theorem q818 : (Jvm.Cond.fieldLink "java/lang/String" (1053 : Nat) "jdk/internal/util/Preconditions" "SIOOBE_FORMATTER" "Ljava/util/function/BiFunction;") ∈ lw_all := lw_g (lw_at lw_m4 58 rfl) rfl
theorem q820 : (Jvm.Cond.methodLink "java/lang/String" (1062 : Nat) ({ cls := "jdk/internal/util/Preconditions", name := "checkFromToIndex", desc := "(IIILjava/util/function/BiFunction;)I" } : Jvm.MethodName)) ∈ lw_all := lw_g (lw_at lw_m4 60 rfl) rfl
theorem q833 : (Jvm.Cond.instanceMethod ({ cls := "java/lang/String", name := "length", desc := "()I" } : Jvm.MethodName)) ∈ lw_all := lw_g (lw_at lw_m4 73 rfl) rfl
theorem q834 : (Jvm.Cond.selects "java/lang/String" ({ cls := "java/lang/String", name := "length", desc := "()I" } : Jvm.MethodName) ({ cls := "java/lang/String", name := "length", desc := "()I" } : Jvm.MethodName)) ∈ lw_all := lw_g (lw_at lw_m4 74 rfl) rfl
theorem q835 : (Jvm.Cond.code ({ cls := "java/lang/String", name := "length", desc := "()I" } : Jvm.MethodName) prog_21_method_54_code (1 : Nat) (Option.some Jvm.ClassFile.FieldType.int)) ∈ lw_all := lw_g (lw_at lw_m4 75 rfl) rfl
theorem q836 : (Jvm.Cond.methodLink "java/lang/String" (335 : Nat) ({ cls := "java/lang/String", name := "coder", desc := "()B" } : Jvm.MethodName)) ∈ lw_all := lw_g (lw_at lw_m4 76 rfl) rfl
theorem q837 : (Jvm.Cond.instanceMethod ({ cls := "java/lang/String", name := "coder", desc := "()B" } : Jvm.MethodName)) ∈ lw_all := lw_g (lw_at lw_m4 77 rfl) rfl
theorem q838 : (Jvm.Cond.selects "java/lang/String" ({ cls := "java/lang/String", name := "coder", desc := "()B" } : Jvm.MethodName) ({ cls := "java/lang/String", name := "coder", desc := "()B" } : Jvm.MethodName)) ∈ lw_all := lw_g (lw_at lw_m4 78 rfl) rfl
theorem q839 : (Jvm.Cond.code ({ cls := "java/lang/String", name := "coder", desc := "()B" } : Jvm.MethodName) prog_21_method_152_code (1 : Nat) (Option.some Jvm.ClassFile.FieldType.byte)) ∈ lw_all := lw_g (lw_at lw_m4 79 rfl) rfl
theorem q840 : (Jvm.Cond.fieldLink "java/lang/String" (38 : Nat) "java/lang/String" "COMPACT_STRINGS" "Z") ∈ lw_all := lw_g (lw_at lw_m4 80 rfl) rfl
theorem q864 : (Jvm.Cond.static ({ cls := "java/lang/String", name := "checkBoundsOffCount", desc := "(III)I" } : Jvm.MethodName)) ∈ lw_all := lw_g (lw_at lw_m4 104 rfl) rfl
theorem q865 : (Jvm.Cond.code ({ cls := "java/lang/String", name := "checkBoundsOffCount", desc := "(III)I" } : Jvm.MethodName) prog_21_method_157_code (3 : Nat) (Option.some Jvm.ClassFile.FieldType.int)) ∈ lw_all := lw_g (lw_at lw_m4 105 rfl) rfl
theorem q866 : (Jvm.Cond.methodLink "java/lang/String" (1065 : Nat) ({ cls := "jdk/internal/util/Preconditions", name := "checkFromIndexSize", desc := "(IIILjava/util/function/BiFunction;)I" } : Jvm.MethodName)) ∈ lw_all := lw_g (lw_at lw_m4 106 rfl) rfl
theorem q870 : (Jvm.Cond.instanceMethod ({ cls := "java/lang/String", name := "getBytes", desc := "([BIB)V" } : Jvm.MethodName)) ∈ lw_all := lw_g (lw_at lw_m4 110 rfl) rfl
theorem q871 : (Jvm.Cond.selects "java/lang/String" ({ cls := "java/lang/String", name := "getBytes", desc := "([BIB)V" } : Jvm.MethodName) ({ cls := "java/lang/String", name := "getBytes", desc := "([BIB)V" } : Jvm.MethodName)) ∈ lw_all := lw_g (lw_at lw_m4 111 rfl) rfl
theorem q872 : (Jvm.Cond.code ({ cls := "java/lang/String", name := "getBytes", desc := "([BIB)V" } : Jvm.MethodName) prog_21_method_147_code (4 : Nat) (Option.none : Option Jvm.ClassFile.FieldType)) ∈ lw_all := lw_g (lw_at lw_m4 112 rfl) rfl
theorem q873 : (Jvm.Cond.methodLink "java/lang/String" (212 : Nat) ({ cls := "java/lang/System", name := "arraycopy", desc := "(Ljava/lang/Object;ILjava/lang/Object;II)V" } : Jvm.MethodName)) ∈ lw_all := lw_g (lw_at lw_m4 113 rfl) rfl
theorem q874 : (Jvm.Cond.methodLink "java/lang/String" (106 : Nat) ({ cls := "java/lang/StringLatin1", name := "inflate", desc := "([BI[BII)V" } : Jvm.MethodName)) ∈ lw_all := lw_g (lw_at lw_m4 114 rfl) rfl
theorem q906 : (Jvm.Cond.instanceMethod ({ cls := "java/lang/String", name := "<init>", desc := "(Ljava/lang/StringBuilder;)V" } : Jvm.MethodName)) ∈ lw_all := lw_g (lw_at lw_m4 146 rfl) rfl
theorem q907 : (Jvm.Cond.code ({ cls := "java/lang/String", name := "<init>", desc := "(Ljava/lang/StringBuilder;)V" } : Jvm.MethodName) prog_21_method_53_code (2 : Nat) (Option.none : Option Jvm.ClassFile.FieldType)) ∈ lw_all := lw_g (lw_at lw_m4 147 rfl) rfl
theorem q908 : (Jvm.Cond.methodLink "java/lang/String" (489 : Nat) ({ cls := "java/lang/String", name := "<init>", desc := "(Ljava/lang/AbstractStringBuilder;Ljava/lang/Void;)V" } : Jvm.MethodName)) ∈ lw_all := lw_g (lw_at lw_m4 148 rfl) rfl
theorem q909 : (Jvm.Cond.instanceMethod ({ cls := "java/lang/String", name := "<init>", desc := "(Ljava/lang/AbstractStringBuilder;Ljava/lang/Void;)V" } : Jvm.MethodName)) ∈ lw_all := lw_g (lw_at lw_m4 149 rfl) rfl
theorem q910 : (Jvm.Cond.code ({ cls := "java/lang/String", name := "<init>", desc := "(Ljava/lang/AbstractStringBuilder;Ljava/lang/Void;)V" } : Jvm.MethodName) prog_21_method_150_code (5 : Nat) (Option.none : Option Jvm.ClassFile.FieldType)) ∈ lw_all := lw_g (lw_at lw_m4 150 rfl) rfl
theorem q911 : (Jvm.Cond.methodLink "java/lang/String" (1 : Nat) ({ cls := "java/lang/Object", name := "<init>", desc := "()V" } : Jvm.MethodName)) ∈ lw_all := lw_g (lw_at lw_m4 151 rfl) rfl
theorem q912 : (Jvm.Cond.methodLink "java/lang/String" (552 : Nat) ({ cls := "java/lang/AbstractStringBuilder", name := "getValue", desc := "()[B" } : Jvm.MethodName)) ∈ lw_all := lw_g (lw_at lw_m4 152 rfl) rfl
theorem q917 : (Jvm.Cond.methodLink "java/lang/String" (549 : Nat) ({ cls := "java/lang/AbstractStringBuilder", name := "length", desc := "()I" } : Jvm.MethodName)) ∈ lw_all := lw_g (lw_at lw_m4 157 rfl) rfl
theorem q925 : (Jvm.Cond.methodLink "java/lang/String" (1047 : Nat) ({ cls := "java/lang/AbstractStringBuilder", name := "isLatin1", desc := "()Z" } : Jvm.MethodName)) ∈ lw_all := lw_g (lw_at lw_m4 165 rfl) rfl
theorem q926 : (Jvm.Cond.methodLink "java/lang/String" (54 : Nat) ({ cls := "java/util/Arrays", name := "copyOfRange", desc := "([BII)[B" } : Jvm.MethodName)) ∈ lw_all := lw_g (lw_at lw_m4 166 rfl) rfl
theorem q946 : (Jvm.Cond.methodLink "java/lang/String" (1051 : Nat) ({ cls := "java/lang/StringUTF16", name := "compress", desc := "([BII)[B" } : Jvm.MethodName)) ∈ lw_all := lw_g (lw_at lw_m4 186 rfl) rfl
theorem q956 : (Jvm.Cond.methodLink "java/lang/String" (47 : Nat) ({ cls := "java/lang/StringUTF16", name := "coderFromArrayLen", desc := "([BI)B" } : Jvm.MethodName)) ∈ lw_all := lw_g (lw_at lw_m4 196 rfl) rfl
theorem q959 : (Jvm.Cond.fieldLink "java/lang/String" (9 : Nat) "java/lang/String" "value" "[B") ∈ lw_all := lw_g (lw_at lw_m4 199 rfl) rfl
theorem q960 : (Jvm.Cond.fieldLink "java/lang/String" (15 : Nat) "java/lang/String" "coder" "B") ∈ lw_all := lw_g (lw_at lw_m4 200 rfl) rfl
theorem q961 : (Jvm.Cond.lays "java/lang/String" "java/lang/String" "hash" "I") ∈ lw_all := lw_g (lw_at lw_m4 201 rfl) rfl
theorem q962 : (Jvm.Cond.soleField "java/lang/String" "hash") ∈ lw_all := lw_g (lw_at lw_m4 202 rfl) rfl
theorem q963 : (Jvm.Cond.lays "java/lang/String" "java/lang/String" "hashIsZero" "Z") ∈ lw_all := lw_g (lw_at lw_m4 203 rfl) rfl
theorem q964 : (Jvm.Cond.soleField "java/lang/String" "hashIsZero") ∈ lw_all := lw_g (lw_at lw_m4 204 rfl) rfl
theorem q965 : (Jvm.Cond.superclass "java/lang/String" "java/lang/Object") ∈ lw_all := lw_g (lw_at lw_m4 205 rfl) rfl
theorem q1848 : (Jvm.Cond.instanceMethod ({ cls := "java/lang/String", name := "equals", desc := "(Ljava/lang/Object;)Z" } : Jvm.MethodName)) ∈ lw_all := lw_g (lw_at lw_m8 128 rfl) rfl
theorem q1849 : (Jvm.Cond.selects "java/lang/String" ({ cls := "java/lang/String", name := "equals", desc := "(Ljava/lang/Object;)Z" } : Jvm.MethodName) ({ cls := "java/lang/String", name := "equals", desc := "(Ljava/lang/Object;)Z" } : Jvm.MethodName)) ∈ lw_all := lw_g (lw_at lw_m8 129 rfl) rfl
theorem q1850 : (Jvm.Cond.code ({ cls := "java/lang/String", name := "equals", desc := "(Ljava/lang/Object;)Z" } : Jvm.MethodName) prog_21_method_66_code (3 : Nat) (Option.some Jvm.ClassFile.FieldType.boolean)) ∈ lw_all := lw_g (lw_at lw_m8 130 rfl) rfl
theorem q1851 : (Jvm.Cond.classLink "java/lang/String" (10 : Nat) "java/lang/String") ∈ lw_all := lw_g (lw_at lw_m8 131 rfl) rfl
theorem q1852 : (Jvm.Cond.methodLink "java/lang/String" (541 : Nat) ({ cls := "java/lang/StringLatin1", name := "equals", desc := "([B[B)Z" } : Jvm.MethodName)) ∈ lw_all := lw_g (lw_at lw_m8 132 rfl) rfl
theorem in_J5 : ∀ w ∈ wsJ50, w ∈ lw_all := lw_in wsJ50 [525, 527, 961, 963] (by decide +kernel) (by decide +kernel)

/-! java/lang/IllegalArgumentException -/
set_option maxRecDepth 100000
def RJ6 : String := "java/lang/IllegalArgumentException"
def TJ6 : u_T := fun k => match k with
  | 0 => ("java/lang/Throwable", "cause", "Ljava/lang/Throwable;", false)
  | 1 => ("java/lang/Throwable", "stackTrace", "[Ljava/lang/StackTraceElement;", false)
  | 2 => ("java/lang/Throwable", "suppressedExceptions", "Ljava/util/List;", false)
  | 3 => ("java/lang/Throwable", "detailMessage", "Ljava/lang/String;", false)
  | 4 => ("java/lang/Throwable", "backtrace", "Ljava/lang/Object;", false)
  | _ => ("java/lang/Throwable", "depth", "I", false)
def tyJ6 : Nat → FieldType := fun k => match k with
  | 0 => .object "java/lang/Throwable"
  | 1 => .array (.object "java/lang/StackTraceElement")
  | 2 => .object "java/util/List"
  | 3 => .object "java/lang/String"
  | 4 => .object "java/lang/Object"
  | _ => .int
abbrev wsJ60 : List Cond := u_ws RJ6 TJ6 6
theorem nmJ6 : ∀ a, a < 6 → ∀ b, b < 6 → a ≠ b → (TJ6 a).2.1 ≠ (TJ6 b).2.1 := by decide +kernel
theorem tyJ6_ok : ∀ k, k < 6 → parseFieldDescriptor (TJ6 k).2.2.1 = some (tyJ6 k) := by decide +kernel
abbrev cJ6_init : ByteArray := prog_13_method_1_code
def yJ6_init : MethodName := ⟨RJ6, "<init>", "()V"⟩
theorem dJ6_init_0 : decode cJ6_init 0 = .ok (.aload_n 0, 1) := by decide +kernel
theorem dJ6_init_1 : decode cJ6_init 1 = .ok (.invokespecial 1, 3) := by decide +kernel
theorem dJ6_init_4 : decode cJ6_init 4 = .ok (.return_, 1) := by decide +kernel
abbrev cJ6_init_2 : ByteArray := prog_13_method_2_code
def yJ6_init_2 : MethodName := ⟨RJ6, "<init>", "(Ljava/lang/String;)V"⟩
def dkwJ6_init_2_0 : List UInt8 := [42, 43, 183, 0, 7, 177]
abbrev dktJ6_init_2_0 : List UInt8 := dkwJ6_init_2_0 ++ []
theorem dksJ6_init_2_0 : cJ6_init_2.data.toList.drop 0 = dktJ6_init_2_0 := by decide +kernel
theorem dJ6_init_2_0 : decode cJ6_init_2 0 = .ok (.aload_n 0, 1) := dk_42 (dk_at dksJ6_init_2_0 0 rfl rfl)
theorem dJ6_init_2_1 : decode cJ6_init_2 1 = .ok (.aload_n 1, 1) := dk_43 (dk_at dksJ6_init_2_0 1 rfl rfl)
theorem dJ6_init_2_2 : decode cJ6_init_2 2 = .ok (.invokespecial 7, 3) := dk_183 0 7 (dk_at dksJ6_init_2_0 2 rfl rfl)
theorem dJ6_init_2_5 : decode cJ6_init_2 5 = .ok (.return_, 1) := dk_177 (dk_at dksJ6_init_2_0 5 rfl rfl)
theorem q51 : (Jvm.Cond.initialized "java/lang/IllegalArgumentException") ∈ lw_all := lw_g (lw_at lw_m1 11 rfl) rfl
theorem q317 : (Jvm.Cond.selects "java/lang/IllegalArgumentException" ({ cls := "java/lang/Throwable", name := "fillInStackTrace", desc := "()Ljava/lang/Throwable;" } : Jvm.MethodName) ({ cls := "java/lang/Throwable", name := "fillInStackTrace", desc := "()Ljava/lang/Throwable;" } : Jvm.MethodName)) ∈ lw_all := lw_g (lw_at lw_m2 37 rfl) rfl
theorem q461 : (Jvm.Cond.instantiable "java/lang/IllegalArgumentException" (6 : Nat)) ∈ lw_all := lw_g (lw_at lw_m2 181 rfl) rfl
theorem q462 : (Jvm.Cond.castable "java/lang/IllegalArgumentException" "java/lang/IllegalArgumentException") ∈ lw_tbl := lw_at lw_m2 182 rfl
theorem q463 : (Jvm.Cond.selects "java/lang/IllegalArgumentException" ({ cls := "java/lang/Throwable", name := "fillInStackTrace", desc := "(I)Ljava/lang/Throwable;" } : Jvm.MethodName) ({ cls := "java/lang/Throwable", name := "fillInStackTrace", desc := "(I)Ljava/lang/Throwable;" } : Jvm.MethodName)) ∈ lw_all := lw_g (lw_at lw_m2 183 rfl) rfl
theorem q464 : (Jvm.Cond.lays "java/lang/IllegalArgumentException" "java/lang/Throwable" "cause" "Ljava/lang/Throwable;") ∈ lw_all := lw_g (lw_at lw_m2 184 rfl) rfl
theorem q465 : (Jvm.Cond.lays "java/lang/IllegalArgumentException" "java/lang/Throwable" "stackTrace" "[Ljava/lang/StackTraceElement;") ∈ lw_all := lw_g (lw_at lw_m2 185 rfl) rfl
theorem q466 : (Jvm.Cond.lays "java/lang/IllegalArgumentException" "java/lang/Throwable" "suppressedExceptions" "Ljava/util/List;") ∈ lw_all := lw_g (lw_at lw_m2 186 rfl) rfl
theorem q467 : (Jvm.Cond.lays "java/lang/IllegalArgumentException" "java/lang/Throwable" "detailMessage" "Ljava/lang/String;") ∈ lw_all := lw_g (lw_at lw_m2 187 rfl) rfl
theorem q468 : (Jvm.Cond.lays "java/lang/IllegalArgumentException" "java/lang/Throwable" "backtrace" "Ljava/lang/Object;") ∈ lw_all := lw_g (lw_at lw_m2 188 rfl) rfl
theorem q470 : (Jvm.Cond.instanceMethod ({ cls := "java/lang/IllegalArgumentException", name := "<init>", desc := "()V" } : Jvm.MethodName)) ∈ lw_all := lw_g (lw_at lw_m2 190 rfl) rfl
theorem q471 : (Jvm.Cond.code ({ cls := "java/lang/IllegalArgumentException", name := "<init>", desc := "()V" } : Jvm.MethodName) prog_13_method_1_code (1 : Nat) (Option.none : Option Jvm.ClassFile.FieldType)) ∈ lw_all := lw_g (lw_at lw_m2 191 rfl) rfl
theorem q472 : (Jvm.Cond.methodLink "java/lang/IllegalArgumentException" (1 : Nat) ({ cls := "java/lang/RuntimeException", name := "<init>", desc := "()V" } : Jvm.MethodName)) ∈ lw_all := lw_g (lw_at lw_m2 192 rfl) rfl
theorem q473 : (Jvm.Cond.lays "java/lang/IllegalArgumentException" "java/lang/Throwable" "depth" "I") ∈ lw_all := lw_g (lw_at lw_m2 193 rfl) rfl
theorem q474 : (Jvm.Cond.superclass "java/lang/IllegalArgumentException" "java/lang/RuntimeException") ∈ lw_all := lw_g (lw_at lw_m2 194 rfl) rfl
theorem q943 : (Jvm.Cond.instanceMethod ({ cls := "java/lang/IllegalArgumentException", name := "<init>", desc := "(Ljava/lang/String;)V" } : Jvm.MethodName)) ∈ lw_all := lw_g (lw_at lw_m4 183 rfl) rfl
theorem q944 : (Jvm.Cond.code ({ cls := "java/lang/IllegalArgumentException", name := "<init>", desc := "(Ljava/lang/String;)V" } : Jvm.MethodName) prog_13_method_2_code (2 : Nat) (Option.none : Option Jvm.ClassFile.FieldType)) ∈ lw_all := lw_g (lw_at lw_m4 184 rfl) rfl
theorem q945 : (Jvm.Cond.methodLink "java/lang/IllegalArgumentException" (7 : Nat) ({ cls := "java/lang/RuntimeException", name := "<init>", desc := "(Ljava/lang/String;)V" } : Jvm.MethodName)) ∈ lw_all := lw_g (lw_at lw_m4 185 rfl) rfl
theorem in_J6 : ∀ w ∈ wsJ60, w ∈ lw_all := lw_in wsJ60 [464, 465, 466, 467, 468, 473] (by decide +kernel) (by decide +kernel)

/-! java/lang/Number -/
set_option maxRecDepth 100000
def RJ7 : String := "java/lang/Number"
abbrev cJ7_init : ByteArray := prog_18_method_1_code
def yJ7_init : MethodName := ⟨RJ7, "<init>", "()V"⟩
theorem dJ7_init_0 : decode cJ7_init 0 = .ok (.aload_n 0, 1) := by decide +kernel
theorem dJ7_init_1 : decode cJ7_init 1 = .ok (.invokespecial 1, 3) := by decide +kernel
theorem dJ7_init_4 : decode cJ7_init 4 = .ok (.return_, 1) := by decide +kernel
theorem q52 : (Jvm.Cond.initialized "java/lang/Number") ∈ lw_all := lw_g (lw_at lw_m1 12 rfl) rfl
theorem q1360 : (Jvm.Cond.instanceMethod ({ cls := "java/lang/Number", name := "<init>", desc := "()V" } : Jvm.MethodName)) ∈ lw_all := lw_g (lw_at lw_m6 120 rfl) rfl
theorem q1361 : (Jvm.Cond.code ({ cls := "java/lang/Number", name := "<init>", desc := "()V" } : Jvm.MethodName) prog_18_method_1_code (1 : Nat) (Option.none : Option Jvm.ClassFile.FieldType)) ∈ lw_all := lw_g (lw_at lw_m6 121 rfl) rfl
theorem q1362 : (Jvm.Cond.methodLink "java/lang/Number" (1 : Nat) ({ cls := "java/lang/Object", name := "<init>", desc := "()V" } : Jvm.MethodName)) ∈ lw_all := lw_g (lw_at lw_m6 122 rfl) rfl

/-! java/lang/Double -/
set_option maxRecDepth 100000
def RJ8 : String := "java/lang/Double"
abbrev cJ8_compare : ByteArray := prog_9_method_27_code
def yJ8_compare : MethodName := ⟨RJ8, "compare", "(DD)I"⟩
def dkwJ8_compare_2 : List UInt8 := [156, 0, 7, 2, 167, 0, 4, 4, 172]
abbrev dktJ8_compare_2 : List UInt8 := dkwJ8_compare_2 ++ []
def dkwJ8_compare_1 : List UInt8 := [184, 0, 46, 55, 6, 22, 4, 22, 6, 148, 154, 0, 7, 3, 167, 0, 16, 22, 4, 22, 6, 148]
abbrev dktJ8_compare_1 : List UInt8 := dkwJ8_compare_1 ++ dktJ8_compare_2
def dkwJ8_compare_0 : List UInt8 := [38, 40, 152, 156, 0, 5, 2, 172, 38, 40, 151, 158, 0, 5, 4, 172, 38, 184, 0, 46, 55, 4, 40]
abbrev dktJ8_compare_0 : List UInt8 := dkwJ8_compare_0 ++ dktJ8_compare_1
theorem dksJ8_compare_0 : cJ8_compare.data.toList.drop 0 = dktJ8_compare_0 := by decide +kernel
theorem dksJ8_compare_1 : cJ8_compare.data.toList.drop 23 = dktJ8_compare_1 := dk_seg dksJ8_compare_0 23 rfl rfl
theorem dksJ8_compare_2 : cJ8_compare.data.toList.drop 45 = dktJ8_compare_2 := dk_seg dksJ8_compare_1 22 rfl rfl
theorem dJ8_compare_0 : decode cJ8_compare 0 = .ok (.dload_n 0, 1) := dk_38 (dk_at dksJ8_compare_0 0 rfl rfl)
theorem dJ8_compare_1 : decode cJ8_compare 1 = .ok (.dload_n 2, 1) := dk_40 (dk_at dksJ8_compare_0 1 rfl rfl)
theorem dJ8_compare_2 : decode cJ8_compare 2 = .ok (.dcmp .g, 1) := dk_152 (dk_at dksJ8_compare_0 2 rfl rfl)
theorem dJ8_compare_3 : decode cJ8_compare 3 = .ok (.ifCond .ge 5, 3) := dk_156 0 5 (dk_at dksJ8_compare_0 3 rfl rfl)
theorem dJ8_compare_6 : decode cJ8_compare 6 = .ok (.iconst (-1), 1) := dk_2 (dk_at dksJ8_compare_0 6 rfl rfl)
theorem dJ8_compare_7 : decode cJ8_compare 7 = .ok (.ireturn, 1) := dk_172 (dk_at dksJ8_compare_0 7 rfl rfl)
theorem dJ8_compare_8 : decode cJ8_compare 8 = .ok (.dload_n 0, 1) := dk_38 (dk_at dksJ8_compare_0 8 rfl rfl)
theorem dJ8_compare_9 : decode cJ8_compare 9 = .ok (.dload_n 2, 1) := dk_40 (dk_at dksJ8_compare_0 9 rfl rfl)
theorem dJ8_compare_10 : decode cJ8_compare 10 = .ok (.dcmp .l, 1) := dk_151 (dk_at dksJ8_compare_0 10 rfl rfl)
theorem dJ8_compare_11 : decode cJ8_compare 11 = .ok (.ifCond .le 5, 3) := dk_158 0 5 (dk_at dksJ8_compare_0 11 rfl rfl)
theorem dJ8_compare_14 : decode cJ8_compare 14 = .ok (.iconst 1, 1) := dk_4 (dk_at dksJ8_compare_0 14 rfl rfl)
theorem dJ8_compare_15 : decode cJ8_compare 15 = .ok (.ireturn, 1) := dk_172 (dk_at dksJ8_compare_0 15 rfl rfl)
theorem dJ8_compare_16 : decode cJ8_compare 16 = .ok (.dload_n 0, 1) := dk_38 (dk_at dksJ8_compare_0 16 rfl rfl)
theorem dJ8_compare_17 : decode cJ8_compare 17 = .ok (.invokestatic 46, 3) := dk_184 0 46 (dk_at dksJ8_compare_0 17 rfl rfl)
theorem dJ8_compare_20 : decode cJ8_compare 20 = .ok (.lstore 4, 2) := dk_55 4 (dk_at dksJ8_compare_0 20 rfl rfl)
theorem dJ8_compare_22 : decode cJ8_compare 22 = .ok (.dload_n 2, 1) := dk_40 (dk_at dksJ8_compare_0 22 rfl rfl)
theorem dJ8_compare_23 : decode cJ8_compare 23 = .ok (.invokestatic 46, 3) := dk_184 0 46 (dk_at dksJ8_compare_1 0 rfl rfl)
theorem dJ8_compare_26 : decode cJ8_compare 26 = .ok (.lstore 6, 2) := dk_55 6 (dk_at dksJ8_compare_1 3 rfl rfl)
theorem dJ8_compare_28 : decode cJ8_compare 28 = .ok (.lload 4, 2) := dk_22 4 (dk_at dksJ8_compare_1 5 rfl rfl)
theorem dJ8_compare_30 : decode cJ8_compare 30 = .ok (.lload 6, 2) := dk_22 6 (dk_at dksJ8_compare_1 7 rfl rfl)
theorem dJ8_compare_32 : decode cJ8_compare 32 = .ok (.lcmp, 1) := dk_148 (dk_at dksJ8_compare_1 9 rfl rfl)
theorem dJ8_compare_33 : decode cJ8_compare 33 = .ok (.ifCond .ne 7, 3) := dk_154 0 7 (dk_at dksJ8_compare_1 10 rfl rfl)
theorem dJ8_compare_36 : decode cJ8_compare 36 = .ok (.iconst 0, 1) := dk_3 (dk_at dksJ8_compare_1 13 rfl rfl)
theorem dJ8_compare_37 : decode cJ8_compare 37 = .ok (.goto 16, 3) := dk_167 0 16 (dk_at dksJ8_compare_1 14 rfl rfl)
theorem dJ8_compare_40 : decode cJ8_compare 40 = .ok (.lload 4, 2) := dk_22 4 (dk_at dksJ8_compare_1 17 rfl rfl)
theorem dJ8_compare_42 : decode cJ8_compare 42 = .ok (.lload 6, 2) := dk_22 6 (dk_at dksJ8_compare_1 19 rfl rfl)
theorem dJ8_compare_44 : decode cJ8_compare 44 = .ok (.lcmp, 1) := dk_148 (dk_at dksJ8_compare_1 21 rfl rfl)
theorem dJ8_compare_45 : decode cJ8_compare 45 = .ok (.ifCond .ge 7, 3) := dk_156 0 7 (dk_at dksJ8_compare_2 0 rfl rfl)
theorem dJ8_compare_48 : decode cJ8_compare 48 = .ok (.iconst (-1), 1) := dk_2 (dk_at dksJ8_compare_2 3 rfl rfl)
theorem dJ8_compare_49 : decode cJ8_compare 49 = .ok (.goto 4, 3) := dk_167 0 4 (dk_at dksJ8_compare_2 4 rfl rfl)
theorem dJ8_compare_52 : decode cJ8_compare 52 = .ok (.iconst 1, 1) := dk_4 (dk_at dksJ8_compare_2 7 rfl rfl)
theorem dJ8_compare_53 : decode cJ8_compare 53 = .ok (.ireturn, 1) := dk_172 (dk_at dksJ8_compare_2 8 rfl rfl)
abbrev cJ8_doubleToLongBits : ByteArray := prog_9_method_23_code
def yJ8_doubleToLongBits : MethodName := ⟨RJ8, "doubleToLongBits", "(D)J"⟩
def dkwJ8_doubleToLongBits_0 : List UInt8 := [38, 184, 0, 122, 154, 0, 8, 38, 184, 0, 134, 173, 20, 0, 137, 173]
abbrev dktJ8_doubleToLongBits_0 : List UInt8 := dkwJ8_doubleToLongBits_0 ++ []
theorem dksJ8_doubleToLongBits_0 : cJ8_doubleToLongBits.data.toList.drop 0 = dktJ8_doubleToLongBits_0 := by decide +kernel
theorem dJ8_doubleToLongBits_0 : decode cJ8_doubleToLongBits 0 = .ok (.dload_n 0, 1) := dk_38 (dk_at dksJ8_doubleToLongBits_0 0 rfl rfl)
theorem dJ8_doubleToLongBits_1 : decode cJ8_doubleToLongBits 1 = .ok (.invokestatic 122, 3) := dk_184 0 122 (dk_at dksJ8_doubleToLongBits_0 1 rfl rfl)
theorem dJ8_doubleToLongBits_4 : decode cJ8_doubleToLongBits 4 = .ok (.ifCond .ne 8, 3) := dk_154 0 8 (dk_at dksJ8_doubleToLongBits_0 4 rfl rfl)
theorem dJ8_doubleToLongBits_7 : decode cJ8_doubleToLongBits 7 = .ok (.dload_n 0, 1) := dk_38 (dk_at dksJ8_doubleToLongBits_0 7 rfl rfl)
theorem dJ8_doubleToLongBits_8 : decode cJ8_doubleToLongBits 8 = .ok (.invokestatic 134, 3) := dk_184 0 134 (dk_at dksJ8_doubleToLongBits_0 8 rfl rfl)
theorem dJ8_doubleToLongBits_11 : decode cJ8_doubleToLongBits 11 = .ok (.lreturn, 1) := dk_173 (dk_at dksJ8_doubleToLongBits_0 11 rfl rfl)
theorem dJ8_doubleToLongBits_12 : decode cJ8_doubleToLongBits 12 = .ok (.ldc2_w 137, 3) := dk_20 0 137 (dk_at dksJ8_doubleToLongBits_0 12 rfl rfl)
theorem dJ8_doubleToLongBits_15 : decode cJ8_doubleToLongBits 15 = .ok (.lreturn, 1) := dk_173 (dk_at dksJ8_doubleToLongBits_0 15 rfl rfl)
abbrev cJ8_isNaN : ByteArray := prog_9_method_6_code
def yJ8_isNaN : MethodName := ⟨RJ8, "isNaN", "(D)Z"⟩
def dkwJ8_isNaN_0 : List UInt8 := [38, 38, 151, 153, 0, 7, 4, 167, 0, 4, 3, 172]
abbrev dktJ8_isNaN_0 : List UInt8 := dkwJ8_isNaN_0 ++ []
theorem dksJ8_isNaN_0 : cJ8_isNaN.data.toList.drop 0 = dktJ8_isNaN_0 := by decide +kernel
theorem dJ8_isNaN_0 : decode cJ8_isNaN 0 = .ok (.dload_n 0, 1) := dk_38 (dk_at dksJ8_isNaN_0 0 rfl rfl)
theorem dJ8_isNaN_1 : decode cJ8_isNaN 1 = .ok (.dload_n 0, 1) := dk_38 (dk_at dksJ8_isNaN_0 1 rfl rfl)
theorem dJ8_isNaN_2 : decode cJ8_isNaN 2 = .ok (.dcmp .l, 1) := dk_151 (dk_at dksJ8_isNaN_0 2 rfl rfl)
theorem dJ8_isNaN_3 : decode cJ8_isNaN 3 = .ok (.ifCond .eq 7, 3) := dk_153 0 7 (dk_at dksJ8_isNaN_0 3 rfl rfl)
theorem dJ8_isNaN_6 : decode cJ8_isNaN 6 = .ok (.iconst 1, 1) := dk_4 (dk_at dksJ8_isNaN_0 6 rfl rfl)
theorem dJ8_isNaN_7 : decode cJ8_isNaN 7 = .ok (.goto 4, 3) := dk_167 0 4 (dk_at dksJ8_isNaN_0 7 rfl rfl)
theorem dJ8_isNaN_10 : decode cJ8_isNaN 10 = .ok (.iconst 0, 1) := dk_3 (dk_at dksJ8_isNaN_0 10 rfl rfl)
theorem dJ8_isNaN_11 : decode cJ8_isNaN 11 = .ok (.ireturn, 1) := dk_172 (dk_at dksJ8_isNaN_0 11 rfl rfl)
abbrev cJ8_isFinite : ByteArray := prog_9_method_8_code
def yJ8_isFinite : MethodName := ⟨RJ8, "isFinite", "(D)Z"⟩
def dkwJ8_isFinite_0 : List UInt8 := [38, 184, 0, 38, 20, 0, 111, 152, 157, 0, 7, 4, 167, 0, 4, 3, 172]
abbrev dktJ8_isFinite_0 : List UInt8 := dkwJ8_isFinite_0 ++ []
theorem dksJ8_isFinite_0 : cJ8_isFinite.data.toList.drop 0 = dktJ8_isFinite_0 := by decide +kernel
theorem dJ8_isFinite_0 : decode cJ8_isFinite 0 = .ok (.dload_n 0, 1) := dk_38 (dk_at dksJ8_isFinite_0 0 rfl rfl)
theorem dJ8_isFinite_1 : decode cJ8_isFinite 1 = .ok (.invokestatic 38, 3) := dk_184 0 38 (dk_at dksJ8_isFinite_0 1 rfl rfl)
theorem dJ8_isFinite_4 : decode cJ8_isFinite 4 = .ok (.ldc2_w 111, 3) := dk_20 0 111 (dk_at dksJ8_isFinite_0 4 rfl rfl)
theorem dJ8_isFinite_7 : decode cJ8_isFinite 7 = .ok (.dcmp .g, 1) := dk_152 (dk_at dksJ8_isFinite_0 7 rfl rfl)
theorem dJ8_isFinite_8 : decode cJ8_isFinite 8 = .ok (.ifCond .gt 7, 3) := dk_157 0 7 (dk_at dksJ8_isFinite_0 8 rfl rfl)
theorem dJ8_isFinite_11 : decode cJ8_isFinite 11 = .ok (.iconst 1, 1) := dk_4 (dk_at dksJ8_isFinite_0 11 rfl rfl)
theorem dJ8_isFinite_12 : decode cJ8_isFinite 12 = .ok (.goto 4, 3) := dk_167 0 4 (dk_at dksJ8_isFinite_0 12 rfl rfl)
theorem dJ8_isFinite_15 : decode cJ8_isFinite 15 = .ok (.iconst 0, 1) := dk_3 (dk_at dksJ8_isFinite_0 15 rfl rfl)
theorem dJ8_isFinite_16 : decode cJ8_isFinite 16 = .ok (.ireturn, 1) := dk_172 (dk_at dksJ8_isFinite_0 16 rfl rfl)
theorem q53 : (Jvm.Cond.initialized "java/lang/Double") ∈ lw_all := lw_g (lw_at lw_m1 13 rfl) rfl
theorem q132 : (Jvm.Cond.static ({ cls := "java/lang/Double", name := "compare", desc := "(DD)I" } : Jvm.MethodName)) ∈ lw_all := lw_g (lw_at lw_m1 92 rfl) rfl
theorem q133 : (Jvm.Cond.code ({ cls := "java/lang/Double", name := "compare", desc := "(DD)I" } : Jvm.MethodName) prog_9_method_27_code (8 : Nat) (Option.some Jvm.ClassFile.FieldType.int)) ∈ lw_all := lw_g (lw_at lw_m1 93 rfl) rfl
theorem q134 : (Jvm.Cond.methodLink "java/lang/Double" (46 : Nat) ({ cls := "java/lang/Double", name := "doubleToLongBits", desc := "(D)J" } : Jvm.MethodName)) ∈ lw_all := lw_g (lw_at lw_m1 94 rfl) rfl
theorem q135 : (Jvm.Cond.static ({ cls := "java/lang/Double", name := "doubleToLongBits", desc := "(D)J" } : Jvm.MethodName)) ∈ lw_all := lw_g (lw_at lw_m1 95 rfl) rfl
theorem q136 : (Jvm.Cond.code ({ cls := "java/lang/Double", name := "doubleToLongBits", desc := "(D)J" } : Jvm.MethodName) prog_9_method_23_code (2 : Nat) (Option.some Jvm.ClassFile.FieldType.long)) ∈ lw_all := lw_g (lw_at lw_m1 96 rfl) rfl
theorem q137 : (Jvm.Cond.methodLink "java/lang/Double" (122 : Nat) ({ cls := "java/lang/Double", name := "isNaN", desc := "(D)Z" } : Jvm.MethodName)) ∈ lw_all := lw_g (lw_at lw_m1 97 rfl) rfl
theorem q138 : (Jvm.Cond.static ({ cls := "java/lang/Double", name := "isNaN", desc := "(D)Z" } : Jvm.MethodName)) ∈ lw_all := lw_g (lw_at lw_m1 98 rfl) rfl
theorem q139 : (Jvm.Cond.code ({ cls := "java/lang/Double", name := "isNaN", desc := "(D)Z" } : Jvm.MethodName) prog_9_method_6_code (2 : Nat) (Option.some Jvm.ClassFile.FieldType.boolean)) ∈ lw_all := lw_g (lw_at lw_m1 99 rfl) rfl
theorem q140 : (Jvm.Cond.methodLink "java/lang/Double" (134 : Nat) ({ cls := "java/lang/Double", name := "doubleToRawLongBits", desc := "(D)J" } : Jvm.MethodName)) ∈ lw_all := lw_g (lw_at lw_m1 100 rfl) rfl
theorem q141 : (Jvm.Cond.static ({ cls := "java/lang/Double", name := "doubleToRawLongBits", desc := "(D)J" } : Jvm.MethodName)) ∈ lw_all := lw_g (lw_at lw_m1 101 rfl) rfl
theorem q142 : (Jvm.Cond.native ({ cls := "java/lang/Double", name := "doubleToRawLongBits", desc := "(D)J" } : Jvm.MethodName)) ∈ lw_all := lw_g (lw_at lw_m1 102 rfl) rfl
theorem q143 : (Jvm.Cond.constantLong "java/lang/Double" (137 : Nat) (9221120237041090560 : Int64)) ∈ lw_all := lw_g (lw_at lw_m1 103 rfl) rfl
theorem q207 : (Jvm.Cond.static ({ cls := "java/lang/Double", name := "isFinite", desc := "(D)Z" } : Jvm.MethodName)) ∈ lw_all := lw_g (lw_at lw_m1 167 rfl) rfl
theorem q208 : (Jvm.Cond.code ({ cls := "java/lang/Double", name := "isFinite", desc := "(D)Z" } : Jvm.MethodName) prog_9_method_8_code (2 : Nat) (Option.some Jvm.ClassFile.FieldType.boolean)) ∈ lw_all := lw_g (lw_at lw_m1 168 rfl) rfl
theorem q209 : (Jvm.Cond.methodLink "java/lang/Double" (38 : Nat) ({ cls := "java/lang/Math", name := "abs", desc := "(D)D" } : Jvm.MethodName)) ∈ lw_all := lw_g (lw_at lw_m1 169 rfl) rfl
theorem q215 : (Jvm.Cond.static ({ cls := "java/lang/Double", name := "longBitsToDouble", desc := "(J)D" } : Jvm.MethodName)) ∈ lw_all := lw_g (lw_at lw_m1 175 rfl) rfl
theorem q216 : (Jvm.Cond.native ({ cls := "java/lang/Double", name := "longBitsToDouble", desc := "(J)D" } : Jvm.MethodName)) ∈ lw_all := lw_g (lw_at lw_m1 176 rfl) rfl
theorem q217 : (Jvm.Cond.constantDouble "java/lang/Double" (111 : Nat) (9218868437227405311 : UInt64)) ∈ lw_all := lw_g (lw_at lw_m1 177 rfl) rfl

/-! java/lang/StrictMath -/
set_option maxRecDepth 100000
def RJ9 : String := "java/lang/StrictMath"
abbrev cJ9_cbrt : ByteArray := prog_20_method_14_code
def yJ9_cbrt : MethodName := ⟨RJ9, "cbrt", "(D)D"⟩
theorem dJ9_cbrt_0 : decode cJ9_cbrt 0 = .ok (.dload_n 0, 1) := by decide +kernel
theorem dJ9_cbrt_1 : decode cJ9_cbrt 1 = .ok (.invokestatic 50, 3) := by decide +kernel
theorem dJ9_cbrt_4 : decode cJ9_cbrt 4 = .ok (.dreturn, 1) := by decide +kernel
theorem q54 : (Jvm.Cond.initialized "java/lang/StrictMath") ∈ lw_all := lw_g (lw_at lw_m1 14 rfl) rfl
theorem q201 : (Jvm.Cond.static ({ cls := "java/lang/StrictMath", name := "cbrt", desc := "(D)D" } : Jvm.MethodName)) ∈ lw_all := lw_g (lw_at lw_m1 161 rfl) rfl
theorem q202 : (Jvm.Cond.code ({ cls := "java/lang/StrictMath", name := "cbrt", desc := "(D)D" } : Jvm.MethodName) prog_20_method_14_code (2 : Nat) (Option.some Jvm.ClassFile.FieldType.double)) ∈ lw_all := lw_g (lw_at lw_m1 162 rfl) rfl
theorem q203 : (Jvm.Cond.methodLink "java/lang/StrictMath" (50 : Nat) ({ cls := "java/lang/FdLibm$Cbrt", name := "compute", desc := "(D)D" } : Jvm.MethodName)) ∈ lw_all := lw_g (lw_at lw_m1 163 rfl) rfl

/-! java/lang/FdLibm$Cbrt -/
set_option maxRecDepth 100000
def RJ10 : String := "java/lang/FdLibm$Cbrt"
abbrev cJ10_compute : ByteArray := prog_12_method_2_code
def yJ10_compute : MethodName := ⟨RJ10, "compute", "(D)D"⟩
def dkwJ10_compute_8 : List UInt8 := [107, 175]
abbrev dktJ10_compute_8 : List UInt8 := dkwJ10_compute_8 ++ []
def dkwJ10_compute_7 : List UInt8 := [57, 10, 24, 6, 40, 103, 24, 10, 24, 6, 99, 111, 57, 6, 40, 40, 24, 6, 107, 99, 73, 24, 4, 40]
abbrev dktJ10_compute_7 : List UInt8 := dkwJ10_compute_7 ++ dktJ10_compute_8
def dkwJ10_compute_6 : List UInt8 := [184, 0, 28, 4, 96, 184, 0, 37, 73, 40, 40, 107, 57, 8, 38, 24, 8, 111, 57, 6, 40, 40, 99]
abbrev dktJ10_compute_6 : List UInt8 := dkwJ10_compute_6 ++ dktJ10_compute_7
def dkwJ10_compute_5 : List UInt8 := [20, 0, 47, 99, 20, 0, 49, 24, 8, 111, 99, 111, 99, 107, 73, 40, 3, 184, 0, 51, 73, 40, 40]
abbrev dktJ10_compute_5 : List UInt8 := dkwJ10_compute_5 ++ dktJ10_compute_6
def dkwJ10_compute_4 : List UInt8 := [38, 111, 57, 6, 20, 0, 41, 24, 6, 40, 107, 99, 57, 8, 40, 20, 0, 43, 20, 0, 45, 24, 8]
abbrev dktJ10_compute_4 : List UInt8 := dkwJ10_compute_4 ++ dktJ10_compute_5
def dkwJ10_compute_3 : List UInt8 := [167, 0, 21, 38, 184, 0, 28, 54, 6, 40, 21, 6, 6, 108, 18, 40, 96, 184, 0, 37, 73, 40, 40, 107]
abbrev dktJ10_compute_3 : List UInt8 := dkwJ10_compute_3 ++ dktJ10_compute_4
def dkwJ10_compute_2 : List UInt8 := [20, 0, 26, 73, 40, 38, 107, 73, 40, 40, 184, 0, 28, 6, 108, 18, 36, 96, 184, 0, 37, 73]
abbrev dktJ10_compute_2 : List UInt8 := dkwJ10_compute_2 ++ dktJ10_compute_3
def dkwJ10_compute_1 : List UInt8 := [20, 0, 16, 167, 0, 4, 15, 57, 4, 38, 184, 0, 18, 71, 38, 20, 0, 24, 152, 156, 0, 28]
abbrev dktJ10_compute_1 : List UInt8 := dkwJ10_compute_1 ++ dktJ10_compute_2
def dkwJ10_compute_0 : List UInt8 := [14, 73, 38, 14, 151, 153, 0, 10, 38, 184, 0, 10, 154, 0, 5, 38, 175, 38, 14, 152, 156, 0, 9]
abbrev dktJ10_compute_0 : List UInt8 := dkwJ10_compute_0 ++ dktJ10_compute_1
theorem dksJ10_compute_0 : cJ10_compute.data.toList.drop 0 = dktJ10_compute_0 := by decide +kernel
theorem dksJ10_compute_1 : cJ10_compute.data.toList.drop 23 = dktJ10_compute_1 := dk_seg dksJ10_compute_0 23 rfl rfl
theorem dksJ10_compute_2 : cJ10_compute.data.toList.drop 45 = dktJ10_compute_2 := dk_seg dksJ10_compute_1 22 rfl rfl
theorem dksJ10_compute_3 : cJ10_compute.data.toList.drop 67 = dktJ10_compute_3 := dk_seg dksJ10_compute_2 22 rfl rfl
theorem dksJ10_compute_4 : cJ10_compute.data.toList.drop 91 = dktJ10_compute_4 := dk_seg dksJ10_compute_3 24 rfl rfl
theorem dksJ10_compute_5 : cJ10_compute.data.toList.drop 114 = dktJ10_compute_5 := dk_seg dksJ10_compute_4 23 rfl rfl
theorem dksJ10_compute_6 : cJ10_compute.data.toList.drop 137 = dktJ10_compute_6 := dk_seg dksJ10_compute_5 23 rfl rfl
theorem dksJ10_compute_7 : cJ10_compute.data.toList.drop 160 = dktJ10_compute_7 := dk_seg dksJ10_compute_6 23 rfl rfl
theorem dksJ10_compute_8 : cJ10_compute.data.toList.drop 184 = dktJ10_compute_8 := dk_seg dksJ10_compute_7 24 rfl rfl
theorem dJ10_compute_0 : decode cJ10_compute 0 = .ok (.dconst 0, 1) := dk_14 (dk_at dksJ10_compute_0 0 rfl rfl)
theorem dJ10_compute_1 : decode cJ10_compute 1 = .ok (.dstore_n 2, 1) := dk_73 (dk_at dksJ10_compute_0 1 rfl rfl)
theorem dJ10_compute_2 : decode cJ10_compute 2 = .ok (.dload_n 0, 1) := dk_38 (dk_at dksJ10_compute_0 2 rfl rfl)
theorem dJ10_compute_3 : decode cJ10_compute 3 = .ok (.dconst 0, 1) := dk_14 (dk_at dksJ10_compute_0 3 rfl rfl)
theorem dJ10_compute_4 : decode cJ10_compute 4 = .ok (.dcmp .l, 1) := dk_151 (dk_at dksJ10_compute_0 4 rfl rfl)
theorem dJ10_compute_5 : decode cJ10_compute 5 = .ok (.ifCond .eq 10, 3) := dk_153 0 10 (dk_at dksJ10_compute_0 5 rfl rfl)
theorem dJ10_compute_8 : decode cJ10_compute 8 = .ok (.dload_n 0, 1) := dk_38 (dk_at dksJ10_compute_0 8 rfl rfl)
theorem dJ10_compute_9 : decode cJ10_compute 9 = .ok (.invokestatic 10, 3) := dk_184 0 10 (dk_at dksJ10_compute_0 9 rfl rfl)
theorem dJ10_compute_12 : decode cJ10_compute 12 = .ok (.ifCond .ne 5, 3) := dk_154 0 5 (dk_at dksJ10_compute_0 12 rfl rfl)
theorem dJ10_compute_15 : decode cJ10_compute 15 = .ok (.dload_n 0, 1) := dk_38 (dk_at dksJ10_compute_0 15 rfl rfl)
theorem dJ10_compute_16 : decode cJ10_compute 16 = .ok (.dreturn, 1) := dk_175 (dk_at dksJ10_compute_0 16 rfl rfl)
theorem dJ10_compute_17 : decode cJ10_compute 17 = .ok (.dload_n 0, 1) := dk_38 (dk_at dksJ10_compute_0 17 rfl rfl)
theorem dJ10_compute_18 : decode cJ10_compute 18 = .ok (.dconst 0, 1) := dk_14 (dk_at dksJ10_compute_0 18 rfl rfl)
theorem dJ10_compute_19 : decode cJ10_compute 19 = .ok (.dcmp .g, 1) := dk_152 (dk_at dksJ10_compute_0 19 rfl rfl)
theorem dJ10_compute_20 : decode cJ10_compute 20 = .ok (.ifCond .ge 9, 3) := dk_156 0 9 (dk_at dksJ10_compute_0 20 rfl rfl)
theorem dJ10_compute_23 : decode cJ10_compute 23 = .ok (.ldc2_w 16, 3) := dk_20 0 16 (dk_at dksJ10_compute_1 0 rfl rfl)
theorem dJ10_compute_26 : decode cJ10_compute 26 = .ok (.goto 4, 3) := dk_167 0 4 (dk_at dksJ10_compute_1 3 rfl rfl)
theorem dJ10_compute_29 : decode cJ10_compute 29 = .ok (.dconst 1, 1) := dk_15 (dk_at dksJ10_compute_1 6 rfl rfl)
theorem dJ10_compute_30 : decode cJ10_compute 30 = .ok (.dstore 4, 2) := dk_57 4 (dk_at dksJ10_compute_1 7 rfl rfl)
theorem dJ10_compute_32 : decode cJ10_compute 32 = .ok (.dload_n 0, 1) := dk_38 (dk_at dksJ10_compute_1 9 rfl rfl)
theorem dJ10_compute_33 : decode cJ10_compute 33 = .ok (.invokestatic 18, 3) := dk_184 0 18 (dk_at dksJ10_compute_1 10 rfl rfl)
theorem dJ10_compute_36 : decode cJ10_compute 36 = .ok (.dstore_n 0, 1) := dk_71 (dk_at dksJ10_compute_1 13 rfl rfl)
theorem dJ10_compute_37 : decode cJ10_compute 37 = .ok (.dload_n 0, 1) := dk_38 (dk_at dksJ10_compute_1 14 rfl rfl)
theorem dJ10_compute_38 : decode cJ10_compute 38 = .ok (.ldc2_w 24, 3) := dk_20 0 24 (dk_at dksJ10_compute_1 15 rfl rfl)
theorem dJ10_compute_41 : decode cJ10_compute 41 = .ok (.dcmp .g, 1) := dk_152 (dk_at dksJ10_compute_1 18 rfl rfl)
theorem dJ10_compute_42 : decode cJ10_compute 42 = .ok (.ifCond .ge 28, 3) := dk_156 0 28 (dk_at dksJ10_compute_1 19 rfl rfl)
theorem dJ10_compute_45 : decode cJ10_compute 45 = .ok (.ldc2_w 26, 3) := dk_20 0 26 (dk_at dksJ10_compute_2 0 rfl rfl)
theorem dJ10_compute_48 : decode cJ10_compute 48 = .ok (.dstore_n 2, 1) := dk_73 (dk_at dksJ10_compute_2 3 rfl rfl)
theorem dJ10_compute_49 : decode cJ10_compute 49 = .ok (.dload_n 2, 1) := dk_40 (dk_at dksJ10_compute_2 4 rfl rfl)
theorem dJ10_compute_50 : decode cJ10_compute 50 = .ok (.dload_n 0, 1) := dk_38 (dk_at dksJ10_compute_2 5 rfl rfl)
theorem dJ10_compute_51 : decode cJ10_compute 51 = .ok (.dmul, 1) := dk_107 (dk_at dksJ10_compute_2 6 rfl rfl)
theorem dJ10_compute_52 : decode cJ10_compute 52 = .ok (.dstore_n 2, 1) := dk_73 (dk_at dksJ10_compute_2 7 rfl rfl)
theorem dJ10_compute_53 : decode cJ10_compute 53 = .ok (.dload_n 2, 1) := dk_40 (dk_at dksJ10_compute_2 8 rfl rfl)
theorem dJ10_compute_54 : decode cJ10_compute 54 = .ok (.dload_n 2, 1) := dk_40 (dk_at dksJ10_compute_2 9 rfl rfl)
theorem dJ10_compute_55 : decode cJ10_compute 55 = .ok (.invokestatic 28, 3) := dk_184 0 28 (dk_at dksJ10_compute_2 10 rfl rfl)
theorem dJ10_compute_58 : decode cJ10_compute 58 = .ok (.iconst 3, 1) := dk_6 (dk_at dksJ10_compute_2 13 rfl rfl)
theorem dJ10_compute_59 : decode cJ10_compute 59 = .ok (.idiv, 1) := dk_108 (dk_at dksJ10_compute_2 14 rfl rfl)
theorem dJ10_compute_60 : decode cJ10_compute 60 = .ok (.ldc 36, 2) := dk_18 36 (dk_at dksJ10_compute_2 15 rfl rfl)
theorem dJ10_compute_62 : decode cJ10_compute 62 = .ok (.iadd, 1) := dk_96 (dk_at dksJ10_compute_2 17 rfl rfl)
theorem dJ10_compute_63 : decode cJ10_compute 63 = .ok (.invokestatic 37, 3) := dk_184 0 37 (dk_at dksJ10_compute_2 18 rfl rfl)
theorem dJ10_compute_66 : decode cJ10_compute 66 = .ok (.dstore_n 2, 1) := dk_73 (dk_at dksJ10_compute_2 21 rfl rfl)
theorem dJ10_compute_67 : decode cJ10_compute 67 = .ok (.goto 21, 3) := dk_167 0 21 (dk_at dksJ10_compute_3 0 rfl rfl)
theorem dJ10_compute_70 : decode cJ10_compute 70 = .ok (.dload_n 0, 1) := dk_38 (dk_at dksJ10_compute_3 3 rfl rfl)
theorem dJ10_compute_71 : decode cJ10_compute 71 = .ok (.invokestatic 28, 3) := dk_184 0 28 (dk_at dksJ10_compute_3 4 rfl rfl)
theorem dJ10_compute_74 : decode cJ10_compute 74 = .ok (.istore 6, 2) := dk_54 6 (dk_at dksJ10_compute_3 7 rfl rfl)
theorem dJ10_compute_76 : decode cJ10_compute 76 = .ok (.dload_n 2, 1) := dk_40 (dk_at dksJ10_compute_3 9 rfl rfl)
theorem dJ10_compute_77 : decode cJ10_compute 77 = .ok (.iload 6, 2) := dk_21 6 (dk_at dksJ10_compute_3 10 rfl rfl)
theorem dJ10_compute_79 : decode cJ10_compute 79 = .ok (.iconst 3, 1) := dk_6 (dk_at dksJ10_compute_3 12 rfl rfl)
theorem dJ10_compute_80 : decode cJ10_compute 80 = .ok (.idiv, 1) := dk_108 (dk_at dksJ10_compute_3 13 rfl rfl)
theorem dJ10_compute_81 : decode cJ10_compute 81 = .ok (.ldc 40, 2) := dk_18 40 (dk_at dksJ10_compute_3 14 rfl rfl)
theorem dJ10_compute_83 : decode cJ10_compute 83 = .ok (.iadd, 1) := dk_96 (dk_at dksJ10_compute_3 16 rfl rfl)
theorem dJ10_compute_84 : decode cJ10_compute 84 = .ok (.invokestatic 37, 3) := dk_184 0 37 (dk_at dksJ10_compute_3 17 rfl rfl)
theorem dJ10_compute_87 : decode cJ10_compute 87 = .ok (.dstore_n 2, 1) := dk_73 (dk_at dksJ10_compute_3 20 rfl rfl)
theorem dJ10_compute_88 : decode cJ10_compute 88 = .ok (.dload_n 2, 1) := dk_40 (dk_at dksJ10_compute_3 21 rfl rfl)
theorem dJ10_compute_89 : decode cJ10_compute 89 = .ok (.dload_n 2, 1) := dk_40 (dk_at dksJ10_compute_3 22 rfl rfl)
theorem dJ10_compute_90 : decode cJ10_compute 90 = .ok (.dmul, 1) := dk_107 (dk_at dksJ10_compute_3 23 rfl rfl)
theorem dJ10_compute_91 : decode cJ10_compute 91 = .ok (.dload_n 0, 1) := dk_38 (dk_at dksJ10_compute_4 0 rfl rfl)
theorem dJ10_compute_92 : decode cJ10_compute 92 = .ok (.ddiv, 1) := dk_111 (dk_at dksJ10_compute_4 1 rfl rfl)
theorem dJ10_compute_93 : decode cJ10_compute 93 = .ok (.dstore 6, 2) := dk_57 6 (dk_at dksJ10_compute_4 2 rfl rfl)
theorem dJ10_compute_95 : decode cJ10_compute 95 = .ok (.ldc2_w 41, 3) := dk_20 0 41 (dk_at dksJ10_compute_4 4 rfl rfl)
theorem dJ10_compute_98 : decode cJ10_compute 98 = .ok (.dload 6, 2) := dk_24 6 (dk_at dksJ10_compute_4 7 rfl rfl)
theorem dJ10_compute_100 : decode cJ10_compute 100 = .ok (.dload_n 2, 1) := dk_40 (dk_at dksJ10_compute_4 9 rfl rfl)
theorem dJ10_compute_101 : decode cJ10_compute 101 = .ok (.dmul, 1) := dk_107 (dk_at dksJ10_compute_4 10 rfl rfl)
theorem dJ10_compute_102 : decode cJ10_compute 102 = .ok (.dadd, 1) := dk_99 (dk_at dksJ10_compute_4 11 rfl rfl)
theorem dJ10_compute_103 : decode cJ10_compute 103 = .ok (.dstore 8, 2) := dk_57 8 (dk_at dksJ10_compute_4 12 rfl rfl)
theorem dJ10_compute_105 : decode cJ10_compute 105 = .ok (.dload_n 2, 1) := dk_40 (dk_at dksJ10_compute_4 14 rfl rfl)
theorem dJ10_compute_106 : decode cJ10_compute 106 = .ok (.ldc2_w 43, 3) := dk_20 0 43 (dk_at dksJ10_compute_4 15 rfl rfl)
theorem dJ10_compute_109 : decode cJ10_compute 109 = .ok (.ldc2_w 45, 3) := dk_20 0 45 (dk_at dksJ10_compute_4 18 rfl rfl)
theorem dJ10_compute_112 : decode cJ10_compute 112 = .ok (.dload 8, 2) := dk_24 8 (dk_at dksJ10_compute_4 21 rfl rfl)
theorem dJ10_compute_114 : decode cJ10_compute 114 = .ok (.ldc2_w 47, 3) := dk_20 0 47 (dk_at dksJ10_compute_5 0 rfl rfl)
theorem dJ10_compute_117 : decode cJ10_compute 117 = .ok (.dadd, 1) := dk_99 (dk_at dksJ10_compute_5 3 rfl rfl)
theorem dJ10_compute_118 : decode cJ10_compute 118 = .ok (.ldc2_w 49, 3) := dk_20 0 49 (dk_at dksJ10_compute_5 4 rfl rfl)
theorem dJ10_compute_121 : decode cJ10_compute 121 = .ok (.dload 8, 2) := dk_24 8 (dk_at dksJ10_compute_5 7 rfl rfl)
theorem dJ10_compute_123 : decode cJ10_compute 123 = .ok (.ddiv, 1) := dk_111 (dk_at dksJ10_compute_5 9 rfl rfl)
theorem dJ10_compute_124 : decode cJ10_compute 124 = .ok (.dadd, 1) := dk_99 (dk_at dksJ10_compute_5 10 rfl rfl)
theorem dJ10_compute_125 : decode cJ10_compute 125 = .ok (.ddiv, 1) := dk_111 (dk_at dksJ10_compute_5 11 rfl rfl)
theorem dJ10_compute_126 : decode cJ10_compute 126 = .ok (.dadd, 1) := dk_99 (dk_at dksJ10_compute_5 12 rfl rfl)
theorem dJ10_compute_127 : decode cJ10_compute 127 = .ok (.dmul, 1) := dk_107 (dk_at dksJ10_compute_5 13 rfl rfl)
theorem dJ10_compute_128 : decode cJ10_compute 128 = .ok (.dstore_n 2, 1) := dk_73 (dk_at dksJ10_compute_5 14 rfl rfl)
theorem dJ10_compute_129 : decode cJ10_compute 129 = .ok (.dload_n 2, 1) := dk_40 (dk_at dksJ10_compute_5 15 rfl rfl)
theorem dJ10_compute_130 : decode cJ10_compute 130 = .ok (.iconst 0, 1) := dk_3 (dk_at dksJ10_compute_5 16 rfl rfl)
theorem dJ10_compute_131 : decode cJ10_compute 131 = .ok (.invokestatic 51, 3) := dk_184 0 51 (dk_at dksJ10_compute_5 17 rfl rfl)
theorem dJ10_compute_134 : decode cJ10_compute 134 = .ok (.dstore_n 2, 1) := dk_73 (dk_at dksJ10_compute_5 20 rfl rfl)
theorem dJ10_compute_135 : decode cJ10_compute 135 = .ok (.dload_n 2, 1) := dk_40 (dk_at dksJ10_compute_5 21 rfl rfl)
theorem dJ10_compute_136 : decode cJ10_compute 136 = .ok (.dload_n 2, 1) := dk_40 (dk_at dksJ10_compute_5 22 rfl rfl)
theorem dJ10_compute_137 : decode cJ10_compute 137 = .ok (.invokestatic 28, 3) := dk_184 0 28 (dk_at dksJ10_compute_6 0 rfl rfl)
theorem dJ10_compute_140 : decode cJ10_compute 140 = .ok (.iconst 1, 1) := dk_4 (dk_at dksJ10_compute_6 3 rfl rfl)
theorem dJ10_compute_141 : decode cJ10_compute 141 = .ok (.iadd, 1) := dk_96 (dk_at dksJ10_compute_6 4 rfl rfl)
theorem dJ10_compute_142 : decode cJ10_compute 142 = .ok (.invokestatic 37, 3) := dk_184 0 37 (dk_at dksJ10_compute_6 5 rfl rfl)
theorem dJ10_compute_145 : decode cJ10_compute 145 = .ok (.dstore_n 2, 1) := dk_73 (dk_at dksJ10_compute_6 8 rfl rfl)
theorem dJ10_compute_146 : decode cJ10_compute 146 = .ok (.dload_n 2, 1) := dk_40 (dk_at dksJ10_compute_6 9 rfl rfl)
theorem dJ10_compute_147 : decode cJ10_compute 147 = .ok (.dload_n 2, 1) := dk_40 (dk_at dksJ10_compute_6 10 rfl rfl)
theorem dJ10_compute_148 : decode cJ10_compute 148 = .ok (.dmul, 1) := dk_107 (dk_at dksJ10_compute_6 11 rfl rfl)
theorem dJ10_compute_149 : decode cJ10_compute 149 = .ok (.dstore 8, 2) := dk_57 8 (dk_at dksJ10_compute_6 12 rfl rfl)
theorem dJ10_compute_151 : decode cJ10_compute 151 = .ok (.dload_n 0, 1) := dk_38 (dk_at dksJ10_compute_6 14 rfl rfl)
theorem dJ10_compute_152 : decode cJ10_compute 152 = .ok (.dload 8, 2) := dk_24 8 (dk_at dksJ10_compute_6 15 rfl rfl)
theorem dJ10_compute_154 : decode cJ10_compute 154 = .ok (.ddiv, 1) := dk_111 (dk_at dksJ10_compute_6 17 rfl rfl)
theorem dJ10_compute_155 : decode cJ10_compute 155 = .ok (.dstore 6, 2) := dk_57 6 (dk_at dksJ10_compute_6 18 rfl rfl)
theorem dJ10_compute_157 : decode cJ10_compute 157 = .ok (.dload_n 2, 1) := dk_40 (dk_at dksJ10_compute_6 20 rfl rfl)
theorem dJ10_compute_158 : decode cJ10_compute 158 = .ok (.dload_n 2, 1) := dk_40 (dk_at dksJ10_compute_6 21 rfl rfl)
theorem dJ10_compute_159 : decode cJ10_compute 159 = .ok (.dadd, 1) := dk_99 (dk_at dksJ10_compute_6 22 rfl rfl)
theorem dJ10_compute_160 : decode cJ10_compute 160 = .ok (.dstore 10, 2) := dk_57 10 (dk_at dksJ10_compute_7 0 rfl rfl)
theorem dJ10_compute_162 : decode cJ10_compute 162 = .ok (.dload 6, 2) := dk_24 6 (dk_at dksJ10_compute_7 2 rfl rfl)
theorem dJ10_compute_164 : decode cJ10_compute 164 = .ok (.dload_n 2, 1) := dk_40 (dk_at dksJ10_compute_7 4 rfl rfl)
theorem dJ10_compute_165 : decode cJ10_compute 165 = .ok (.dsub, 1) := dk_103 (dk_at dksJ10_compute_7 5 rfl rfl)
theorem dJ10_compute_166 : decode cJ10_compute 166 = .ok (.dload 10, 2) := dk_24 10 (dk_at dksJ10_compute_7 6 rfl rfl)
theorem dJ10_compute_168 : decode cJ10_compute 168 = .ok (.dload 6, 2) := dk_24 6 (dk_at dksJ10_compute_7 8 rfl rfl)
theorem dJ10_compute_170 : decode cJ10_compute 170 = .ok (.dadd, 1) := dk_99 (dk_at dksJ10_compute_7 10 rfl rfl)
theorem dJ10_compute_171 : decode cJ10_compute 171 = .ok (.ddiv, 1) := dk_111 (dk_at dksJ10_compute_7 11 rfl rfl)
theorem dJ10_compute_172 : decode cJ10_compute 172 = .ok (.dstore 6, 2) := dk_57 6 (dk_at dksJ10_compute_7 12 rfl rfl)
theorem dJ10_compute_174 : decode cJ10_compute 174 = .ok (.dload_n 2, 1) := dk_40 (dk_at dksJ10_compute_7 14 rfl rfl)
theorem dJ10_compute_175 : decode cJ10_compute 175 = .ok (.dload_n 2, 1) := dk_40 (dk_at dksJ10_compute_7 15 rfl rfl)
theorem dJ10_compute_176 : decode cJ10_compute 176 = .ok (.dload 6, 2) := dk_24 6 (dk_at dksJ10_compute_7 16 rfl rfl)
theorem dJ10_compute_178 : decode cJ10_compute 178 = .ok (.dmul, 1) := dk_107 (dk_at dksJ10_compute_7 18 rfl rfl)
theorem dJ10_compute_179 : decode cJ10_compute 179 = .ok (.dadd, 1) := dk_99 (dk_at dksJ10_compute_7 19 rfl rfl)
theorem dJ10_compute_180 : decode cJ10_compute 180 = .ok (.dstore_n 2, 1) := dk_73 (dk_at dksJ10_compute_7 20 rfl rfl)
theorem dJ10_compute_181 : decode cJ10_compute 181 = .ok (.dload 4, 2) := dk_24 4 (dk_at dksJ10_compute_7 21 rfl rfl)
theorem dJ10_compute_183 : decode cJ10_compute 183 = .ok (.dload_n 2, 1) := dk_40 (dk_at dksJ10_compute_7 23 rfl rfl)
theorem dJ10_compute_184 : decode cJ10_compute 184 = .ok (.dmul, 1) := dk_107 (dk_at dksJ10_compute_8 0 rfl rfl)
theorem dJ10_compute_185 : decode cJ10_compute 185 = .ok (.dreturn, 1) := dk_175 (dk_at dksJ10_compute_8 1 rfl rfl)
theorem q55 : (Jvm.Cond.initialized "java/lang/FdLibm$Cbrt") ∈ lw_all := lw_g (lw_at lw_m1 15 rfl) rfl
theorem q204 : (Jvm.Cond.static ({ cls := "java/lang/FdLibm$Cbrt", name := "compute", desc := "(D)D" } : Jvm.MethodName)) ∈ lw_all := lw_g (lw_at lw_m1 164 rfl) rfl
theorem q205 : (Jvm.Cond.code ({ cls := "java/lang/FdLibm$Cbrt", name := "compute", desc := "(D)D" } : Jvm.MethodName) prog_12_method_2_code (12 : Nat) (Option.some Jvm.ClassFile.FieldType.double)) ∈ lw_all := lw_g (lw_at lw_m1 165 rfl) rfl
theorem q206 : (Jvm.Cond.methodLink "java/lang/FdLibm$Cbrt" (10 : Nat) ({ cls := "java/lang/Double", name := "isFinite", desc := "(D)Z" } : Jvm.MethodName)) ∈ lw_all := lw_g (lw_at lw_m1 166 rfl) rfl
theorem q218 : (Jvm.Cond.constantDouble "java/lang/FdLibm$Cbrt" (16 : Nat) (13830554455654793216 : UInt64)) ∈ lw_all := lw_g (lw_at lw_m1 178 rfl) rfl
theorem q219 : (Jvm.Cond.methodLink "java/lang/FdLibm$Cbrt" (18 : Nat) ({ cls := "java/lang/Math", name := "abs", desc := "(D)D" } : Jvm.MethodName)) ∈ lw_all := lw_g (lw_at lw_m1 179 rfl) rfl
theorem q220 : (Jvm.Cond.constantDouble "java/lang/FdLibm$Cbrt" (24 : Nat) (4503599627370496 : UInt64)) ∈ lw_all := lw_g (lw_at lw_m1 180 rfl) rfl
theorem q221 : (Jvm.Cond.constantDouble "java/lang/FdLibm$Cbrt" (26 : Nat) (4850376798678024192 : UInt64)) ∈ lw_all := lw_g (lw_at lw_m1 181 rfl) rfl
theorem q222 : (Jvm.Cond.methodLinkNest "java/lang/FdLibm$Cbrt" (28 : Nat) ({ cls := "java/lang/FdLibm", name := "__HI", desc := "(D)I" } : Jvm.MethodName) "java/lang/FdLibm") ∈ lw_tbl := lw_at lw_m1 182 rfl
theorem q226 : (Jvm.Cond.constant "java/lang/FdLibm$Cbrt" (36 : Nat) (696219795 : Int32)) ∈ lw_all := lw_g (lw_at lw_m1 186 rfl) rfl
theorem q227 : (Jvm.Cond.methodLinkNest "java/lang/FdLibm$Cbrt" (37 : Nat) ({ cls := "java/lang/FdLibm", name := "__HI", desc := "(DI)D" } : Jvm.MethodName) "java/lang/FdLibm") ∈ lw_tbl := lw_at lw_m1 187 rfl
theorem q232 : (Jvm.Cond.constant "java/lang/FdLibm$Cbrt" (40 : Nat) (715094163 : Int32)) ∈ lw_all := lw_g (lw_at lw_m1 192 rfl) rfl
theorem q233 : (Jvm.Cond.constantDouble "java/lang/FdLibm$Cbrt" (41 : Nat) (4603064841997850097 : UInt64)) ∈ lw_all := lw_g (lw_at lw_m1 193 rfl) rfl
theorem q234 : (Jvm.Cond.constantDouble "java/lang/FdLibm$Cbrt" (43 : Nat) (4600105333671292343 : UInt64)) ∈ lw_all := lw_g (lw_at lw_m1 194 rfl) rfl
theorem q235 : (Jvm.Cond.constantDouble "java/lang/FdLibm$Cbrt" (45 : Nat) (4609916747145206638 : UInt64)) ∈ lw_all := lw_g (lw_at lw_m1 195 rfl) rfl
theorem q236 : (Jvm.Cond.constantDouble "java/lang/FdLibm$Cbrt" (47 : Nat) (4609048195788499471 : UInt64)) ∈ lw_all := lw_g (lw_at lw_m1 196 rfl) rfl
theorem q237 : (Jvm.Cond.constantDouble "java/lang/FdLibm$Cbrt" (49 : Nat) (13827900089180538932 : UInt64)) ∈ lw_all := lw_g (lw_at lw_m1 197 rfl) rfl
theorem q238 : (Jvm.Cond.methodLinkNest "java/lang/FdLibm$Cbrt" (51 : Nat) ({ cls := "java/lang/FdLibm", name := "__LO", desc := "(DI)D" } : Jvm.MethodName) "java/lang/FdLibm") ∈ lw_tbl := lw_at lw_m1 198 rfl

/-! java/lang/Math -/
set_option maxRecDepth 100000
def RJ11 : String := "java/lang/Math"
abbrev cJ11_abs : ByteArray := prog_17_method_64_code
def yJ11_abs : MethodName := ⟨RJ11, "abs", "(D)D"⟩
def dkwJ11_abs_0 : List UInt8 := [38, 184, 0, 79, 20, 0, 135, 127, 184, 0, 166, 175]
abbrev dktJ11_abs_0 : List UInt8 := dkwJ11_abs_0 ++ []
theorem dksJ11_abs_0 : cJ11_abs.data.toList.drop 0 = dktJ11_abs_0 := by decide +kernel
theorem dJ11_abs_0 : decode cJ11_abs 0 = .ok (.dload_n 0, 1) := dk_38 (dk_at dksJ11_abs_0 0 rfl rfl)
theorem dJ11_abs_1 : decode cJ11_abs 1 = .ok (.invokestatic 79, 3) := dk_184 0 79 (dk_at dksJ11_abs_0 1 rfl rfl)
theorem dJ11_abs_4 : decode cJ11_abs 4 = .ok (.ldc2_w 135, 3) := dk_20 0 135 (dk_at dksJ11_abs_0 4 rfl rfl)
theorem dJ11_abs_7 : decode cJ11_abs 7 = .ok (.land, 1) := dk_127 (dk_at dksJ11_abs_0 7 rfl rfl)
theorem dJ11_abs_8 : decode cJ11_abs 8 = .ok (.invokestatic 166, 3) := dk_184 0 166 (dk_at dksJ11_abs_0 8 rfl rfl)
theorem dJ11_abs_11 : decode cJ11_abs 11 = .ok (.dreturn, 1) := dk_175 (dk_at dksJ11_abs_0 11 rfl rfl)
abbrev cJ11_abs_2 : ByteArray := prog_17_method_59_code
def yJ11_abs_2 : MethodName := ⟨RJ11, "abs", "(I)I"⟩
def dkwJ11_abs_2_0 : List UInt8 := [26, 156, 0, 8, 26, 116, 167, 0, 4, 26, 172]
abbrev dktJ11_abs_2_0 : List UInt8 := dkwJ11_abs_2_0 ++ []
theorem dksJ11_abs_2_0 : cJ11_abs_2.data.toList.drop 0 = dktJ11_abs_2_0 := by decide +kernel
theorem dJ11_abs_2_0 : decode cJ11_abs_2 0 = .ok (.iload_n 0, 1) := dk_26 (dk_at dksJ11_abs_2_0 0 rfl rfl)
theorem dJ11_abs_2_1 : decode cJ11_abs_2 1 = .ok (.ifCond .ge 8, 3) := dk_156 0 8 (dk_at dksJ11_abs_2_0 1 rfl rfl)
theorem dJ11_abs_2_4 : decode cJ11_abs_2 4 = .ok (.iload_n 0, 1) := dk_26 (dk_at dksJ11_abs_2_0 4 rfl rfl)
theorem dJ11_abs_2_5 : decode cJ11_abs_2 5 = .ok (.ineg, 1) := dk_116 (dk_at dksJ11_abs_2_0 5 rfl rfl)
theorem dJ11_abs_2_6 : decode cJ11_abs_2 6 = .ok (.goto 4, 3) := dk_167 0 4 (dk_at dksJ11_abs_2_0 6 rfl rfl)
theorem dJ11_abs_2_9 : decode cJ11_abs_2 9 = .ok (.iload_n 0, 1) := dk_26 (dk_at dksJ11_abs_2_0 9 rfl rfl)
theorem dJ11_abs_2_10 : decode cJ11_abs_2 10 = .ok (.ireturn, 1) := dk_172 (dk_at dksJ11_abs_2_0 10 rfl rfl)
abbrev cJ11_min : ByteArray := prog_17_method_69_code
def yJ11_min : MethodName := ⟨RJ11, "min", "(II)I"⟩
def dkwJ11_min_0 : List UInt8 := [26, 27, 163, 0, 7, 26, 167, 0, 4, 27, 172]
abbrev dktJ11_min_0 : List UInt8 := dkwJ11_min_0 ++ []
theorem dksJ11_min_0 : cJ11_min.data.toList.drop 0 = dktJ11_min_0 := by decide +kernel
theorem dJ11_min_0 : decode cJ11_min 0 = .ok (.iload_n 0, 1) := dk_26 (dk_at dksJ11_min_0 0 rfl rfl)
theorem dJ11_min_1 : decode cJ11_min 1 = .ok (.iload_n 1, 1) := dk_27 (dk_at dksJ11_min_0 1 rfl rfl)
theorem dJ11_min_2 : decode cJ11_min 2 = .ok (.if_icmp .gt 7, 3) := dk_163 0 7 (dk_at dksJ11_min_0 2 rfl rfl)
theorem dJ11_min_5 : decode cJ11_min 5 = .ok (.iload_n 0, 1) := dk_26 (dk_at dksJ11_min_0 5 rfl rfl)
theorem dJ11_min_6 : decode cJ11_min 6 = .ok (.goto 4, 3) := dk_167 0 4 (dk_at dksJ11_min_0 6 rfl rfl)
theorem dJ11_min_9 : decode cJ11_min 9 = .ok (.iload_n 1, 1) := dk_27 (dk_at dksJ11_min_0 9 rfl rfl)
theorem dJ11_min_10 : decode cJ11_min 10 = .ok (.ireturn, 1) := dk_172 (dk_at dksJ11_min_0 10 rfl rfl)
abbrev cJ11_max : ByteArray := prog_17_method_65_code
def yJ11_max : MethodName := ⟨RJ11, "max", "(II)I"⟩
def dkwJ11_max_0 : List UInt8 := [26, 27, 161, 0, 7, 26, 167, 0, 4, 27, 172]
abbrev dktJ11_max_0 : List UInt8 := dkwJ11_max_0 ++ []
theorem dksJ11_max_0 : cJ11_max.data.toList.drop 0 = dktJ11_max_0 := by decide +kernel
theorem dJ11_max_0 : decode cJ11_max 0 = .ok (.iload_n 0, 1) := dk_26 (dk_at dksJ11_max_0 0 rfl rfl)
theorem dJ11_max_1 : decode cJ11_max 1 = .ok (.iload_n 1, 1) := dk_27 (dk_at dksJ11_max_0 1 rfl rfl)
theorem dJ11_max_2 : decode cJ11_max 2 = .ok (.if_icmp .lt 7, 3) := dk_161 0 7 (dk_at dksJ11_max_0 2 rfl rfl)
theorem dJ11_max_5 : decode cJ11_max 5 = .ok (.iload_n 0, 1) := dk_26 (dk_at dksJ11_max_0 5 rfl rfl)
theorem dJ11_max_6 : decode cJ11_max 6 = .ok (.goto 4, 3) := dk_167 0 4 (dk_at dksJ11_max_0 6 rfl rfl)
theorem dJ11_max_9 : decode cJ11_max 9 = .ok (.iload_n 1, 1) := dk_27 (dk_at dksJ11_max_0 9 rfl rfl)
theorem dJ11_max_10 : decode cJ11_max 10 = .ok (.ireturn, 1) := dk_172 (dk_at dksJ11_max_0 10 rfl rfl)
abbrev cJ11_floorDiv : ByteArray := prog_17_method_49_code
def yJ11_floorDiv : MethodName := ⟨RJ11, "floorDiv", "(JJ)J"⟩
def dkwJ11_floorDiv_1 : List UInt8 := [10, 101, 173, 22, 4, 173]
abbrev dktJ11_floorDiv_1 : List UInt8 := dkwJ11_floorDiv_1 ++ []
def dkwJ11_floorDiv_0 : List UInt8 := [30, 32, 109, 55, 4, 30, 32, 131, 9, 148, 156, 0, 17, 22, 4, 32, 105, 30, 148, 153, 0, 8, 22, 4]
abbrev dktJ11_floorDiv_0 : List UInt8 := dkwJ11_floorDiv_0 ++ dktJ11_floorDiv_1
theorem dksJ11_floorDiv_0 : cJ11_floorDiv.data.toList.drop 0 = dktJ11_floorDiv_0 := by decide +kernel
theorem dksJ11_floorDiv_1 : cJ11_floorDiv.data.toList.drop 24 = dktJ11_floorDiv_1 := dk_seg dksJ11_floorDiv_0 24 rfl rfl
theorem dJ11_floorDiv_0 : decode cJ11_floorDiv 0 = .ok (.lload_n 0, 1) := dk_30 (dk_at dksJ11_floorDiv_0 0 rfl rfl)
theorem dJ11_floorDiv_1 : decode cJ11_floorDiv 1 = .ok (.lload_n 2, 1) := dk_32 (dk_at dksJ11_floorDiv_0 1 rfl rfl)
theorem dJ11_floorDiv_2 : decode cJ11_floorDiv 2 = .ok (.ldiv, 1) := dk_109 (dk_at dksJ11_floorDiv_0 2 rfl rfl)
theorem dJ11_floorDiv_3 : decode cJ11_floorDiv 3 = .ok (.lstore 4, 2) := dk_55 4 (dk_at dksJ11_floorDiv_0 3 rfl rfl)
theorem dJ11_floorDiv_5 : decode cJ11_floorDiv 5 = .ok (.lload_n 0, 1) := dk_30 (dk_at dksJ11_floorDiv_0 5 rfl rfl)
theorem dJ11_floorDiv_6 : decode cJ11_floorDiv 6 = .ok (.lload_n 2, 1) := dk_32 (dk_at dksJ11_floorDiv_0 6 rfl rfl)
theorem dJ11_floorDiv_7 : decode cJ11_floorDiv 7 = .ok (.lxor, 1) := dk_131 (dk_at dksJ11_floorDiv_0 7 rfl rfl)
theorem dJ11_floorDiv_8 : decode cJ11_floorDiv 8 = .ok (.lconst 0, 1) := dk_9 (dk_at dksJ11_floorDiv_0 8 rfl rfl)
theorem dJ11_floorDiv_9 : decode cJ11_floorDiv 9 = .ok (.lcmp, 1) := dk_148 (dk_at dksJ11_floorDiv_0 9 rfl rfl)
theorem dJ11_floorDiv_10 : decode cJ11_floorDiv 10 = .ok (.ifCond .ge 17, 3) := dk_156 0 17 (dk_at dksJ11_floorDiv_0 10 rfl rfl)
theorem dJ11_floorDiv_13 : decode cJ11_floorDiv 13 = .ok (.lload 4, 2) := dk_22 4 (dk_at dksJ11_floorDiv_0 13 rfl rfl)
theorem dJ11_floorDiv_15 : decode cJ11_floorDiv 15 = .ok (.lload_n 2, 1) := dk_32 (dk_at dksJ11_floorDiv_0 15 rfl rfl)
theorem dJ11_floorDiv_16 : decode cJ11_floorDiv 16 = .ok (.lmul, 1) := dk_105 (dk_at dksJ11_floorDiv_0 16 rfl rfl)
theorem dJ11_floorDiv_17 : decode cJ11_floorDiv 17 = .ok (.lload_n 0, 1) := dk_30 (dk_at dksJ11_floorDiv_0 17 rfl rfl)
theorem dJ11_floorDiv_18 : decode cJ11_floorDiv 18 = .ok (.lcmp, 1) := dk_148 (dk_at dksJ11_floorDiv_0 18 rfl rfl)
theorem dJ11_floorDiv_19 : decode cJ11_floorDiv 19 = .ok (.ifCond .eq 8, 3) := dk_153 0 8 (dk_at dksJ11_floorDiv_0 19 rfl rfl)
theorem dJ11_floorDiv_22 : decode cJ11_floorDiv 22 = .ok (.lload 4, 2) := dk_22 4 (dk_at dksJ11_floorDiv_0 22 rfl rfl)
theorem dJ11_floorDiv_24 : decode cJ11_floorDiv 24 = .ok (.lconst 1, 1) := dk_10 (dk_at dksJ11_floorDiv_1 0 rfl rfl)
theorem dJ11_floorDiv_25 : decode cJ11_floorDiv 25 = .ok (.lsub, 1) := dk_101 (dk_at dksJ11_floorDiv_1 1 rfl rfl)
theorem dJ11_floorDiv_26 : decode cJ11_floorDiv 26 = .ok (.lreturn, 1) := dk_173 (dk_at dksJ11_floorDiv_1 2 rfl rfl)
theorem dJ11_floorDiv_27 : decode cJ11_floorDiv 27 = .ok (.lload 4, 2) := dk_22 4 (dk_at dksJ11_floorDiv_1 3 rfl rfl)
theorem dJ11_floorDiv_29 : decode cJ11_floorDiv 29 = .ok (.lreturn, 1) := dk_173 (dk_at dksJ11_floorDiv_1 5 rfl rfl)
theorem q56 : (Jvm.Cond.initialized "java/lang/Math") ∈ lw_all := lw_g (lw_at lw_m1 16 rfl) rfl
theorem q210 : (Jvm.Cond.static ({ cls := "java/lang/Math", name := "abs", desc := "(D)D" } : Jvm.MethodName)) ∈ lw_all := lw_g (lw_at lw_m1 170 rfl) rfl
theorem q211 : (Jvm.Cond.code ({ cls := "java/lang/Math", name := "abs", desc := "(D)D" } : Jvm.MethodName) prog_17_method_64_code (2 : Nat) (Option.some Jvm.ClassFile.FieldType.double)) ∈ lw_all := lw_g (lw_at lw_m1 171 rfl) rfl
theorem q212 : (Jvm.Cond.methodLink "java/lang/Math" (79 : Nat) ({ cls := "java/lang/Double", name := "doubleToRawLongBits", desc := "(D)J" } : Jvm.MethodName)) ∈ lw_all := lw_g (lw_at lw_m1 172 rfl) rfl
theorem q213 : (Jvm.Cond.constantLong "java/lang/Math" (135 : Nat) (9223372036854775807 : Int64)) ∈ lw_all := lw_g (lw_at lw_m1 173 rfl) rfl
theorem q214 : (Jvm.Cond.methodLink "java/lang/Math" (166 : Nat) ({ cls := "java/lang/Double", name := "longBitsToDouble", desc := "(J)D" } : Jvm.MethodName)) ∈ lw_all := lw_g (lw_at lw_m1 174 rfl) rfl
theorem q270 : (Jvm.Cond.static ({ cls := "java/lang/Math", name := "abs", desc := "(I)I" } : Jvm.MethodName)) ∈ lw_all := lw_g (lw_at lw_m1 230 rfl) rfl
theorem q271 : (Jvm.Cond.code ({ cls := "java/lang/Math", name := "abs", desc := "(I)I" } : Jvm.MethodName) prog_17_method_59_code (1 : Nat) (Option.some Jvm.ClassFile.FieldType.int)) ∈ lw_all := lw_g (lw_at lw_m1 231 rfl) rfl
theorem q357 : (Jvm.Cond.static ({ cls := "java/lang/Math", name := "min", desc := "(II)I" } : Jvm.MethodName)) ∈ lw_all := lw_g (lw_at lw_m2 77 rfl) rfl
theorem q358 : (Jvm.Cond.code ({ cls := "java/lang/Math", name := "min", desc := "(II)I" } : Jvm.MethodName) prog_17_method_69_code (2 : Nat) (Option.some Jvm.ClassFile.FieldType.int)) ∈ lw_all := lw_g (lw_at lw_m2 78 rfl) rfl
theorem q780 : (Jvm.Cond.static ({ cls := "java/lang/Math", name := "max", desc := "(II)I" } : Jvm.MethodName)) ∈ lw_all := lw_g (lw_at lw_m4 20 rfl) rfl
theorem q781 : (Jvm.Cond.code ({ cls := "java/lang/Math", name := "max", desc := "(II)I" } : Jvm.MethodName) prog_17_method_65_code (2 : Nat) (Option.some Jvm.ClassFile.FieldType.int)) ∈ lw_all := lw_g (lw_at lw_m4 21 rfl) rfl
theorem q1471 : (Jvm.Cond.static ({ cls := "java/lang/Math", name := "floorDiv", desc := "(JJ)J" } : Jvm.MethodName)) ∈ lw_all := lw_g (lw_at lw_m6 231 rfl) rfl
theorem q1472 : (Jvm.Cond.code ({ cls := "java/lang/Math", name := "floorDiv", desc := "(JJ)J" } : Jvm.MethodName) prog_17_method_49_code (6 : Nat) (Option.some Jvm.ClassFile.FieldType.long)) ∈ lw_all := lw_g (lw_at lw_m6 232 rfl) rfl

/-! java/lang/FdLibm -/
set_option maxRecDepth 100000
def RJ12 : String := "java/lang/FdLibm"
abbrev cJ12___HI : ByteArray := prog_11_method_4_code
def yJ12___HI : MethodName := ⟨RJ12, "__HI", "(D)I"⟩
def dkwJ12___HI_0 : List UInt8 := [38, 184, 0, 16, 65, 32, 16, 32, 123, 136, 172]
abbrev dktJ12___HI_0 : List UInt8 := dkwJ12___HI_0 ++ []
theorem dksJ12___HI_0 : cJ12___HI.data.toList.drop 0 = dktJ12___HI_0 := by decide +kernel
theorem dJ12___HI_0 : decode cJ12___HI 0 = .ok (.dload_n 0, 1) := dk_38 (dk_at dksJ12___HI_0 0 rfl rfl)
theorem dJ12___HI_1 : decode cJ12___HI 1 = .ok (.invokestatic 16, 3) := dk_184 0 16 (dk_at dksJ12___HI_0 1 rfl rfl)
theorem dJ12___HI_4 : decode cJ12___HI 4 = .ok (.lstore_n 2, 1) := dk_65 (dk_at dksJ12___HI_0 4 rfl rfl)
theorem dJ12___HI_5 : decode cJ12___HI 5 = .ok (.lload_n 2, 1) := dk_32 (dk_at dksJ12___HI_0 5 rfl rfl)
theorem dJ12___HI_6 : decode cJ12___HI 6 = .ok (.bipush 32, 2) := dk_16 32 (dk_at dksJ12___HI_0 6 rfl rfl)
theorem dJ12___HI_8 : decode cJ12___HI 8 = .ok (.lshr, 1) := dk_123 (dk_at dksJ12___HI_0 8 rfl rfl)
theorem dJ12___HI_9 : decode cJ12___HI 9 = .ok (.l2i, 1) := dk_136 (dk_at dksJ12___HI_0 9 rfl rfl)
theorem dJ12___HI_10 : decode cJ12___HI 10 = .ok (.ireturn, 1) := dk_172 (dk_at dksJ12___HI_0 10 rfl rfl)
abbrev cJ12___HI_2 : ByteArray := prog_11_method_5_code
def yJ12___HI_2 : MethodName := ⟨RJ12, "__HI", "(DI)D"⟩
def dkwJ12___HI_2_0 : List UInt8 := [38, 184, 0, 16, 66, 33, 20, 0, 22, 127, 28, 133, 16, 32, 121, 129, 184, 0, 24, 175]
abbrev dktJ12___HI_2_0 : List UInt8 := dkwJ12___HI_2_0 ++ []
theorem dksJ12___HI_2_0 : cJ12___HI_2.data.toList.drop 0 = dktJ12___HI_2_0 := by decide +kernel
theorem dJ12___HI_2_0 : decode cJ12___HI_2 0 = .ok (.dload_n 0, 1) := dk_38 (dk_at dksJ12___HI_2_0 0 rfl rfl)
theorem dJ12___HI_2_1 : decode cJ12___HI_2 1 = .ok (.invokestatic 16, 3) := dk_184 0 16 (dk_at dksJ12___HI_2_0 1 rfl rfl)
theorem dJ12___HI_2_4 : decode cJ12___HI_2 4 = .ok (.lstore_n 3, 1) := dk_66 (dk_at dksJ12___HI_2_0 4 rfl rfl)
theorem dJ12___HI_2_5 : decode cJ12___HI_2 5 = .ok (.lload_n 3, 1) := dk_33 (dk_at dksJ12___HI_2_0 5 rfl rfl)
theorem dJ12___HI_2_6 : decode cJ12___HI_2 6 = .ok (.ldc2_w 22, 3) := dk_20 0 22 (dk_at dksJ12___HI_2_0 6 rfl rfl)
theorem dJ12___HI_2_9 : decode cJ12___HI_2 9 = .ok (.land, 1) := dk_127 (dk_at dksJ12___HI_2_0 9 rfl rfl)
theorem dJ12___HI_2_10 : decode cJ12___HI_2 10 = .ok (.iload_n 2, 1) := dk_28 (dk_at dksJ12___HI_2_0 10 rfl rfl)
theorem dJ12___HI_2_11 : decode cJ12___HI_2 11 = .ok (.i2l, 1) := dk_133 (dk_at dksJ12___HI_2_0 11 rfl rfl)
theorem dJ12___HI_2_12 : decode cJ12___HI_2 12 = .ok (.bipush 32, 2) := dk_16 32 (dk_at dksJ12___HI_2_0 12 rfl rfl)
theorem dJ12___HI_2_14 : decode cJ12___HI_2 14 = .ok (.lshl, 1) := dk_121 (dk_at dksJ12___HI_2_0 14 rfl rfl)
theorem dJ12___HI_2_15 : decode cJ12___HI_2 15 = .ok (.lor, 1) := dk_129 (dk_at dksJ12___HI_2_0 15 rfl rfl)
theorem dJ12___HI_2_16 : decode cJ12___HI_2 16 = .ok (.invokestatic 24, 3) := dk_184 0 24 (dk_at dksJ12___HI_2_0 16 rfl rfl)
theorem dJ12___HI_2_19 : decode cJ12___HI_2 19 = .ok (.dreturn, 1) := dk_175 (dk_at dksJ12___HI_2_0 19 rfl rfl)
abbrev cJ12___LO : ByteArray := prog_11_method_3_code
def yJ12___LO : MethodName := ⟨RJ12, "__LO", "(DI)D"⟩
def dkwJ12___LO_0 : List UInt8 := [38, 184, 0, 16, 66, 33, 20, 0, 20, 127, 28, 133, 20, 0, 22, 127, 129, 184, 0, 24, 175]
abbrev dktJ12___LO_0 : List UInt8 := dkwJ12___LO_0 ++ []
theorem dksJ12___LO_0 : cJ12___LO.data.toList.drop 0 = dktJ12___LO_0 := by decide +kernel
theorem dJ12___LO_0 : decode cJ12___LO 0 = .ok (.dload_n 0, 1) := dk_38 (dk_at dksJ12___LO_0 0 rfl rfl)
theorem dJ12___LO_1 : decode cJ12___LO 1 = .ok (.invokestatic 16, 3) := dk_184 0 16 (dk_at dksJ12___LO_0 1 rfl rfl)
theorem dJ12___LO_4 : decode cJ12___LO 4 = .ok (.lstore_n 3, 1) := dk_66 (dk_at dksJ12___LO_0 4 rfl rfl)
theorem dJ12___LO_5 : decode cJ12___LO 5 = .ok (.lload_n 3, 1) := dk_33 (dk_at dksJ12___LO_0 5 rfl rfl)
theorem dJ12___LO_6 : decode cJ12___LO 6 = .ok (.ldc2_w 20, 3) := dk_20 0 20 (dk_at dksJ12___LO_0 6 rfl rfl)
theorem dJ12___LO_9 : decode cJ12___LO 9 = .ok (.land, 1) := dk_127 (dk_at dksJ12___LO_0 9 rfl rfl)
theorem dJ12___LO_10 : decode cJ12___LO 10 = .ok (.iload_n 2, 1) := dk_28 (dk_at dksJ12___LO_0 10 rfl rfl)
theorem dJ12___LO_11 : decode cJ12___LO 11 = .ok (.i2l, 1) := dk_133 (dk_at dksJ12___LO_0 11 rfl rfl)
theorem dJ12___LO_12 : decode cJ12___LO 12 = .ok (.ldc2_w 22, 3) := dk_20 0 22 (dk_at dksJ12___LO_0 12 rfl rfl)
theorem dJ12___LO_15 : decode cJ12___LO 15 = .ok (.land, 1) := dk_127 (dk_at dksJ12___LO_0 15 rfl rfl)
theorem dJ12___LO_16 : decode cJ12___LO 16 = .ok (.lor, 1) := dk_129 (dk_at dksJ12___LO_0 16 rfl rfl)
theorem dJ12___LO_17 : decode cJ12___LO 17 = .ok (.invokestatic 24, 3) := dk_184 0 24 (dk_at dksJ12___LO_0 17 rfl rfl)
theorem dJ12___LO_20 : decode cJ12___LO 20 = .ok (.dreturn, 1) := dk_175 (dk_at dksJ12___LO_0 20 rfl rfl)
theorem q57 : (Jvm.Cond.initialized "java/lang/FdLibm") ∈ lw_all := lw_g (lw_at lw_m1 17 rfl) rfl
theorem q223 : (Jvm.Cond.static ({ cls := "java/lang/FdLibm", name := "__HI", desc := "(D)I" } : Jvm.MethodName)) ∈ lw_all := lw_g (lw_at lw_m1 183 rfl) rfl
theorem q224 : (Jvm.Cond.code ({ cls := "java/lang/FdLibm", name := "__HI", desc := "(D)I" } : Jvm.MethodName) prog_11_method_4_code (4 : Nat) (Option.some Jvm.ClassFile.FieldType.int)) ∈ lw_all := lw_g (lw_at lw_m1 184 rfl) rfl
theorem q225 : (Jvm.Cond.methodLink "java/lang/FdLibm" (16 : Nat) ({ cls := "java/lang/Double", name := "doubleToRawLongBits", desc := "(D)J" } : Jvm.MethodName)) ∈ lw_all := lw_g (lw_at lw_m1 185 rfl) rfl
theorem q228 : (Jvm.Cond.static ({ cls := "java/lang/FdLibm", name := "__HI", desc := "(DI)D" } : Jvm.MethodName)) ∈ lw_all := lw_g (lw_at lw_m1 188 rfl) rfl
theorem q229 : (Jvm.Cond.code ({ cls := "java/lang/FdLibm", name := "__HI", desc := "(DI)D" } : Jvm.MethodName) prog_11_method_5_code (5 : Nat) (Option.some Jvm.ClassFile.FieldType.double)) ∈ lw_all := lw_g (lw_at lw_m1 189 rfl) rfl
theorem q230 : (Jvm.Cond.constantLong "java/lang/FdLibm" (22 : Nat) (4294967295 : Int64)) ∈ lw_all := lw_g (lw_at lw_m1 190 rfl) rfl
theorem q231 : (Jvm.Cond.methodLink "java/lang/FdLibm" (24 : Nat) ({ cls := "java/lang/Double", name := "longBitsToDouble", desc := "(J)D" } : Jvm.MethodName)) ∈ lw_all := lw_g (lw_at lw_m1 191 rfl) rfl
theorem q239 : (Jvm.Cond.static ({ cls := "java/lang/FdLibm", name := "__LO", desc := "(DI)D" } : Jvm.MethodName)) ∈ lw_all := lw_g (lw_at lw_m1 199 rfl) rfl
theorem q240 : (Jvm.Cond.code ({ cls := "java/lang/FdLibm", name := "__LO", desc := "(DI)D" } : Jvm.MethodName) prog_11_method_3_code (5 : Nat) (Option.some Jvm.ClassFile.FieldType.double)) ∈ lw_all := lw_g (lw_at lw_m1 200 rfl) rfl
theorem q241 : (Jvm.Cond.constantLong "java/lang/FdLibm" (20 : Nat) (-4294967296 : Int64)) ∈ lw_all := lw_g (lw_at lw_m1 201 rfl) rfl

/-! java/lang/Integer -/
set_option maxRecDepth 100000
def RJ13 : String := "java/lang/Integer"
abbrev cJ13_signum : ByteArray := prog_16_method_56_code
def yJ13_signum : MethodName := ⟨RJ13, "signum", "(I)I"⟩
def dkwJ13_signum_0 : List UInt8 := [26, 16, 31, 122, 26, 116, 16, 31, 124, 128, 172]
abbrev dktJ13_signum_0 : List UInt8 := dkwJ13_signum_0 ++ []
theorem dksJ13_signum_0 : cJ13_signum.data.toList.drop 0 = dktJ13_signum_0 := by decide +kernel
theorem dJ13_signum_0 : decode cJ13_signum 0 = .ok (.iload_n 0, 1) := dk_26 (dk_at dksJ13_signum_0 0 rfl rfl)
theorem dJ13_signum_1 : decode cJ13_signum 1 = .ok (.bipush 31, 2) := dk_16 31 (dk_at dksJ13_signum_0 1 rfl rfl)
theorem dJ13_signum_3 : decode cJ13_signum 3 = .ok (.ishr, 1) := dk_122 (dk_at dksJ13_signum_0 3 rfl rfl)
theorem dJ13_signum_4 : decode cJ13_signum 4 = .ok (.iload_n 0, 1) := dk_26 (dk_at dksJ13_signum_0 4 rfl rfl)
theorem dJ13_signum_5 : decode cJ13_signum 5 = .ok (.ineg, 1) := dk_116 (dk_at dksJ13_signum_0 5 rfl rfl)
theorem dJ13_signum_6 : decode cJ13_signum 6 = .ok (.bipush 31, 2) := dk_16 31 (dk_at dksJ13_signum_0 6 rfl rfl)
theorem dJ13_signum_8 : decode cJ13_signum 8 = .ok (.iushr, 1) := dk_124 (dk_at dksJ13_signum_0 8 rfl rfl)
theorem dJ13_signum_9 : decode cJ13_signum 9 = .ok (.ior, 1) := dk_128 (dk_at dksJ13_signum_0 9 rfl rfl)
theorem dJ13_signum_10 : decode cJ13_signum 10 = .ok (.ireturn, 1) := dk_172 (dk_at dksJ13_signum_0 10 rfl rfl)
abbrev cJ13_stringSize : ByteArray := prog_16_method_13_code
def yJ13_stringSize : MethodName := ⟨RJ13, "stringSize", "(I)I"⟩
def dkwJ13_stringSize_1 : List UInt8 := [164, 0, 7, 29, 27, 96, 172, 16, 10, 28, 104, 61, 132, 3, 1, 167, 255, 233, 16, 10, 27, 96, 172]
abbrev dktJ13_stringSize_1 : List UInt8 := dkwJ13_stringSize_1 ++ []
def dkwJ13_stringSize_0 : List UInt8 := [4, 60, 26, 155, 0, 8, 3, 60, 26, 116, 59, 16, 246, 61, 4, 62, 29, 16, 10, 162, 0, 23, 26, 28]
abbrev dktJ13_stringSize_0 : List UInt8 := dkwJ13_stringSize_0 ++ dktJ13_stringSize_1
theorem dksJ13_stringSize_0 : cJ13_stringSize.data.toList.drop 0 = dktJ13_stringSize_0 := by decide +kernel
theorem dksJ13_stringSize_1 : cJ13_stringSize.data.toList.drop 24 = dktJ13_stringSize_1 := dk_seg dksJ13_stringSize_0 24 rfl rfl
theorem dJ13_stringSize_0 : decode cJ13_stringSize 0 = .ok (.iconst 1, 1) := dk_4 (dk_at dksJ13_stringSize_0 0 rfl rfl)
theorem dJ13_stringSize_1 : decode cJ13_stringSize 1 = .ok (.istore_n 1, 1) := dk_60 (dk_at dksJ13_stringSize_0 1 rfl rfl)
theorem dJ13_stringSize_2 : decode cJ13_stringSize 2 = .ok (.iload_n 0, 1) := dk_26 (dk_at dksJ13_stringSize_0 2 rfl rfl)
theorem dJ13_stringSize_3 : decode cJ13_stringSize 3 = .ok (.ifCond .lt 8, 3) := dk_155 0 8 (dk_at dksJ13_stringSize_0 3 rfl rfl)
theorem dJ13_stringSize_6 : decode cJ13_stringSize 6 = .ok (.iconst 0, 1) := dk_3 (dk_at dksJ13_stringSize_0 6 rfl rfl)
theorem dJ13_stringSize_7 : decode cJ13_stringSize 7 = .ok (.istore_n 1, 1) := dk_60 (dk_at dksJ13_stringSize_0 7 rfl rfl)
theorem dJ13_stringSize_8 : decode cJ13_stringSize 8 = .ok (.iload_n 0, 1) := dk_26 (dk_at dksJ13_stringSize_0 8 rfl rfl)
theorem dJ13_stringSize_9 : decode cJ13_stringSize 9 = .ok (.ineg, 1) := dk_116 (dk_at dksJ13_stringSize_0 9 rfl rfl)
theorem dJ13_stringSize_10 : decode cJ13_stringSize 10 = .ok (.istore_n 0, 1) := dk_59 (dk_at dksJ13_stringSize_0 10 rfl rfl)
theorem dJ13_stringSize_11 : decode cJ13_stringSize 11 = .ok (.bipush (-10), 2) := dk_16 246 (dk_at dksJ13_stringSize_0 11 rfl rfl)
theorem dJ13_stringSize_13 : decode cJ13_stringSize 13 = .ok (.istore_n 2, 1) := dk_61 (dk_at dksJ13_stringSize_0 13 rfl rfl)
theorem dJ13_stringSize_14 : decode cJ13_stringSize 14 = .ok (.iconst 1, 1) := dk_4 (dk_at dksJ13_stringSize_0 14 rfl rfl)
theorem dJ13_stringSize_15 : decode cJ13_stringSize 15 = .ok (.istore_n 3, 1) := dk_62 (dk_at dksJ13_stringSize_0 15 rfl rfl)
theorem dJ13_stringSize_16 : decode cJ13_stringSize 16 = .ok (.iload_n 3, 1) := dk_29 (dk_at dksJ13_stringSize_0 16 rfl rfl)
theorem dJ13_stringSize_17 : decode cJ13_stringSize 17 = .ok (.bipush 10, 2) := dk_16 10 (dk_at dksJ13_stringSize_0 17 rfl rfl)
theorem dJ13_stringSize_19 : decode cJ13_stringSize 19 = .ok (.if_icmp .ge 23, 3) := dk_162 0 23 (dk_at dksJ13_stringSize_0 19 rfl rfl)
theorem dJ13_stringSize_22 : decode cJ13_stringSize 22 = .ok (.iload_n 0, 1) := dk_26 (dk_at dksJ13_stringSize_0 22 rfl rfl)
theorem dJ13_stringSize_23 : decode cJ13_stringSize 23 = .ok (.iload_n 2, 1) := dk_28 (dk_at dksJ13_stringSize_0 23 rfl rfl)
theorem dJ13_stringSize_24 : decode cJ13_stringSize 24 = .ok (.if_icmp .le 7, 3) := dk_164 0 7 (dk_at dksJ13_stringSize_1 0 rfl rfl)
theorem dJ13_stringSize_27 : decode cJ13_stringSize 27 = .ok (.iload_n 3, 1) := dk_29 (dk_at dksJ13_stringSize_1 3 rfl rfl)
theorem dJ13_stringSize_28 : decode cJ13_stringSize 28 = .ok (.iload_n 1, 1) := dk_27 (dk_at dksJ13_stringSize_1 4 rfl rfl)
theorem dJ13_stringSize_29 : decode cJ13_stringSize 29 = .ok (.iadd, 1) := dk_96 (dk_at dksJ13_stringSize_1 5 rfl rfl)
theorem dJ13_stringSize_30 : decode cJ13_stringSize 30 = .ok (.ireturn, 1) := dk_172 (dk_at dksJ13_stringSize_1 6 rfl rfl)
theorem dJ13_stringSize_31 : decode cJ13_stringSize 31 = .ok (.bipush 10, 2) := dk_16 10 (dk_at dksJ13_stringSize_1 7 rfl rfl)
theorem dJ13_stringSize_33 : decode cJ13_stringSize 33 = .ok (.iload_n 2, 1) := dk_28 (dk_at dksJ13_stringSize_1 9 rfl rfl)
theorem dJ13_stringSize_34 : decode cJ13_stringSize 34 = .ok (.imul, 1) := dk_104 (dk_at dksJ13_stringSize_1 10 rfl rfl)
theorem dJ13_stringSize_35 : decode cJ13_stringSize 35 = .ok (.istore_n 2, 1) := dk_61 (dk_at dksJ13_stringSize_1 11 rfl rfl)
theorem dJ13_stringSize_36 : decode cJ13_stringSize 36 = .ok (.iinc 3 1, 3) := dk_132 3 1 (dk_at dksJ13_stringSize_1 12 rfl rfl)
theorem dJ13_stringSize_39 : decode cJ13_stringSize 39 = .ok (.goto (-23), 3) := dk_167 255 233 (dk_at dksJ13_stringSize_1 15 rfl rfl)
theorem dJ13_stringSize_42 : decode cJ13_stringSize 42 = .ok (.bipush 10, 2) := dk_16 10 (dk_at dksJ13_stringSize_1 18 rfl rfl)
theorem dJ13_stringSize_44 : decode cJ13_stringSize 44 = .ok (.iload_n 1, 1) := dk_27 (dk_at dksJ13_stringSize_1 20 rfl rfl)
theorem dJ13_stringSize_45 : decode cJ13_stringSize 45 = .ok (.iadd, 1) := dk_96 (dk_at dksJ13_stringSize_1 21 rfl rfl)
theorem dJ13_stringSize_46 : decode cJ13_stringSize 46 = .ok (.ireturn, 1) := dk_172 (dk_at dksJ13_stringSize_1 22 rfl rfl)
abbrev cJ13_getChars : ByteArray := prog_16_method_12_code
def yJ13_getChars : MethodName := ⟨RJ13, "getChars", "(II[B)I"⟩
def dkwJ13_getChars_5 : List UInt8 := [16, 45, 84, 21, 5, 172]
abbrev dktJ13_getChars_5 : List UInt8 := dkwJ13_getChars_5 ++ []
def dkwJ13_getChars_4 : List UInt8 := [132, 5, 255, 21, 5, 178, 0, 87, 26, 116, 51, 84, 21, 6, 153, 0, 12, 44, 132, 5, 255, 21, 5]
abbrev dktJ13_getChars_4 : List UInt8 := dkwJ13_getChars_4 ++ dktJ13_getChars_5
def dkwJ13_getChars_3 : List UInt8 := [167, 255, 209, 44, 132, 5, 255, 21, 5, 178, 0, 83, 26, 116, 51, 84, 26, 16, 247, 162, 0, 16, 44]
abbrev dktJ13_getChars_3 : List UInt8 := dkwJ13_getChars_3 ++ dktJ13_getChars_4
def dkwJ13_getChars_2 : List UInt8 := [21, 5, 178, 0, 83, 21, 4, 51, 84, 44, 132, 5, 255, 21, 5, 178, 0, 87, 21, 4, 51, 84]
abbrev dktJ13_getChars_2 : List UInt8 := dkwJ13_getChars_2 ++ dktJ13_getChars_3
def dkwJ13_getChars_1 : List UInt8 := [16, 156, 163, 0, 47, 26, 16, 100, 108, 62, 29, 16, 100, 104, 26, 100, 54, 4, 29, 59, 44, 132, 5, 255]
abbrev dktJ13_getChars_1 : List UInt8 := dkwJ13_getChars_1 ++ dktJ13_getChars_2
def dkwJ13_getChars_0 : List UInt8 := [27, 54, 5, 26, 156, 0, 7, 4, 167, 0, 4, 3, 54, 6, 21, 6, 154, 0, 6, 26, 116, 59, 26]
abbrev dktJ13_getChars_0 : List UInt8 := dkwJ13_getChars_0 ++ dktJ13_getChars_1
theorem dksJ13_getChars_0 : cJ13_getChars.data.toList.drop 0 = dktJ13_getChars_0 := by decide +kernel
theorem dksJ13_getChars_1 : cJ13_getChars.data.toList.drop 23 = dktJ13_getChars_1 := dk_seg dksJ13_getChars_0 23 rfl rfl
theorem dksJ13_getChars_2 : cJ13_getChars.data.toList.drop 47 = dktJ13_getChars_2 := dk_seg dksJ13_getChars_1 24 rfl rfl
theorem dksJ13_getChars_3 : cJ13_getChars.data.toList.drop 69 = dktJ13_getChars_3 := dk_seg dksJ13_getChars_2 22 rfl rfl
theorem dksJ13_getChars_4 : cJ13_getChars.data.toList.drop 92 = dktJ13_getChars_4 := dk_seg dksJ13_getChars_3 23 rfl rfl
theorem dksJ13_getChars_5 : cJ13_getChars.data.toList.drop 115 = dktJ13_getChars_5 := dk_seg dksJ13_getChars_4 23 rfl rfl
theorem dJ13_getChars_0 : decode cJ13_getChars 0 = .ok (.iload_n 1, 1) := dk_27 (dk_at dksJ13_getChars_0 0 rfl rfl)
theorem dJ13_getChars_1 : decode cJ13_getChars 1 = .ok (.istore 5, 2) := dk_54 5 (dk_at dksJ13_getChars_0 1 rfl rfl)
theorem dJ13_getChars_3 : decode cJ13_getChars 3 = .ok (.iload_n 0, 1) := dk_26 (dk_at dksJ13_getChars_0 3 rfl rfl)
theorem dJ13_getChars_4 : decode cJ13_getChars 4 = .ok (.ifCond .ge 7, 3) := dk_156 0 7 (dk_at dksJ13_getChars_0 4 rfl rfl)
theorem dJ13_getChars_7 : decode cJ13_getChars 7 = .ok (.iconst 1, 1) := dk_4 (dk_at dksJ13_getChars_0 7 rfl rfl)
theorem dJ13_getChars_8 : decode cJ13_getChars 8 = .ok (.goto 4, 3) := dk_167 0 4 (dk_at dksJ13_getChars_0 8 rfl rfl)
theorem dJ13_getChars_11 : decode cJ13_getChars 11 = .ok (.iconst 0, 1) := dk_3 (dk_at dksJ13_getChars_0 11 rfl rfl)
theorem dJ13_getChars_12 : decode cJ13_getChars 12 = .ok (.istore 6, 2) := dk_54 6 (dk_at dksJ13_getChars_0 12 rfl rfl)
theorem dJ13_getChars_14 : decode cJ13_getChars 14 = .ok (.iload 6, 2) := dk_21 6 (dk_at dksJ13_getChars_0 14 rfl rfl)
theorem dJ13_getChars_16 : decode cJ13_getChars 16 = .ok (.ifCond .ne 6, 3) := dk_154 0 6 (dk_at dksJ13_getChars_0 16 rfl rfl)
theorem dJ13_getChars_19 : decode cJ13_getChars 19 = .ok (.iload_n 0, 1) := dk_26 (dk_at dksJ13_getChars_0 19 rfl rfl)
theorem dJ13_getChars_20 : decode cJ13_getChars 20 = .ok (.ineg, 1) := dk_116 (dk_at dksJ13_getChars_0 20 rfl rfl)
theorem dJ13_getChars_21 : decode cJ13_getChars 21 = .ok (.istore_n 0, 1) := dk_59 (dk_at dksJ13_getChars_0 21 rfl rfl)
theorem dJ13_getChars_22 : decode cJ13_getChars 22 = .ok (.iload_n 0, 1) := dk_26 (dk_at dksJ13_getChars_0 22 rfl rfl)
theorem dJ13_getChars_23 : decode cJ13_getChars 23 = .ok (.bipush (-100), 2) := dk_16 156 (dk_at dksJ13_getChars_1 0 rfl rfl)
theorem dJ13_getChars_25 : decode cJ13_getChars 25 = .ok (.if_icmp .gt 47, 3) := dk_163 0 47 (dk_at dksJ13_getChars_1 2 rfl rfl)
theorem dJ13_getChars_28 : decode cJ13_getChars 28 = .ok (.iload_n 0, 1) := dk_26 (dk_at dksJ13_getChars_1 5 rfl rfl)
theorem dJ13_getChars_29 : decode cJ13_getChars 29 = .ok (.bipush 100, 2) := dk_16 100 (dk_at dksJ13_getChars_1 6 rfl rfl)
theorem dJ13_getChars_31 : decode cJ13_getChars 31 = .ok (.idiv, 1) := dk_108 (dk_at dksJ13_getChars_1 8 rfl rfl)
theorem dJ13_getChars_32 : decode cJ13_getChars 32 = .ok (.istore_n 3, 1) := dk_62 (dk_at dksJ13_getChars_1 9 rfl rfl)
theorem dJ13_getChars_33 : decode cJ13_getChars 33 = .ok (.iload_n 3, 1) := dk_29 (dk_at dksJ13_getChars_1 10 rfl rfl)
theorem dJ13_getChars_34 : decode cJ13_getChars 34 = .ok (.bipush 100, 2) := dk_16 100 (dk_at dksJ13_getChars_1 11 rfl rfl)
theorem dJ13_getChars_36 : decode cJ13_getChars 36 = .ok (.imul, 1) := dk_104 (dk_at dksJ13_getChars_1 13 rfl rfl)
theorem dJ13_getChars_37 : decode cJ13_getChars 37 = .ok (.iload_n 0, 1) := dk_26 (dk_at dksJ13_getChars_1 14 rfl rfl)
theorem dJ13_getChars_38 : decode cJ13_getChars 38 = .ok (.isub, 1) := dk_100 (dk_at dksJ13_getChars_1 15 rfl rfl)
theorem dJ13_getChars_39 : decode cJ13_getChars 39 = .ok (.istore 4, 2) := dk_54 4 (dk_at dksJ13_getChars_1 16 rfl rfl)
theorem dJ13_getChars_41 : decode cJ13_getChars 41 = .ok (.iload_n 3, 1) := dk_29 (dk_at dksJ13_getChars_1 18 rfl rfl)
theorem dJ13_getChars_42 : decode cJ13_getChars 42 = .ok (.istore_n 0, 1) := dk_59 (dk_at dksJ13_getChars_1 19 rfl rfl)
theorem dJ13_getChars_43 : decode cJ13_getChars 43 = .ok (.aload_n 2, 1) := dk_44 (dk_at dksJ13_getChars_1 20 rfl rfl)
theorem dJ13_getChars_44 : decode cJ13_getChars 44 = .ok (.iinc 5 (-1), 3) := dk_132 5 255 (dk_at dksJ13_getChars_1 21 rfl rfl)
theorem dJ13_getChars_47 : decode cJ13_getChars 47 = .ok (.iload 5, 2) := dk_21 5 (dk_at dksJ13_getChars_2 0 rfl rfl)
theorem dJ13_getChars_49 : decode cJ13_getChars 49 = .ok (.getstatic 83, 3) := dk_178 0 83 (dk_at dksJ13_getChars_2 2 rfl rfl)
theorem dJ13_getChars_52 : decode cJ13_getChars 52 = .ok (.iload 4, 2) := dk_21 4 (dk_at dksJ13_getChars_2 5 rfl rfl)
theorem dJ13_getChars_54 : decode cJ13_getChars 54 = .ok (.baload, 1) := dk_51 (dk_at dksJ13_getChars_2 7 rfl rfl)
theorem dJ13_getChars_55 : decode cJ13_getChars 55 = .ok (.bastore, 1) := dk_84 (dk_at dksJ13_getChars_2 8 rfl rfl)
theorem dJ13_getChars_56 : decode cJ13_getChars 56 = .ok (.aload_n 2, 1) := dk_44 (dk_at dksJ13_getChars_2 9 rfl rfl)
theorem dJ13_getChars_57 : decode cJ13_getChars 57 = .ok (.iinc 5 (-1), 3) := dk_132 5 255 (dk_at dksJ13_getChars_2 10 rfl rfl)
theorem dJ13_getChars_60 : decode cJ13_getChars 60 = .ok (.iload 5, 2) := dk_21 5 (dk_at dksJ13_getChars_2 13 rfl rfl)
theorem dJ13_getChars_62 : decode cJ13_getChars 62 = .ok (.getstatic 87, 3) := dk_178 0 87 (dk_at dksJ13_getChars_2 15 rfl rfl)
theorem dJ13_getChars_65 : decode cJ13_getChars 65 = .ok (.iload 4, 2) := dk_21 4 (dk_at dksJ13_getChars_2 18 rfl rfl)
theorem dJ13_getChars_67 : decode cJ13_getChars 67 = .ok (.baload, 1) := dk_51 (dk_at dksJ13_getChars_2 20 rfl rfl)
theorem dJ13_getChars_68 : decode cJ13_getChars 68 = .ok (.bastore, 1) := dk_84 (dk_at dksJ13_getChars_2 21 rfl rfl)
theorem dJ13_getChars_69 : decode cJ13_getChars 69 = .ok (.goto (-47), 3) := dk_167 255 209 (dk_at dksJ13_getChars_3 0 rfl rfl)
theorem dJ13_getChars_72 : decode cJ13_getChars 72 = .ok (.aload_n 2, 1) := dk_44 (dk_at dksJ13_getChars_3 3 rfl rfl)
theorem dJ13_getChars_73 : decode cJ13_getChars 73 = .ok (.iinc 5 (-1), 3) := dk_132 5 255 (dk_at dksJ13_getChars_3 4 rfl rfl)
theorem dJ13_getChars_76 : decode cJ13_getChars 76 = .ok (.iload 5, 2) := dk_21 5 (dk_at dksJ13_getChars_3 7 rfl rfl)
theorem dJ13_getChars_78 : decode cJ13_getChars 78 = .ok (.getstatic 83, 3) := dk_178 0 83 (dk_at dksJ13_getChars_3 9 rfl rfl)
theorem dJ13_getChars_81 : decode cJ13_getChars 81 = .ok (.iload_n 0, 1) := dk_26 (dk_at dksJ13_getChars_3 12 rfl rfl)
theorem dJ13_getChars_82 : decode cJ13_getChars 82 = .ok (.ineg, 1) := dk_116 (dk_at dksJ13_getChars_3 13 rfl rfl)
theorem dJ13_getChars_83 : decode cJ13_getChars 83 = .ok (.baload, 1) := dk_51 (dk_at dksJ13_getChars_3 14 rfl rfl)
theorem dJ13_getChars_84 : decode cJ13_getChars 84 = .ok (.bastore, 1) := dk_84 (dk_at dksJ13_getChars_3 15 rfl rfl)
theorem dJ13_getChars_85 : decode cJ13_getChars 85 = .ok (.iload_n 0, 1) := dk_26 (dk_at dksJ13_getChars_3 16 rfl rfl)
theorem dJ13_getChars_86 : decode cJ13_getChars 86 = .ok (.bipush (-9), 2) := dk_16 247 (dk_at dksJ13_getChars_3 17 rfl rfl)
theorem dJ13_getChars_88 : decode cJ13_getChars 88 = .ok (.if_icmp .ge 16, 3) := dk_162 0 16 (dk_at dksJ13_getChars_3 19 rfl rfl)
theorem dJ13_getChars_91 : decode cJ13_getChars 91 = .ok (.aload_n 2, 1) := dk_44 (dk_at dksJ13_getChars_3 22 rfl rfl)
theorem dJ13_getChars_92 : decode cJ13_getChars 92 = .ok (.iinc 5 (-1), 3) := dk_132 5 255 (dk_at dksJ13_getChars_4 0 rfl rfl)
theorem dJ13_getChars_95 : decode cJ13_getChars 95 = .ok (.iload 5, 2) := dk_21 5 (dk_at dksJ13_getChars_4 3 rfl rfl)
theorem dJ13_getChars_97 : decode cJ13_getChars 97 = .ok (.getstatic 87, 3) := dk_178 0 87 (dk_at dksJ13_getChars_4 5 rfl rfl)
theorem dJ13_getChars_100 : decode cJ13_getChars 100 = .ok (.iload_n 0, 1) := dk_26 (dk_at dksJ13_getChars_4 8 rfl rfl)
theorem dJ13_getChars_101 : decode cJ13_getChars 101 = .ok (.ineg, 1) := dk_116 (dk_at dksJ13_getChars_4 9 rfl rfl)
theorem dJ13_getChars_102 : decode cJ13_getChars 102 = .ok (.baload, 1) := dk_51 (dk_at dksJ13_getChars_4 10 rfl rfl)
theorem dJ13_getChars_103 : decode cJ13_getChars 103 = .ok (.bastore, 1) := dk_84 (dk_at dksJ13_getChars_4 11 rfl rfl)
theorem dJ13_getChars_104 : decode cJ13_getChars 104 = .ok (.iload 6, 2) := dk_21 6 (dk_at dksJ13_getChars_4 12 rfl rfl)
theorem dJ13_getChars_106 : decode cJ13_getChars 106 = .ok (.ifCond .eq 12, 3) := dk_153 0 12 (dk_at dksJ13_getChars_4 14 rfl rfl)
theorem dJ13_getChars_109 : decode cJ13_getChars 109 = .ok (.aload_n 2, 1) := dk_44 (dk_at dksJ13_getChars_4 17 rfl rfl)
theorem dJ13_getChars_110 : decode cJ13_getChars 110 = .ok (.iinc 5 (-1), 3) := dk_132 5 255 (dk_at dksJ13_getChars_4 18 rfl rfl)
theorem dJ13_getChars_113 : decode cJ13_getChars 113 = .ok (.iload 5, 2) := dk_21 5 (dk_at dksJ13_getChars_4 21 rfl rfl)
theorem dJ13_getChars_115 : decode cJ13_getChars 115 = .ok (.bipush 45, 2) := dk_16 45 (dk_at dksJ13_getChars_5 0 rfl rfl)
theorem dJ13_getChars_117 : decode cJ13_getChars 117 = .ok (.bastore, 1) := dk_84 (dk_at dksJ13_getChars_5 2 rfl rfl)
theorem dJ13_getChars_118 : decode cJ13_getChars 118 = .ok (.iload 5, 2) := dk_21 5 (dk_at dksJ13_getChars_5 3 rfl rfl)
theorem dJ13_getChars_120 : decode cJ13_getChars 120 = .ok (.ireturn, 1) := dk_172 (dk_at dksJ13_getChars_5 5 rfl rfl)
abbrev cJ13_numberOfLeadingZeros : ByteArray := prog_16_method_47_code
def yJ13_numberOfLeadingZeros : MethodName := ⟨RJ13, "numberOfLeadingZeros", "(I)I"⟩
def dkwJ13_numberOfLeadingZeros_3 : List UInt8 := [5, 124, 59, 27, 26, 4, 124, 100, 172]
abbrev dktJ13_numberOfLeadingZeros_3 : List UInt8 := dkwJ13_numberOfLeadingZeros_3 ++ []
def dkwJ13_numberOfLeadingZeros_2 : List UInt8 := [124, 59, 26, 16, 16, 161, 0, 10, 132, 1, 252, 26, 7, 124, 59, 26, 7, 161, 0, 10, 132, 1, 254, 26]
abbrev dktJ13_numberOfLeadingZeros_2 : List UInt8 := dkwJ13_numberOfLeadingZeros_2 ++ dktJ13_numberOfLeadingZeros_3
def dkwJ13_numberOfLeadingZeros_1 : List UInt8 := [161, 0, 11, 132, 1, 240, 26, 16, 16, 124, 59, 26, 17, 1, 0, 161, 0, 11, 132, 1, 248, 26, 16, 8]
abbrev dktJ13_numberOfLeadingZeros_1 : List UInt8 := dkwJ13_numberOfLeadingZeros_1 ++ dktJ13_numberOfLeadingZeros_2
def dkwJ13_numberOfLeadingZeros_0 : List UInt8 := [26, 157, 0, 14, 26, 154, 0, 8, 16, 32, 167, 0, 4, 3, 172, 16, 31, 60, 26, 19, 1, 8]
abbrev dktJ13_numberOfLeadingZeros_0 : List UInt8 := dkwJ13_numberOfLeadingZeros_0 ++ dktJ13_numberOfLeadingZeros_1
theorem dksJ13_numberOfLeadingZeros_0 : cJ13_numberOfLeadingZeros.data.toList.drop 0 = dktJ13_numberOfLeadingZeros_0 := by decide +kernel
theorem dksJ13_numberOfLeadingZeros_1 : cJ13_numberOfLeadingZeros.data.toList.drop 22 = dktJ13_numberOfLeadingZeros_1 := dk_seg dksJ13_numberOfLeadingZeros_0 22 rfl rfl
theorem dksJ13_numberOfLeadingZeros_2 : cJ13_numberOfLeadingZeros.data.toList.drop 46 = dktJ13_numberOfLeadingZeros_2 := dk_seg dksJ13_numberOfLeadingZeros_1 24 rfl rfl
theorem dksJ13_numberOfLeadingZeros_3 : cJ13_numberOfLeadingZeros.data.toList.drop 70 = dktJ13_numberOfLeadingZeros_3 := dk_seg dksJ13_numberOfLeadingZeros_2 24 rfl rfl
theorem dJ13_numberOfLeadingZeros_0 : decode cJ13_numberOfLeadingZeros 0 = .ok (.iload_n 0, 1) := dk_26 (dk_at dksJ13_numberOfLeadingZeros_0 0 rfl rfl)
theorem dJ13_numberOfLeadingZeros_1 : decode cJ13_numberOfLeadingZeros 1 = .ok (.ifCond .gt 14, 3) := dk_157 0 14 (dk_at dksJ13_numberOfLeadingZeros_0 1 rfl rfl)
theorem dJ13_numberOfLeadingZeros_4 : decode cJ13_numberOfLeadingZeros 4 = .ok (.iload_n 0, 1) := dk_26 (dk_at dksJ13_numberOfLeadingZeros_0 4 rfl rfl)
theorem dJ13_numberOfLeadingZeros_5 : decode cJ13_numberOfLeadingZeros 5 = .ok (.ifCond .ne 8, 3) := dk_154 0 8 (dk_at dksJ13_numberOfLeadingZeros_0 5 rfl rfl)
theorem dJ13_numberOfLeadingZeros_8 : decode cJ13_numberOfLeadingZeros 8 = .ok (.bipush 32, 2) := dk_16 32 (dk_at dksJ13_numberOfLeadingZeros_0 8 rfl rfl)
theorem dJ13_numberOfLeadingZeros_10 : decode cJ13_numberOfLeadingZeros 10 = .ok (.goto 4, 3) := dk_167 0 4 (dk_at dksJ13_numberOfLeadingZeros_0 10 rfl rfl)
theorem dJ13_numberOfLeadingZeros_13 : decode cJ13_numberOfLeadingZeros 13 = .ok (.iconst 0, 1) := dk_3 (dk_at dksJ13_numberOfLeadingZeros_0 13 rfl rfl)
theorem dJ13_numberOfLeadingZeros_14 : decode cJ13_numberOfLeadingZeros 14 = .ok (.ireturn, 1) := dk_172 (dk_at dksJ13_numberOfLeadingZeros_0 14 rfl rfl)
theorem dJ13_numberOfLeadingZeros_15 : decode cJ13_numberOfLeadingZeros 15 = .ok (.bipush 31, 2) := dk_16 31 (dk_at dksJ13_numberOfLeadingZeros_0 15 rfl rfl)
theorem dJ13_numberOfLeadingZeros_17 : decode cJ13_numberOfLeadingZeros 17 = .ok (.istore_n 1, 1) := dk_60 (dk_at dksJ13_numberOfLeadingZeros_0 17 rfl rfl)
theorem dJ13_numberOfLeadingZeros_18 : decode cJ13_numberOfLeadingZeros 18 = .ok (.iload_n 0, 1) := dk_26 (dk_at dksJ13_numberOfLeadingZeros_0 18 rfl rfl)
theorem dJ13_numberOfLeadingZeros_19 : decode cJ13_numberOfLeadingZeros 19 = .ok (.ldc_w 264, 3) := dk_19 1 8 (dk_at dksJ13_numberOfLeadingZeros_0 19 rfl rfl)
theorem dJ13_numberOfLeadingZeros_22 : decode cJ13_numberOfLeadingZeros 22 = .ok (.if_icmp .lt 11, 3) := dk_161 0 11 (dk_at dksJ13_numberOfLeadingZeros_1 0 rfl rfl)
theorem dJ13_numberOfLeadingZeros_25 : decode cJ13_numberOfLeadingZeros 25 = .ok (.iinc 1 (-16), 3) := dk_132 1 240 (dk_at dksJ13_numberOfLeadingZeros_1 3 rfl rfl)
theorem dJ13_numberOfLeadingZeros_28 : decode cJ13_numberOfLeadingZeros 28 = .ok (.iload_n 0, 1) := dk_26 (dk_at dksJ13_numberOfLeadingZeros_1 6 rfl rfl)
theorem dJ13_numberOfLeadingZeros_29 : decode cJ13_numberOfLeadingZeros 29 = .ok (.bipush 16, 2) := dk_16 16 (dk_at dksJ13_numberOfLeadingZeros_1 7 rfl rfl)
theorem dJ13_numberOfLeadingZeros_31 : decode cJ13_numberOfLeadingZeros 31 = .ok (.iushr, 1) := dk_124 (dk_at dksJ13_numberOfLeadingZeros_1 9 rfl rfl)
theorem dJ13_numberOfLeadingZeros_32 : decode cJ13_numberOfLeadingZeros 32 = .ok (.istore_n 0, 1) := dk_59 (dk_at dksJ13_numberOfLeadingZeros_1 10 rfl rfl)
theorem dJ13_numberOfLeadingZeros_33 : decode cJ13_numberOfLeadingZeros 33 = .ok (.iload_n 0, 1) := dk_26 (dk_at dksJ13_numberOfLeadingZeros_1 11 rfl rfl)
theorem dJ13_numberOfLeadingZeros_34 : decode cJ13_numberOfLeadingZeros 34 = .ok (.sipush 256, 3) := dk_17 1 0 (dk_at dksJ13_numberOfLeadingZeros_1 12 rfl rfl)
theorem dJ13_numberOfLeadingZeros_37 : decode cJ13_numberOfLeadingZeros 37 = .ok (.if_icmp .lt 11, 3) := dk_161 0 11 (dk_at dksJ13_numberOfLeadingZeros_1 15 rfl rfl)
theorem dJ13_numberOfLeadingZeros_40 : decode cJ13_numberOfLeadingZeros 40 = .ok (.iinc 1 (-8), 3) := dk_132 1 248 (dk_at dksJ13_numberOfLeadingZeros_1 18 rfl rfl)
theorem dJ13_numberOfLeadingZeros_43 : decode cJ13_numberOfLeadingZeros 43 = .ok (.iload_n 0, 1) := dk_26 (dk_at dksJ13_numberOfLeadingZeros_1 21 rfl rfl)
theorem dJ13_numberOfLeadingZeros_44 : decode cJ13_numberOfLeadingZeros 44 = .ok (.bipush 8, 2) := dk_16 8 (dk_at dksJ13_numberOfLeadingZeros_1 22 rfl rfl)
theorem dJ13_numberOfLeadingZeros_46 : decode cJ13_numberOfLeadingZeros 46 = .ok (.iushr, 1) := dk_124 (dk_at dksJ13_numberOfLeadingZeros_2 0 rfl rfl)
theorem dJ13_numberOfLeadingZeros_47 : decode cJ13_numberOfLeadingZeros 47 = .ok (.istore_n 0, 1) := dk_59 (dk_at dksJ13_numberOfLeadingZeros_2 1 rfl rfl)
theorem dJ13_numberOfLeadingZeros_48 : decode cJ13_numberOfLeadingZeros 48 = .ok (.iload_n 0, 1) := dk_26 (dk_at dksJ13_numberOfLeadingZeros_2 2 rfl rfl)
theorem dJ13_numberOfLeadingZeros_49 : decode cJ13_numberOfLeadingZeros 49 = .ok (.bipush 16, 2) := dk_16 16 (dk_at dksJ13_numberOfLeadingZeros_2 3 rfl rfl)
theorem dJ13_numberOfLeadingZeros_51 : decode cJ13_numberOfLeadingZeros 51 = .ok (.if_icmp .lt 10, 3) := dk_161 0 10 (dk_at dksJ13_numberOfLeadingZeros_2 5 rfl rfl)
theorem dJ13_numberOfLeadingZeros_54 : decode cJ13_numberOfLeadingZeros 54 = .ok (.iinc 1 (-4), 3) := dk_132 1 252 (dk_at dksJ13_numberOfLeadingZeros_2 8 rfl rfl)
theorem dJ13_numberOfLeadingZeros_57 : decode cJ13_numberOfLeadingZeros 57 = .ok (.iload_n 0, 1) := dk_26 (dk_at dksJ13_numberOfLeadingZeros_2 11 rfl rfl)
theorem dJ13_numberOfLeadingZeros_58 : decode cJ13_numberOfLeadingZeros 58 = .ok (.iconst 4, 1) := dk_7 (dk_at dksJ13_numberOfLeadingZeros_2 12 rfl rfl)
theorem dJ13_numberOfLeadingZeros_59 : decode cJ13_numberOfLeadingZeros 59 = .ok (.iushr, 1) := dk_124 (dk_at dksJ13_numberOfLeadingZeros_2 13 rfl rfl)
theorem dJ13_numberOfLeadingZeros_60 : decode cJ13_numberOfLeadingZeros 60 = .ok (.istore_n 0, 1) := dk_59 (dk_at dksJ13_numberOfLeadingZeros_2 14 rfl rfl)
theorem dJ13_numberOfLeadingZeros_61 : decode cJ13_numberOfLeadingZeros 61 = .ok (.iload_n 0, 1) := dk_26 (dk_at dksJ13_numberOfLeadingZeros_2 15 rfl rfl)
theorem dJ13_numberOfLeadingZeros_62 : decode cJ13_numberOfLeadingZeros 62 = .ok (.iconst 4, 1) := dk_7 (dk_at dksJ13_numberOfLeadingZeros_2 16 rfl rfl)
theorem dJ13_numberOfLeadingZeros_63 : decode cJ13_numberOfLeadingZeros 63 = .ok (.if_icmp .lt 10, 3) := dk_161 0 10 (dk_at dksJ13_numberOfLeadingZeros_2 17 rfl rfl)
theorem dJ13_numberOfLeadingZeros_66 : decode cJ13_numberOfLeadingZeros 66 = .ok (.iinc 1 (-2), 3) := dk_132 1 254 (dk_at dksJ13_numberOfLeadingZeros_2 20 rfl rfl)
theorem dJ13_numberOfLeadingZeros_69 : decode cJ13_numberOfLeadingZeros 69 = .ok (.iload_n 0, 1) := dk_26 (dk_at dksJ13_numberOfLeadingZeros_2 23 rfl rfl)
theorem dJ13_numberOfLeadingZeros_70 : decode cJ13_numberOfLeadingZeros 70 = .ok (.iconst 2, 1) := dk_5 (dk_at dksJ13_numberOfLeadingZeros_3 0 rfl rfl)
theorem dJ13_numberOfLeadingZeros_71 : decode cJ13_numberOfLeadingZeros 71 = .ok (.iushr, 1) := dk_124 (dk_at dksJ13_numberOfLeadingZeros_3 1 rfl rfl)
theorem dJ13_numberOfLeadingZeros_72 : decode cJ13_numberOfLeadingZeros 72 = .ok (.istore_n 0, 1) := dk_59 (dk_at dksJ13_numberOfLeadingZeros_3 2 rfl rfl)
theorem dJ13_numberOfLeadingZeros_73 : decode cJ13_numberOfLeadingZeros 73 = .ok (.iload_n 1, 1) := dk_27 (dk_at dksJ13_numberOfLeadingZeros_3 3 rfl rfl)
theorem dJ13_numberOfLeadingZeros_74 : decode cJ13_numberOfLeadingZeros 74 = .ok (.iload_n 0, 1) := dk_26 (dk_at dksJ13_numberOfLeadingZeros_3 4 rfl rfl)
theorem dJ13_numberOfLeadingZeros_75 : decode cJ13_numberOfLeadingZeros 75 = .ok (.iconst 1, 1) := dk_4 (dk_at dksJ13_numberOfLeadingZeros_3 5 rfl rfl)
theorem dJ13_numberOfLeadingZeros_76 : decode cJ13_numberOfLeadingZeros 76 = .ok (.iushr, 1) := dk_124 (dk_at dksJ13_numberOfLeadingZeros_3 6 rfl rfl)
theorem dJ13_numberOfLeadingZeros_77 : decode cJ13_numberOfLeadingZeros 77 = .ok (.isub, 1) := dk_100 (dk_at dksJ13_numberOfLeadingZeros_3 7 rfl rfl)
theorem dJ13_numberOfLeadingZeros_78 : decode cJ13_numberOfLeadingZeros 78 = .ok (.ireturn, 1) := dk_172 (dk_at dksJ13_numberOfLeadingZeros_3 8 rfl rfl)
abbrev cJ13_bitCount : ByteArray := prog_16_method_49_code
def yJ13_bitCount : MethodName := ⟨RJ13, "bitCount", "(I)I"⟩
def dkwJ13_bitCount_2 : List UInt8 := [26, 16, 63, 126, 172]
abbrev dktJ13_bitCount_2 : List UInt8 := dkwJ13_bitCount_2 ++ []
def dkwJ13_bitCount_1 : List UInt8 := [26, 26, 7, 124, 96, 19, 1, 11, 126, 59, 26, 26, 16, 8, 124, 96, 59, 26, 26, 16, 16, 124, 96, 59]
abbrev dktJ13_bitCount_1 : List UInt8 := dkwJ13_bitCount_1 ++ dktJ13_bitCount_2
def dkwJ13_bitCount_0 : List UInt8 := [26, 26, 4, 124, 19, 1, 9, 126, 100, 59, 26, 19, 1, 10, 126, 26, 5, 124, 19, 1, 10, 126, 96, 59]
abbrev dktJ13_bitCount_0 : List UInt8 := dkwJ13_bitCount_0 ++ dktJ13_bitCount_1
theorem dksJ13_bitCount_0 : cJ13_bitCount.data.toList.drop 0 = dktJ13_bitCount_0 := by decide +kernel
theorem dksJ13_bitCount_1 : cJ13_bitCount.data.toList.drop 24 = dktJ13_bitCount_1 := dk_seg dksJ13_bitCount_0 24 rfl rfl
theorem dksJ13_bitCount_2 : cJ13_bitCount.data.toList.drop 48 = dktJ13_bitCount_2 := dk_seg dksJ13_bitCount_1 24 rfl rfl
theorem dJ13_bitCount_0 : decode cJ13_bitCount 0 = .ok (.iload_n 0, 1) := dk_26 (dk_at dksJ13_bitCount_0 0 rfl rfl)
theorem dJ13_bitCount_1 : decode cJ13_bitCount 1 = .ok (.iload_n 0, 1) := dk_26 (dk_at dksJ13_bitCount_0 1 rfl rfl)
theorem dJ13_bitCount_2 : decode cJ13_bitCount 2 = .ok (.iconst 1, 1) := dk_4 (dk_at dksJ13_bitCount_0 2 rfl rfl)
theorem dJ13_bitCount_3 : decode cJ13_bitCount 3 = .ok (.iushr, 1) := dk_124 (dk_at dksJ13_bitCount_0 3 rfl rfl)
theorem dJ13_bitCount_4 : decode cJ13_bitCount 4 = .ok (.ldc_w 265, 3) := dk_19 1 9 (dk_at dksJ13_bitCount_0 4 rfl rfl)
theorem dJ13_bitCount_7 : decode cJ13_bitCount 7 = .ok (.iand, 1) := dk_126 (dk_at dksJ13_bitCount_0 7 rfl rfl)
theorem dJ13_bitCount_8 : decode cJ13_bitCount 8 = .ok (.isub, 1) := dk_100 (dk_at dksJ13_bitCount_0 8 rfl rfl)
theorem dJ13_bitCount_9 : decode cJ13_bitCount 9 = .ok (.istore_n 0, 1) := dk_59 (dk_at dksJ13_bitCount_0 9 rfl rfl)
theorem dJ13_bitCount_10 : decode cJ13_bitCount 10 = .ok (.iload_n 0, 1) := dk_26 (dk_at dksJ13_bitCount_0 10 rfl rfl)
theorem dJ13_bitCount_11 : decode cJ13_bitCount 11 = .ok (.ldc_w 266, 3) := dk_19 1 10 (dk_at dksJ13_bitCount_0 11 rfl rfl)
theorem dJ13_bitCount_14 : decode cJ13_bitCount 14 = .ok (.iand, 1) := dk_126 (dk_at dksJ13_bitCount_0 14 rfl rfl)
theorem dJ13_bitCount_15 : decode cJ13_bitCount 15 = .ok (.iload_n 0, 1) := dk_26 (dk_at dksJ13_bitCount_0 15 rfl rfl)
theorem dJ13_bitCount_16 : decode cJ13_bitCount 16 = .ok (.iconst 2, 1) := dk_5 (dk_at dksJ13_bitCount_0 16 rfl rfl)
theorem dJ13_bitCount_17 : decode cJ13_bitCount 17 = .ok (.iushr, 1) := dk_124 (dk_at dksJ13_bitCount_0 17 rfl rfl)
theorem dJ13_bitCount_18 : decode cJ13_bitCount 18 = .ok (.ldc_w 266, 3) := dk_19 1 10 (dk_at dksJ13_bitCount_0 18 rfl rfl)
theorem dJ13_bitCount_21 : decode cJ13_bitCount 21 = .ok (.iand, 1) := dk_126 (dk_at dksJ13_bitCount_0 21 rfl rfl)
theorem dJ13_bitCount_22 : decode cJ13_bitCount 22 = .ok (.iadd, 1) := dk_96 (dk_at dksJ13_bitCount_0 22 rfl rfl)
theorem dJ13_bitCount_23 : decode cJ13_bitCount 23 = .ok (.istore_n 0, 1) := dk_59 (dk_at dksJ13_bitCount_0 23 rfl rfl)
theorem dJ13_bitCount_24 : decode cJ13_bitCount 24 = .ok (.iload_n 0, 1) := dk_26 (dk_at dksJ13_bitCount_1 0 rfl rfl)
theorem dJ13_bitCount_25 : decode cJ13_bitCount 25 = .ok (.iload_n 0, 1) := dk_26 (dk_at dksJ13_bitCount_1 1 rfl rfl)
theorem dJ13_bitCount_26 : decode cJ13_bitCount 26 = .ok (.iconst 4, 1) := dk_7 (dk_at dksJ13_bitCount_1 2 rfl rfl)
theorem dJ13_bitCount_27 : decode cJ13_bitCount 27 = .ok (.iushr, 1) := dk_124 (dk_at dksJ13_bitCount_1 3 rfl rfl)
theorem dJ13_bitCount_28 : decode cJ13_bitCount 28 = .ok (.iadd, 1) := dk_96 (dk_at dksJ13_bitCount_1 4 rfl rfl)
theorem dJ13_bitCount_29 : decode cJ13_bitCount 29 = .ok (.ldc_w 267, 3) := dk_19 1 11 (dk_at dksJ13_bitCount_1 5 rfl rfl)
theorem dJ13_bitCount_32 : decode cJ13_bitCount 32 = .ok (.iand, 1) := dk_126 (dk_at dksJ13_bitCount_1 8 rfl rfl)
theorem dJ13_bitCount_33 : decode cJ13_bitCount 33 = .ok (.istore_n 0, 1) := dk_59 (dk_at dksJ13_bitCount_1 9 rfl rfl)
theorem dJ13_bitCount_34 : decode cJ13_bitCount 34 = .ok (.iload_n 0, 1) := dk_26 (dk_at dksJ13_bitCount_1 10 rfl rfl)
theorem dJ13_bitCount_35 : decode cJ13_bitCount 35 = .ok (.iload_n 0, 1) := dk_26 (dk_at dksJ13_bitCount_1 11 rfl rfl)
theorem dJ13_bitCount_36 : decode cJ13_bitCount 36 = .ok (.bipush 8, 2) := dk_16 8 (dk_at dksJ13_bitCount_1 12 rfl rfl)
theorem dJ13_bitCount_38 : decode cJ13_bitCount 38 = .ok (.iushr, 1) := dk_124 (dk_at dksJ13_bitCount_1 14 rfl rfl)
theorem dJ13_bitCount_39 : decode cJ13_bitCount 39 = .ok (.iadd, 1) := dk_96 (dk_at dksJ13_bitCount_1 15 rfl rfl)
theorem dJ13_bitCount_40 : decode cJ13_bitCount 40 = .ok (.istore_n 0, 1) := dk_59 (dk_at dksJ13_bitCount_1 16 rfl rfl)
theorem dJ13_bitCount_41 : decode cJ13_bitCount 41 = .ok (.iload_n 0, 1) := dk_26 (dk_at dksJ13_bitCount_1 17 rfl rfl)
theorem dJ13_bitCount_42 : decode cJ13_bitCount 42 = .ok (.iload_n 0, 1) := dk_26 (dk_at dksJ13_bitCount_1 18 rfl rfl)
theorem dJ13_bitCount_43 : decode cJ13_bitCount 43 = .ok (.bipush 16, 2) := dk_16 16 (dk_at dksJ13_bitCount_1 19 rfl rfl)
theorem dJ13_bitCount_45 : decode cJ13_bitCount 45 = .ok (.iushr, 1) := dk_124 (dk_at dksJ13_bitCount_1 21 rfl rfl)
theorem dJ13_bitCount_46 : decode cJ13_bitCount 46 = .ok (.iadd, 1) := dk_96 (dk_at dksJ13_bitCount_1 22 rfl rfl)
theorem dJ13_bitCount_47 : decode cJ13_bitCount 47 = .ok (.istore_n 0, 1) := dk_59 (dk_at dksJ13_bitCount_1 23 rfl rfl)
theorem dJ13_bitCount_48 : decode cJ13_bitCount 48 = .ok (.iload_n 0, 1) := dk_26 (dk_at dksJ13_bitCount_2 0 rfl rfl)
theorem dJ13_bitCount_49 : decode cJ13_bitCount 49 = .ok (.bipush 63, 2) := dk_16 63 (dk_at dksJ13_bitCount_2 1 rfl rfl)
theorem dJ13_bitCount_51 : decode cJ13_bitCount 51 = .ok (.iand, 1) := dk_126 (dk_at dksJ13_bitCount_2 3 rfl rfl)
theorem dJ13_bitCount_52 : decode cJ13_bitCount 52 = .ok (.ireturn, 1) := dk_172 (dk_at dksJ13_bitCount_2 4 rfl rfl)
abbrev cJ13_numberOfTrailingZeros : ByteArray := prog_16_method_48_code
def yJ13_numberOfTrailingZeros : MethodName := ⟨RJ13, "numberOfTrailingZeros", "(I)I"⟩
def dkwJ13_numberOfTrailingZeros_3 : List UInt8 := [5, 124, 59, 27, 26, 4, 124, 96, 172]
abbrev dktJ13_numberOfTrailingZeros_3 : List UInt8 := dkwJ13_numberOfTrailingZeros_3 ++ []
def dkwJ13_numberOfTrailingZeros_2 : List UInt8 := [124, 59, 26, 16, 16, 164, 0, 10, 132, 1, 4, 26, 7, 124, 59, 26, 7, 164, 0, 10, 132, 1, 2, 26]
abbrev dktJ13_numberOfTrailingZeros_2 : List UInt8 := dkwJ13_numberOfTrailingZeros_2 ++ dktJ13_numberOfTrailingZeros_3
def dkwJ13_numberOfTrailingZeros_1 : List UInt8 := [164, 0, 11, 132, 1, 16, 26, 16, 16, 124, 59, 26, 17, 1, 0, 164, 0, 11, 132, 1, 8, 26, 16, 8]
abbrev dktJ13_numberOfTrailingZeros_1 : List UInt8 := dkwJ13_numberOfTrailingZeros_1 ++ dktJ13_numberOfTrailingZeros_2
def dkwJ13_numberOfTrailingZeros_0 : List UInt8 := [26, 2, 130, 26, 4, 100, 126, 59, 26, 157, 0, 8, 26, 16, 32, 126, 172, 4, 60, 26, 19, 1, 8]
abbrev dktJ13_numberOfTrailingZeros_0 : List UInt8 := dkwJ13_numberOfTrailingZeros_0 ++ dktJ13_numberOfTrailingZeros_1
theorem dksJ13_numberOfTrailingZeros_0 : cJ13_numberOfTrailingZeros.data.toList.drop 0 = dktJ13_numberOfTrailingZeros_0 := by decide +kernel
theorem dksJ13_numberOfTrailingZeros_1 : cJ13_numberOfTrailingZeros.data.toList.drop 23 = dktJ13_numberOfTrailingZeros_1 := dk_seg dksJ13_numberOfTrailingZeros_0 23 rfl rfl
theorem dksJ13_numberOfTrailingZeros_2 : cJ13_numberOfTrailingZeros.data.toList.drop 47 = dktJ13_numberOfTrailingZeros_2 := dk_seg dksJ13_numberOfTrailingZeros_1 24 rfl rfl
theorem dksJ13_numberOfTrailingZeros_3 : cJ13_numberOfTrailingZeros.data.toList.drop 71 = dktJ13_numberOfTrailingZeros_3 := dk_seg dksJ13_numberOfTrailingZeros_2 24 rfl rfl
theorem dJ13_numberOfTrailingZeros_0 : decode cJ13_numberOfTrailingZeros 0 = .ok (.iload_n 0, 1) := dk_26 (dk_at dksJ13_numberOfTrailingZeros_0 0 rfl rfl)
theorem dJ13_numberOfTrailingZeros_1 : decode cJ13_numberOfTrailingZeros 1 = .ok (.iconst (-1), 1) := dk_2 (dk_at dksJ13_numberOfTrailingZeros_0 1 rfl rfl)
theorem dJ13_numberOfTrailingZeros_2 : decode cJ13_numberOfTrailingZeros 2 = .ok (.ixor, 1) := dk_130 (dk_at dksJ13_numberOfTrailingZeros_0 2 rfl rfl)
theorem dJ13_numberOfTrailingZeros_3 : decode cJ13_numberOfTrailingZeros 3 = .ok (.iload_n 0, 1) := dk_26 (dk_at dksJ13_numberOfTrailingZeros_0 3 rfl rfl)
theorem dJ13_numberOfTrailingZeros_4 : decode cJ13_numberOfTrailingZeros 4 = .ok (.iconst 1, 1) := dk_4 (dk_at dksJ13_numberOfTrailingZeros_0 4 rfl rfl)
theorem dJ13_numberOfTrailingZeros_5 : decode cJ13_numberOfTrailingZeros 5 = .ok (.isub, 1) := dk_100 (dk_at dksJ13_numberOfTrailingZeros_0 5 rfl rfl)
theorem dJ13_numberOfTrailingZeros_6 : decode cJ13_numberOfTrailingZeros 6 = .ok (.iand, 1) := dk_126 (dk_at dksJ13_numberOfTrailingZeros_0 6 rfl rfl)
theorem dJ13_numberOfTrailingZeros_7 : decode cJ13_numberOfTrailingZeros 7 = .ok (.istore_n 0, 1) := dk_59 (dk_at dksJ13_numberOfTrailingZeros_0 7 rfl rfl)
theorem dJ13_numberOfTrailingZeros_8 : decode cJ13_numberOfTrailingZeros 8 = .ok (.iload_n 0, 1) := dk_26 (dk_at dksJ13_numberOfTrailingZeros_0 8 rfl rfl)
theorem dJ13_numberOfTrailingZeros_9 : decode cJ13_numberOfTrailingZeros 9 = .ok (.ifCond .gt 8, 3) := dk_157 0 8 (dk_at dksJ13_numberOfTrailingZeros_0 9 rfl rfl)
theorem dJ13_numberOfTrailingZeros_12 : decode cJ13_numberOfTrailingZeros 12 = .ok (.iload_n 0, 1) := dk_26 (dk_at dksJ13_numberOfTrailingZeros_0 12 rfl rfl)
theorem dJ13_numberOfTrailingZeros_13 : decode cJ13_numberOfTrailingZeros 13 = .ok (.bipush 32, 2) := dk_16 32 (dk_at dksJ13_numberOfTrailingZeros_0 13 rfl rfl)
theorem dJ13_numberOfTrailingZeros_15 : decode cJ13_numberOfTrailingZeros 15 = .ok (.iand, 1) := dk_126 (dk_at dksJ13_numberOfTrailingZeros_0 15 rfl rfl)
theorem dJ13_numberOfTrailingZeros_16 : decode cJ13_numberOfTrailingZeros 16 = .ok (.ireturn, 1) := dk_172 (dk_at dksJ13_numberOfTrailingZeros_0 16 rfl rfl)
theorem dJ13_numberOfTrailingZeros_17 : decode cJ13_numberOfTrailingZeros 17 = .ok (.iconst 1, 1) := dk_4 (dk_at dksJ13_numberOfTrailingZeros_0 17 rfl rfl)
theorem dJ13_numberOfTrailingZeros_18 : decode cJ13_numberOfTrailingZeros 18 = .ok (.istore_n 1, 1) := dk_60 (dk_at dksJ13_numberOfTrailingZeros_0 18 rfl rfl)
theorem dJ13_numberOfTrailingZeros_19 : decode cJ13_numberOfTrailingZeros 19 = .ok (.iload_n 0, 1) := dk_26 (dk_at dksJ13_numberOfTrailingZeros_0 19 rfl rfl)
theorem dJ13_numberOfTrailingZeros_20 : decode cJ13_numberOfTrailingZeros 20 = .ok (.ldc_w 264, 3) := dk_19 1 8 (dk_at dksJ13_numberOfTrailingZeros_0 20 rfl rfl)
theorem dJ13_numberOfTrailingZeros_23 : decode cJ13_numberOfTrailingZeros 23 = .ok (.if_icmp .le 11, 3) := dk_164 0 11 (dk_at dksJ13_numberOfTrailingZeros_1 0 rfl rfl)
theorem dJ13_numberOfTrailingZeros_26 : decode cJ13_numberOfTrailingZeros 26 = .ok (.iinc 1 16, 3) := dk_132 1 16 (dk_at dksJ13_numberOfTrailingZeros_1 3 rfl rfl)
theorem dJ13_numberOfTrailingZeros_29 : decode cJ13_numberOfTrailingZeros 29 = .ok (.iload_n 0, 1) := dk_26 (dk_at dksJ13_numberOfTrailingZeros_1 6 rfl rfl)
theorem dJ13_numberOfTrailingZeros_30 : decode cJ13_numberOfTrailingZeros 30 = .ok (.bipush 16, 2) := dk_16 16 (dk_at dksJ13_numberOfTrailingZeros_1 7 rfl rfl)
theorem dJ13_numberOfTrailingZeros_32 : decode cJ13_numberOfTrailingZeros 32 = .ok (.iushr, 1) := dk_124 (dk_at dksJ13_numberOfTrailingZeros_1 9 rfl rfl)
theorem dJ13_numberOfTrailingZeros_33 : decode cJ13_numberOfTrailingZeros 33 = .ok (.istore_n 0, 1) := dk_59 (dk_at dksJ13_numberOfTrailingZeros_1 10 rfl rfl)
theorem dJ13_numberOfTrailingZeros_34 : decode cJ13_numberOfTrailingZeros 34 = .ok (.iload_n 0, 1) := dk_26 (dk_at dksJ13_numberOfTrailingZeros_1 11 rfl rfl)
theorem dJ13_numberOfTrailingZeros_35 : decode cJ13_numberOfTrailingZeros 35 = .ok (.sipush 256, 3) := dk_17 1 0 (dk_at dksJ13_numberOfTrailingZeros_1 12 rfl rfl)
theorem dJ13_numberOfTrailingZeros_38 : decode cJ13_numberOfTrailingZeros 38 = .ok (.if_icmp .le 11, 3) := dk_164 0 11 (dk_at dksJ13_numberOfTrailingZeros_1 15 rfl rfl)
theorem dJ13_numberOfTrailingZeros_41 : decode cJ13_numberOfTrailingZeros 41 = .ok (.iinc 1 8, 3) := dk_132 1 8 (dk_at dksJ13_numberOfTrailingZeros_1 18 rfl rfl)
theorem dJ13_numberOfTrailingZeros_44 : decode cJ13_numberOfTrailingZeros 44 = .ok (.iload_n 0, 1) := dk_26 (dk_at dksJ13_numberOfTrailingZeros_1 21 rfl rfl)
theorem dJ13_numberOfTrailingZeros_45 : decode cJ13_numberOfTrailingZeros 45 = .ok (.bipush 8, 2) := dk_16 8 (dk_at dksJ13_numberOfTrailingZeros_1 22 rfl rfl)
theorem dJ13_numberOfTrailingZeros_47 : decode cJ13_numberOfTrailingZeros 47 = .ok (.iushr, 1) := dk_124 (dk_at dksJ13_numberOfTrailingZeros_2 0 rfl rfl)
theorem dJ13_numberOfTrailingZeros_48 : decode cJ13_numberOfTrailingZeros 48 = .ok (.istore_n 0, 1) := dk_59 (dk_at dksJ13_numberOfTrailingZeros_2 1 rfl rfl)
theorem dJ13_numberOfTrailingZeros_49 : decode cJ13_numberOfTrailingZeros 49 = .ok (.iload_n 0, 1) := dk_26 (dk_at dksJ13_numberOfTrailingZeros_2 2 rfl rfl)
theorem dJ13_numberOfTrailingZeros_50 : decode cJ13_numberOfTrailingZeros 50 = .ok (.bipush 16, 2) := dk_16 16 (dk_at dksJ13_numberOfTrailingZeros_2 3 rfl rfl)
theorem dJ13_numberOfTrailingZeros_52 : decode cJ13_numberOfTrailingZeros 52 = .ok (.if_icmp .le 10, 3) := dk_164 0 10 (dk_at dksJ13_numberOfTrailingZeros_2 5 rfl rfl)
theorem dJ13_numberOfTrailingZeros_55 : decode cJ13_numberOfTrailingZeros 55 = .ok (.iinc 1 4, 3) := dk_132 1 4 (dk_at dksJ13_numberOfTrailingZeros_2 8 rfl rfl)
theorem dJ13_numberOfTrailingZeros_58 : decode cJ13_numberOfTrailingZeros 58 = .ok (.iload_n 0, 1) := dk_26 (dk_at dksJ13_numberOfTrailingZeros_2 11 rfl rfl)
theorem dJ13_numberOfTrailingZeros_59 : decode cJ13_numberOfTrailingZeros 59 = .ok (.iconst 4, 1) := dk_7 (dk_at dksJ13_numberOfTrailingZeros_2 12 rfl rfl)
theorem dJ13_numberOfTrailingZeros_60 : decode cJ13_numberOfTrailingZeros 60 = .ok (.iushr, 1) := dk_124 (dk_at dksJ13_numberOfTrailingZeros_2 13 rfl rfl)
theorem dJ13_numberOfTrailingZeros_61 : decode cJ13_numberOfTrailingZeros 61 = .ok (.istore_n 0, 1) := dk_59 (dk_at dksJ13_numberOfTrailingZeros_2 14 rfl rfl)
theorem dJ13_numberOfTrailingZeros_62 : decode cJ13_numberOfTrailingZeros 62 = .ok (.iload_n 0, 1) := dk_26 (dk_at dksJ13_numberOfTrailingZeros_2 15 rfl rfl)
theorem dJ13_numberOfTrailingZeros_63 : decode cJ13_numberOfTrailingZeros 63 = .ok (.iconst 4, 1) := dk_7 (dk_at dksJ13_numberOfTrailingZeros_2 16 rfl rfl)
theorem dJ13_numberOfTrailingZeros_64 : decode cJ13_numberOfTrailingZeros 64 = .ok (.if_icmp .le 10, 3) := dk_164 0 10 (dk_at dksJ13_numberOfTrailingZeros_2 17 rfl rfl)
theorem dJ13_numberOfTrailingZeros_67 : decode cJ13_numberOfTrailingZeros 67 = .ok (.iinc 1 2, 3) := dk_132 1 2 (dk_at dksJ13_numberOfTrailingZeros_2 20 rfl rfl)
theorem dJ13_numberOfTrailingZeros_70 : decode cJ13_numberOfTrailingZeros 70 = .ok (.iload_n 0, 1) := dk_26 (dk_at dksJ13_numberOfTrailingZeros_2 23 rfl rfl)
theorem dJ13_numberOfTrailingZeros_71 : decode cJ13_numberOfTrailingZeros 71 = .ok (.iconst 2, 1) := dk_5 (dk_at dksJ13_numberOfTrailingZeros_3 0 rfl rfl)
theorem dJ13_numberOfTrailingZeros_72 : decode cJ13_numberOfTrailingZeros 72 = .ok (.iushr, 1) := dk_124 (dk_at dksJ13_numberOfTrailingZeros_3 1 rfl rfl)
theorem dJ13_numberOfTrailingZeros_73 : decode cJ13_numberOfTrailingZeros 73 = .ok (.istore_n 0, 1) := dk_59 (dk_at dksJ13_numberOfTrailingZeros_3 2 rfl rfl)
theorem dJ13_numberOfTrailingZeros_74 : decode cJ13_numberOfTrailingZeros 74 = .ok (.iload_n 1, 1) := dk_27 (dk_at dksJ13_numberOfTrailingZeros_3 3 rfl rfl)
theorem dJ13_numberOfTrailingZeros_75 : decode cJ13_numberOfTrailingZeros 75 = .ok (.iload_n 0, 1) := dk_26 (dk_at dksJ13_numberOfTrailingZeros_3 4 rfl rfl)
theorem dJ13_numberOfTrailingZeros_76 : decode cJ13_numberOfTrailingZeros 76 = .ok (.iconst 1, 1) := dk_4 (dk_at dksJ13_numberOfTrailingZeros_3 5 rfl rfl)
theorem dJ13_numberOfTrailingZeros_77 : decode cJ13_numberOfTrailingZeros 77 = .ok (.iushr, 1) := dk_124 (dk_at dksJ13_numberOfTrailingZeros_3 6 rfl rfl)
theorem dJ13_numberOfTrailingZeros_78 : decode cJ13_numberOfTrailingZeros 78 = .ok (.iadd, 1) := dk_96 (dk_at dksJ13_numberOfTrailingZeros_3 7 rfl rfl)
theorem dJ13_numberOfTrailingZeros_79 : decode cJ13_numberOfTrailingZeros 79 = .ok (.ireturn, 1) := dk_172 (dk_at dksJ13_numberOfTrailingZeros_3 8 rfl rfl)
theorem q58 : (Jvm.Cond.initialized "java/lang/Integer") ∈ lw_all := lw_g (lw_at lw_m1 18 rfl) rfl
theorem q145 : (Jvm.Cond.static ({ cls := "java/lang/Integer", name := "signum", desc := "(I)I" } : Jvm.MethodName)) ∈ lw_all := lw_g (lw_at lw_m1 105 rfl) rfl
theorem q146 : (Jvm.Cond.code ({ cls := "java/lang/Integer", name := "signum", desc := "(I)I" } : Jvm.MethodName) prog_16_method_56_code (1 : Nat) (Option.some Jvm.ClassFile.FieldType.int)) ∈ lw_all := lw_g (lw_at lw_m1 106 rfl) rfl
theorem q883 : (Jvm.Cond.static ({ cls := "java/lang/Integer", name := "stringSize", desc := "(I)I" } : Jvm.MethodName)) ∈ lw_all := lw_g (lw_at lw_m4 123 rfl) rfl
theorem q884 : (Jvm.Cond.code ({ cls := "java/lang/Integer", name := "stringSize", desc := "(I)I" } : Jvm.MethodName) prog_16_method_13_code (4 : Nat) (Option.some Jvm.ClassFile.FieldType.int)) ∈ lw_all := lw_g (lw_at lw_m4 124 rfl) rfl
theorem q886 : (Jvm.Cond.static ({ cls := "java/lang/Integer", name := "getChars", desc := "(II[B)I" } : Jvm.MethodName)) ∈ lw_all := lw_g (lw_at lw_m4 126 rfl) rfl
theorem q887 : (Jvm.Cond.code ({ cls := "java/lang/Integer", name := "getChars", desc := "(II[B)I" } : Jvm.MethodName) prog_16_method_12_code (7 : Nat) (Option.some Jvm.ClassFile.FieldType.int)) ∈ lw_all := lw_g (lw_at lw_m4 127 rfl) rfl
theorem q888 : (Jvm.Cond.fieldLink "java/lang/Integer" (83 : Nat) "java/lang/Integer" "DigitOnes" "[B") ∈ lw_all := lw_g (lw_at lw_m4 128 rfl) rfl
theorem q889 : (Jvm.Cond.laysStatic "java/lang/Integer" "DigitOnes" "[B") ∈ lw_tbl := lw_at lw_m4 129 rfl
theorem q890 : (Jvm.Cond.fieldLink "java/lang/Integer" (87 : Nat) "java/lang/Integer" "DigitTens" "[B") ∈ lw_all := lw_g (lw_at lw_m4 130 rfl) rfl
theorem q891 : (Jvm.Cond.laysStatic "java/lang/Integer" "DigitTens" "[B") ∈ lw_tbl := lw_at lw_m4 131 rfl
theorem q1440 : (Jvm.Cond.static ({ cls := "java/lang/Integer", name := "numberOfLeadingZeros", desc := "(I)I" } : Jvm.MethodName)) ∈ lw_all := lw_g (lw_at lw_m6 200 rfl) rfl
theorem q1441 : (Jvm.Cond.code ({ cls := "java/lang/Integer", name := "numberOfLeadingZeros", desc := "(I)I" } : Jvm.MethodName) prog_16_method_47_code (2 : Nat) (Option.some Jvm.ClassFile.FieldType.int)) ∈ lw_all := lw_g (lw_at lw_m6 201 rfl) rfl
theorem q1442 : (Jvm.Cond.constant "java/lang/Integer" (264 : Nat) (65536 : Int32)) ∈ lw_all := lw_g (lw_at lw_m6 202 rfl) rfl
theorem q1444 : (Jvm.Cond.static ({ cls := "java/lang/Integer", name := "bitCount", desc := "(I)I" } : Jvm.MethodName)) ∈ lw_all := lw_g (lw_at lw_m6 204 rfl) rfl
theorem q1445 : (Jvm.Cond.code ({ cls := "java/lang/Integer", name := "bitCount", desc := "(I)I" } : Jvm.MethodName) prog_16_method_49_code (1 : Nat) (Option.some Jvm.ClassFile.FieldType.int)) ∈ lw_all := lw_g (lw_at lw_m6 205 rfl) rfl
theorem q1446 : (Jvm.Cond.constant "java/lang/Integer" (265 : Nat) (1431655765 : Int32)) ∈ lw_all := lw_g (lw_at lw_m6 206 rfl) rfl
theorem q1447 : (Jvm.Cond.constant "java/lang/Integer" (266 : Nat) (858993459 : Int32)) ∈ lw_all := lw_g (lw_at lw_m6 207 rfl) rfl
theorem q1448 : (Jvm.Cond.constant "java/lang/Integer" (267 : Nat) (252645135 : Int32)) ∈ lw_all := lw_g (lw_at lw_m6 208 rfl) rfl
theorem q1579 : (Jvm.Cond.static ({ cls := "java/lang/Integer", name := "numberOfTrailingZeros", desc := "(I)I" } : Jvm.MethodName)) ∈ lw_all := lw_g (lw_at lw_m7 99 rfl) rfl
theorem q1580 : (Jvm.Cond.code ({ cls := "java/lang/Integer", name := "numberOfTrailingZeros", desc := "(I)I" } : Jvm.MethodName) prog_16_method_48_code (2 : Nat) (Option.some Jvm.ClassFile.FieldType.int)) ∈ lw_all := lw_g (lw_at lw_m7 100 rfl) rfl

/-! java/lang/IllegalStateException -/
set_option maxRecDepth 100000
def RJ14 : String := "java/lang/IllegalStateException"
def TJ14 : u_T := fun k => match k with
  | 0 => ("java/lang/Throwable", "cause", "Ljava/lang/Throwable;", false)
  | 1 => ("java/lang/Throwable", "stackTrace", "[Ljava/lang/StackTraceElement;", false)
  | 2 => ("java/lang/Throwable", "suppressedExceptions", "Ljava/util/List;", false)
  | 3 => ("java/lang/Throwable", "detailMessage", "Ljava/lang/String;", false)
  | 4 => ("java/lang/Throwable", "backtrace", "Ljava/lang/Object;", false)
  | _ => ("java/lang/Throwable", "depth", "I", false)
def tyJ14 : Nat → FieldType := fun k => match k with
  | 0 => .object "java/lang/Throwable"
  | 1 => .array (.object "java/lang/StackTraceElement")
  | 2 => .object "java/util/List"
  | 3 => .object "java/lang/String"
  | 4 => .object "java/lang/Object"
  | _ => .int
abbrev wsJ140 : List Cond := u_ws RJ14 TJ14 6
theorem nmJ14 : ∀ a, a < 6 → ∀ b, b < 6 → a ≠ b → (TJ14 a).2.1 ≠ (TJ14 b).2.1 := by decide +kernel
theorem tyJ14_ok : ∀ k, k < 6 → parseFieldDescriptor (TJ14 k).2.2.1 = some (tyJ14 k) := by decide +kernel
abbrev cJ14_init : ByteArray := prog_14_method_1_code
def yJ14_init : MethodName := ⟨RJ14, "<init>", "()V"⟩
theorem dJ14_init_0 : decode cJ14_init 0 = .ok (.aload_n 0, 1) := by decide +kernel
theorem dJ14_init_1 : decode cJ14_init 1 = .ok (.invokespecial 1, 3) := by decide +kernel
theorem dJ14_init_4 : decode cJ14_init 4 = .ok (.return_, 1) := by decide +kernel
theorem q59 : (Jvm.Cond.initialized "java/lang/IllegalStateException") ∈ lw_all := lw_g (lw_at lw_m1 19 rfl) rfl
theorem q284 : (Jvm.Cond.instantiable "java/lang/IllegalStateException" (6 : Nat)) ∈ lw_all := lw_g (lw_at lw_m2 4 rfl) rfl
theorem q285 : (Jvm.Cond.castable "java/lang/IllegalStateException" "java/lang/IllegalStateException") ∈ lw_tbl := lw_at lw_m2 5 rfl
theorem q292 : (Jvm.Cond.selects "java/lang/IllegalStateException" ({ cls := "java/lang/Throwable", name := "fillInStackTrace", desc := "(I)Ljava/lang/Throwable;" } : Jvm.MethodName) ({ cls := "java/lang/Throwable", name := "fillInStackTrace", desc := "(I)Ljava/lang/Throwable;" } : Jvm.MethodName)) ∈ lw_all := lw_g (lw_at lw_m2 12 rfl) rfl
theorem q293 : (Jvm.Cond.selects "java/lang/IllegalStateException" ({ cls := "java/lang/Throwable", name := "fillInStackTrace", desc := "()Ljava/lang/Throwable;" } : Jvm.MethodName) ({ cls := "java/lang/Throwable", name := "fillInStackTrace", desc := "()Ljava/lang/Throwable;" } : Jvm.MethodName)) ∈ lw_all := lw_g (lw_at lw_m2 13 rfl) rfl
theorem q294 : (Jvm.Cond.lays "java/lang/IllegalStateException" "java/lang/Throwable" "cause" "Ljava/lang/Throwable;") ∈ lw_all := lw_g (lw_at lw_m2 14 rfl) rfl
theorem q296 : (Jvm.Cond.lays "java/lang/IllegalStateException" "java/lang/Throwable" "stackTrace" "[Ljava/lang/StackTraceElement;") ∈ lw_all := lw_g (lw_at lw_m2 16 rfl) rfl
theorem q298 : (Jvm.Cond.lays "java/lang/IllegalStateException" "java/lang/Throwable" "suppressedExceptions" "Ljava/util/List;") ∈ lw_all := lw_g (lw_at lw_m2 18 rfl) rfl
theorem q300 : (Jvm.Cond.lays "java/lang/IllegalStateException" "java/lang/Throwable" "detailMessage" "Ljava/lang/String;") ∈ lw_all := lw_g (lw_at lw_m2 20 rfl) rfl
theorem q302 : (Jvm.Cond.lays "java/lang/IllegalStateException" "java/lang/Throwable" "backtrace" "Ljava/lang/Object;") ∈ lw_all := lw_g (lw_at lw_m2 22 rfl) rfl
theorem q326 : (Jvm.Cond.instanceMethod ({ cls := "java/lang/IllegalStateException", name := "<init>", desc := "()V" } : Jvm.MethodName)) ∈ lw_all := lw_g (lw_at lw_m2 46 rfl) rfl
theorem q327 : (Jvm.Cond.code ({ cls := "java/lang/IllegalStateException", name := "<init>", desc := "()V" } : Jvm.MethodName) prog_14_method_1_code (1 : Nat) (Option.none : Option Jvm.ClassFile.FieldType)) ∈ lw_all := lw_g (lw_at lw_m2 47 rfl) rfl
theorem q328 : (Jvm.Cond.methodLink "java/lang/IllegalStateException" (1 : Nat) ({ cls := "java/lang/RuntimeException", name := "<init>", desc := "()V" } : Jvm.MethodName)) ∈ lw_all := lw_g (lw_at lw_m2 48 rfl) rfl
theorem q344 : (Jvm.Cond.lays "java/lang/IllegalStateException" "java/lang/Throwable" "depth" "I") ∈ lw_all := lw_g (lw_at lw_m2 64 rfl) rfl
theorem q347 : (Jvm.Cond.superclass "java/lang/IllegalStateException" "java/lang/RuntimeException") ∈ lw_all := lw_g (lw_at lw_m2 67 rfl) rfl
theorem in_J14 : ∀ w ∈ wsJ140, w ∈ lw_all := lw_in wsJ140 [294, 296, 298, 300, 302, 344] (by decide +kernel) (by decide +kernel)

/-! java/math/BigInteger -/
set_option maxRecDepth 100000
def RJ15 : String := "java/math/BigInteger"
def TJ15 : u_T := fun k => match k with
  | 0 => ("java/math/BigInteger", "signum", "I", true)
  | 1 => ("java/math/BigInteger", "mag", "[I", true)
  | 2 => ("java/math/BigInteger", "bitCountPlusOne", "I", false)
  | 3 => ("java/math/BigInteger", "bitLengthPlusOne", "I", false)
  | 4 => ("java/math/BigInteger", "lowestSetBitPlusTwo", "I", false)
  | _ => ("java/math/BigInteger", "firstNonzeroIntNumPlusTwo", "I", false)
def tyJ15 : Nat → FieldType := fun k => match k with
  | 0 => .int
  | 1 => .array .int
  | 2 => .int
  | 3 => .int
  | 4 => .int
  | _ => .int
abbrev wsJ150 : List Cond := u_ws RJ15 TJ15 6
theorem nmJ15 : ∀ a, a < 6 → ∀ b, b < 6 → a ≠ b → (TJ15 a).2.1 ≠ (TJ15 b).2.1 := by decide +kernel
theorem tyJ15_ok : ∀ k, k < 6 → parseFieldDescriptor (TJ15 k).2.2.1 = some (tyJ15 k) := by decide +kernel
abbrev cJ15_valueOf : ByteArray := prog_27_method_29_code
def yJ15_valueOf : MethodName := ⟨RJ15, "valueOf", "(J)Ljava/math/BigInteger;"⟩
def dkwJ15_valueOf_2 : List UInt8 := [30, 117, 136, 50, 176, 187, 0, 23, 89, 30, 183, 1, 100, 176]
abbrev dktJ15_valueOf_2 : List UInt8 := dkwJ15_valueOf_2 ++ []
def dkwJ15_valueOf_1 : List UInt8 := [178, 1, 91, 30, 136, 50, 176, 30, 9, 148, 156, 0, 19, 30, 20, 1, 95, 148, 155, 0, 11, 178, 1, 97]
abbrev dktJ15_valueOf_1 : List UInt8 := dkwJ15_valueOf_1 ++ dktJ15_valueOf_2
def dkwJ15_valueOf_0 : List UInt8 := [30, 9, 148, 154, 0, 7, 178, 0, 22, 176, 30, 9, 148, 158, 0, 18, 30, 20, 1, 89, 148, 157, 0, 10]
abbrev dktJ15_valueOf_0 : List UInt8 := dkwJ15_valueOf_0 ++ dktJ15_valueOf_1
theorem dksJ15_valueOf_0 : cJ15_valueOf.data.toList.drop 0 = dktJ15_valueOf_0 := by decide +kernel
theorem dksJ15_valueOf_1 : cJ15_valueOf.data.toList.drop 24 = dktJ15_valueOf_1 := dk_seg dksJ15_valueOf_0 24 rfl rfl
theorem dksJ15_valueOf_2 : cJ15_valueOf.data.toList.drop 48 = dktJ15_valueOf_2 := dk_seg dksJ15_valueOf_1 24 rfl rfl
theorem dJ15_valueOf_0 : decode cJ15_valueOf 0 = .ok (.lload_n 0, 1) := dk_30 (dk_at dksJ15_valueOf_0 0 rfl rfl)
theorem dJ15_valueOf_1 : decode cJ15_valueOf 1 = .ok (.lconst 0, 1) := dk_9 (dk_at dksJ15_valueOf_0 1 rfl rfl)
theorem dJ15_valueOf_2 : decode cJ15_valueOf 2 = .ok (.lcmp, 1) := dk_148 (dk_at dksJ15_valueOf_0 2 rfl rfl)
theorem dJ15_valueOf_3 : decode cJ15_valueOf 3 = .ok (.ifCond .ne 7, 3) := dk_154 0 7 (dk_at dksJ15_valueOf_0 3 rfl rfl)
theorem dJ15_valueOf_6 : decode cJ15_valueOf 6 = .ok (.getstatic 22, 3) := dk_178 0 22 (dk_at dksJ15_valueOf_0 6 rfl rfl)
theorem dJ15_valueOf_9 : decode cJ15_valueOf 9 = .ok (.areturn, 1) := dk_176 (dk_at dksJ15_valueOf_0 9 rfl rfl)
theorem dJ15_valueOf_10 : decode cJ15_valueOf 10 = .ok (.lload_n 0, 1) := dk_30 (dk_at dksJ15_valueOf_0 10 rfl rfl)
theorem dJ15_valueOf_11 : decode cJ15_valueOf 11 = .ok (.lconst 0, 1) := dk_9 (dk_at dksJ15_valueOf_0 11 rfl rfl)
theorem dJ15_valueOf_12 : decode cJ15_valueOf 12 = .ok (.lcmp, 1) := dk_148 (dk_at dksJ15_valueOf_0 12 rfl rfl)
theorem dJ15_valueOf_13 : decode cJ15_valueOf 13 = .ok (.ifCond .le 18, 3) := dk_158 0 18 (dk_at dksJ15_valueOf_0 13 rfl rfl)
theorem dJ15_valueOf_16 : decode cJ15_valueOf 16 = .ok (.lload_n 0, 1) := dk_30 (dk_at dksJ15_valueOf_0 16 rfl rfl)
theorem dJ15_valueOf_17 : decode cJ15_valueOf 17 = .ok (.ldc2_w 345, 3) := dk_20 1 89 (dk_at dksJ15_valueOf_0 17 rfl rfl)
theorem dJ15_valueOf_20 : decode cJ15_valueOf 20 = .ok (.lcmp, 1) := dk_148 (dk_at dksJ15_valueOf_0 20 rfl rfl)
theorem dJ15_valueOf_21 : decode cJ15_valueOf 21 = .ok (.ifCond .gt 10, 3) := dk_157 0 10 (dk_at dksJ15_valueOf_0 21 rfl rfl)
theorem dJ15_valueOf_24 : decode cJ15_valueOf 24 = .ok (.getstatic 347, 3) := dk_178 1 91 (dk_at dksJ15_valueOf_1 0 rfl rfl)
theorem dJ15_valueOf_27 : decode cJ15_valueOf 27 = .ok (.lload_n 0, 1) := dk_30 (dk_at dksJ15_valueOf_1 3 rfl rfl)
theorem dJ15_valueOf_28 : decode cJ15_valueOf 28 = .ok (.l2i, 1) := dk_136 (dk_at dksJ15_valueOf_1 4 rfl rfl)
theorem dJ15_valueOf_29 : decode cJ15_valueOf 29 = .ok (.aaload, 1) := dk_50 (dk_at dksJ15_valueOf_1 5 rfl rfl)
theorem dJ15_valueOf_30 : decode cJ15_valueOf 30 = .ok (.areturn, 1) := dk_176 (dk_at dksJ15_valueOf_1 6 rfl rfl)
theorem dJ15_valueOf_31 : decode cJ15_valueOf 31 = .ok (.lload_n 0, 1) := dk_30 (dk_at dksJ15_valueOf_1 7 rfl rfl)
theorem dJ15_valueOf_32 : decode cJ15_valueOf 32 = .ok (.lconst 0, 1) := dk_9 (dk_at dksJ15_valueOf_1 8 rfl rfl)
theorem dJ15_valueOf_33 : decode cJ15_valueOf 33 = .ok (.lcmp, 1) := dk_148 (dk_at dksJ15_valueOf_1 9 rfl rfl)
theorem dJ15_valueOf_34 : decode cJ15_valueOf 34 = .ok (.ifCond .ge 19, 3) := dk_156 0 19 (dk_at dksJ15_valueOf_1 10 rfl rfl)
theorem dJ15_valueOf_37 : decode cJ15_valueOf 37 = .ok (.lload_n 0, 1) := dk_30 (dk_at dksJ15_valueOf_1 13 rfl rfl)
theorem dJ15_valueOf_38 : decode cJ15_valueOf 38 = .ok (.ldc2_w 351, 3) := dk_20 1 95 (dk_at dksJ15_valueOf_1 14 rfl rfl)
theorem dJ15_valueOf_41 : decode cJ15_valueOf 41 = .ok (.lcmp, 1) := dk_148 (dk_at dksJ15_valueOf_1 17 rfl rfl)
theorem dJ15_valueOf_42 : decode cJ15_valueOf 42 = .ok (.ifCond .lt 11, 3) := dk_155 0 11 (dk_at dksJ15_valueOf_1 18 rfl rfl)
theorem dJ15_valueOf_45 : decode cJ15_valueOf 45 = .ok (.getstatic 353, 3) := dk_178 1 97 (dk_at dksJ15_valueOf_1 21 rfl rfl)
theorem dJ15_valueOf_48 : decode cJ15_valueOf 48 = .ok (.lload_n 0, 1) := dk_30 (dk_at dksJ15_valueOf_2 0 rfl rfl)
theorem dJ15_valueOf_49 : decode cJ15_valueOf 49 = .ok (.lneg, 1) := dk_117 (dk_at dksJ15_valueOf_2 1 rfl rfl)
theorem dJ15_valueOf_50 : decode cJ15_valueOf 50 = .ok (.l2i, 1) := dk_136 (dk_at dksJ15_valueOf_2 2 rfl rfl)
theorem dJ15_valueOf_51 : decode cJ15_valueOf 51 = .ok (.aaload, 1) := dk_50 (dk_at dksJ15_valueOf_2 3 rfl rfl)
theorem dJ15_valueOf_52 : decode cJ15_valueOf 52 = .ok (.areturn, 1) := dk_176 (dk_at dksJ15_valueOf_2 4 rfl rfl)
theorem dJ15_valueOf_53 : decode cJ15_valueOf 53 = .ok (.new 23, 3) := dk_187 0 23 (dk_at dksJ15_valueOf_2 5 rfl rfl)
theorem dJ15_valueOf_56 : decode cJ15_valueOf 56 = .ok (.dup, 1) := dk_89 (dk_at dksJ15_valueOf_2 8 rfl rfl)
theorem dJ15_valueOf_57 : decode cJ15_valueOf 57 = .ok (.lload_n 0, 1) := dk_30 (dk_at dksJ15_valueOf_2 9 rfl rfl)
theorem dJ15_valueOf_58 : decode cJ15_valueOf 58 = .ok (.invokespecial 356, 3) := dk_183 1 100 (dk_at dksJ15_valueOf_2 10 rfl rfl)
theorem dJ15_valueOf_61 : decode cJ15_valueOf 61 = .ok (.areturn, 1) := dk_176 (dk_at dksJ15_valueOf_2 13 rfl rfl)
abbrev cJ15_init : ByteArray := prog_27_method_30_code
def yJ15_init : MethodName := ⟨RJ15, "<init>", "(J)V"⟩
def dkwJ15_init_3 : List UInt8 := [180, 0, 28, 4, 31, 136, 79, 177]
abbrev dktJ15_init_3 : List UInt8 := dkwJ15_init_3 ++ []
def dkwJ15_init_2 : List UInt8 := [3, 31, 136, 79, 167, 0, 25, 42, 5, 188, 10, 181, 0, 28, 42, 180, 0, 28, 3, 29, 79, 42]
abbrev dktJ15_init_2 : List UInt8 := dkwJ15_init_2 ++ dktJ15_init_3
def dkwJ15_init_1 : List UInt8 := [181, 0, 32, 31, 16, 32, 125, 136, 62, 29, 154, 0, 21, 42, 4, 188, 10, 181, 0, 28, 42, 180, 0, 28]
abbrev dktJ15_init_1 : List UInt8 := dkwJ15_init_1 ++ dktJ15_init_2
def dkwJ15_init_0 : List UInt8 := [42, 183, 0, 3, 31, 9, 148, 156, 0, 14, 31, 117, 64, 42, 2, 181, 0, 32, 167, 0, 8, 42, 4]
abbrev dktJ15_init_0 : List UInt8 := dkwJ15_init_0 ++ dktJ15_init_1
theorem dksJ15_init_0 : cJ15_init.data.toList.drop 0 = dktJ15_init_0 := by decide +kernel
theorem dksJ15_init_1 : cJ15_init.data.toList.drop 23 = dktJ15_init_1 := dk_seg dksJ15_init_0 23 rfl rfl
theorem dksJ15_init_2 : cJ15_init.data.toList.drop 47 = dktJ15_init_2 := dk_seg dksJ15_init_1 24 rfl rfl
theorem dksJ15_init_3 : cJ15_init.data.toList.drop 69 = dktJ15_init_3 := dk_seg dksJ15_init_2 22 rfl rfl
theorem dJ15_init_0 : decode cJ15_init 0 = .ok (.aload_n 0, 1) := dk_42 (dk_at dksJ15_init_0 0 rfl rfl)
theorem dJ15_init_1 : decode cJ15_init 1 = .ok (.invokespecial 3, 3) := dk_183 0 3 (dk_at dksJ15_init_0 1 rfl rfl)
theorem dJ15_init_4 : decode cJ15_init 4 = .ok (.lload_n 1, 1) := dk_31 (dk_at dksJ15_init_0 4 rfl rfl)
theorem dJ15_init_5 : decode cJ15_init 5 = .ok (.lconst 0, 1) := dk_9 (dk_at dksJ15_init_0 5 rfl rfl)
theorem dJ15_init_6 : decode cJ15_init 6 = .ok (.lcmp, 1) := dk_148 (dk_at dksJ15_init_0 6 rfl rfl)
theorem dJ15_init_7 : decode cJ15_init 7 = .ok (.ifCond .ge 14, 3) := dk_156 0 14 (dk_at dksJ15_init_0 7 rfl rfl)
theorem dJ15_init_10 : decode cJ15_init 10 = .ok (.lload_n 1, 1) := dk_31 (dk_at dksJ15_init_0 10 rfl rfl)
theorem dJ15_init_11 : decode cJ15_init 11 = .ok (.lneg, 1) := dk_117 (dk_at dksJ15_init_0 11 rfl rfl)
theorem dJ15_init_12 : decode cJ15_init 12 = .ok (.lstore_n 1, 1) := dk_64 (dk_at dksJ15_init_0 12 rfl rfl)
theorem dJ15_init_13 : decode cJ15_init 13 = .ok (.aload_n 0, 1) := dk_42 (dk_at dksJ15_init_0 13 rfl rfl)
theorem dJ15_init_14 : decode cJ15_init 14 = .ok (.iconst (-1), 1) := dk_2 (dk_at dksJ15_init_0 14 rfl rfl)
theorem dJ15_init_15 : decode cJ15_init 15 = .ok (.putfield 32, 3) := dk_181 0 32 (dk_at dksJ15_init_0 15 rfl rfl)
theorem dJ15_init_18 : decode cJ15_init 18 = .ok (.goto 8, 3) := dk_167 0 8 (dk_at dksJ15_init_0 18 rfl rfl)
theorem dJ15_init_21 : decode cJ15_init 21 = .ok (.aload_n 0, 1) := dk_42 (dk_at dksJ15_init_0 21 rfl rfl)
theorem dJ15_init_22 : decode cJ15_init 22 = .ok (.iconst 1, 1) := dk_4 (dk_at dksJ15_init_0 22 rfl rfl)
theorem dJ15_init_23 : decode cJ15_init 23 = .ok (.putfield 32, 3) := dk_181 0 32 (dk_at dksJ15_init_1 0 rfl rfl)
theorem dJ15_init_26 : decode cJ15_init 26 = .ok (.lload_n 1, 1) := dk_31 (dk_at dksJ15_init_1 3 rfl rfl)
theorem dJ15_init_27 : decode cJ15_init 27 = .ok (.bipush 32, 2) := dk_16 32 (dk_at dksJ15_init_1 4 rfl rfl)
theorem dJ15_init_29 : decode cJ15_init 29 = .ok (.lushr, 1) := dk_125 (dk_at dksJ15_init_1 6 rfl rfl)
theorem dJ15_init_30 : decode cJ15_init 30 = .ok (.l2i, 1) := dk_136 (dk_at dksJ15_init_1 7 rfl rfl)
theorem dJ15_init_31 : decode cJ15_init 31 = .ok (.istore_n 3, 1) := dk_62 (dk_at dksJ15_init_1 8 rfl rfl)
theorem dJ15_init_32 : decode cJ15_init 32 = .ok (.iload_n 3, 1) := dk_29 (dk_at dksJ15_init_1 9 rfl rfl)
theorem dJ15_init_33 : decode cJ15_init 33 = .ok (.ifCond .ne 21, 3) := dk_154 0 21 (dk_at dksJ15_init_1 10 rfl rfl)
theorem dJ15_init_36 : decode cJ15_init 36 = .ok (.aload_n 0, 1) := dk_42 (dk_at dksJ15_init_1 13 rfl rfl)
theorem dJ15_init_37 : decode cJ15_init 37 = .ok (.iconst 1, 1) := dk_4 (dk_at dksJ15_init_1 14 rfl rfl)
theorem dJ15_init_38 : decode cJ15_init 38 = .ok (.newarray .int, 2) := dk_188_10 (dk_at dksJ15_init_1 15 rfl rfl)
theorem dJ15_init_40 : decode cJ15_init 40 = .ok (.putfield 28, 3) := dk_181 0 28 (dk_at dksJ15_init_1 17 rfl rfl)
theorem dJ15_init_43 : decode cJ15_init 43 = .ok (.aload_n 0, 1) := dk_42 (dk_at dksJ15_init_1 20 rfl rfl)
theorem dJ15_init_44 : decode cJ15_init 44 = .ok (.getfield 28, 3) := dk_180 0 28 (dk_at dksJ15_init_1 21 rfl rfl)
theorem dJ15_init_47 : decode cJ15_init 47 = .ok (.iconst 0, 1) := dk_3 (dk_at dksJ15_init_2 0 rfl rfl)
theorem dJ15_init_48 : decode cJ15_init 48 = .ok (.lload_n 1, 1) := dk_31 (dk_at dksJ15_init_2 1 rfl rfl)
theorem dJ15_init_49 : decode cJ15_init 49 = .ok (.l2i, 1) := dk_136 (dk_at dksJ15_init_2 2 rfl rfl)
theorem dJ15_init_50 : decode cJ15_init 50 = .ok (.iastore, 1) := dk_79 (dk_at dksJ15_init_2 3 rfl rfl)
theorem dJ15_init_51 : decode cJ15_init 51 = .ok (.goto 25, 3) := dk_167 0 25 (dk_at dksJ15_init_2 4 rfl rfl)
theorem dJ15_init_54 : decode cJ15_init 54 = .ok (.aload_n 0, 1) := dk_42 (dk_at dksJ15_init_2 7 rfl rfl)
theorem dJ15_init_55 : decode cJ15_init 55 = .ok (.iconst 2, 1) := dk_5 (dk_at dksJ15_init_2 8 rfl rfl)
theorem dJ15_init_56 : decode cJ15_init 56 = .ok (.newarray .int, 2) := dk_188_10 (dk_at dksJ15_init_2 9 rfl rfl)
theorem dJ15_init_58 : decode cJ15_init 58 = .ok (.putfield 28, 3) := dk_181 0 28 (dk_at dksJ15_init_2 11 rfl rfl)
theorem dJ15_init_61 : decode cJ15_init 61 = .ok (.aload_n 0, 1) := dk_42 (dk_at dksJ15_init_2 14 rfl rfl)
theorem dJ15_init_62 : decode cJ15_init 62 = .ok (.getfield 28, 3) := dk_180 0 28 (dk_at dksJ15_init_2 15 rfl rfl)
theorem dJ15_init_65 : decode cJ15_init 65 = .ok (.iconst 0, 1) := dk_3 (dk_at dksJ15_init_2 18 rfl rfl)
theorem dJ15_init_66 : decode cJ15_init 66 = .ok (.iload_n 3, 1) := dk_29 (dk_at dksJ15_init_2 19 rfl rfl)
theorem dJ15_init_67 : decode cJ15_init 67 = .ok (.iastore, 1) := dk_79 (dk_at dksJ15_init_2 20 rfl rfl)
theorem dJ15_init_68 : decode cJ15_init 68 = .ok (.aload_n 0, 1) := dk_42 (dk_at dksJ15_init_2 21 rfl rfl)
theorem dJ15_init_69 : decode cJ15_init 69 = .ok (.getfield 28, 3) := dk_180 0 28 (dk_at dksJ15_init_3 0 rfl rfl)
theorem dJ15_init_72 : decode cJ15_init 72 = .ok (.iconst 1, 1) := dk_4 (dk_at dksJ15_init_3 3 rfl rfl)
theorem dJ15_init_73 : decode cJ15_init 73 = .ok (.lload_n 1, 1) := dk_31 (dk_at dksJ15_init_3 4 rfl rfl)
theorem dJ15_init_74 : decode cJ15_init 74 = .ok (.l2i, 1) := dk_136 (dk_at dksJ15_init_3 5 rfl rfl)
theorem dJ15_init_75 : decode cJ15_init 75 = .ok (.iastore, 1) := dk_79 (dk_at dksJ15_init_3 6 rfl rfl)
theorem dJ15_init_76 : decode cJ15_init 76 = .ok (.return_, 1) := dk_177 (dk_at dksJ15_init_3 7 rfl rfl)
abbrev cJ15_shiftRight : ByteArray := prog_27_method_104_code
def yJ15_shiftRight : MethodName := ⟨RJ15, "shiftRight", "(I)Ljava/math/BigInteger;"⟩
def dkwJ15_shiftRight_2 : List UInt8 := [183, 0, 175, 176]
abbrev dktJ15_shiftRight_2 : List UInt8 := dkwJ15_shiftRight_2 ++ []
def dkwJ15_shiftRight_1 : List UInt8 := [154, 0, 5, 42, 176, 187, 0, 23, 89, 42, 180, 0, 28, 27, 116, 184, 1, 173, 42, 180, 0, 32]
abbrev dktJ15_shiftRight_1 : List UInt8 := dkwJ15_shiftRight_1 ++ dktJ15_shiftRight_2
def dkwJ15_shiftRight_0 : List UInt8 := [42, 180, 0, 32, 154, 0, 7, 178, 0, 22, 176, 27, 158, 0, 9, 42, 27, 182, 2, 215, 176, 27]
abbrev dktJ15_shiftRight_0 : List UInt8 := dkwJ15_shiftRight_0 ++ dktJ15_shiftRight_1
theorem dksJ15_shiftRight_0 : cJ15_shiftRight.data.toList.drop 0 = dktJ15_shiftRight_0 := by decide +kernel
theorem dksJ15_shiftRight_1 : cJ15_shiftRight.data.toList.drop 22 = dktJ15_shiftRight_1 := dk_seg dksJ15_shiftRight_0 22 rfl rfl
theorem dksJ15_shiftRight_2 : cJ15_shiftRight.data.toList.drop 44 = dktJ15_shiftRight_2 := dk_seg dksJ15_shiftRight_1 22 rfl rfl
theorem dJ15_shiftRight_0 : decode cJ15_shiftRight 0 = .ok (.aload_n 0, 1) := dk_42 (dk_at dksJ15_shiftRight_0 0 rfl rfl)
theorem dJ15_shiftRight_1 : decode cJ15_shiftRight 1 = .ok (.getfield 32, 3) := dk_180 0 32 (dk_at dksJ15_shiftRight_0 1 rfl rfl)
theorem dJ15_shiftRight_4 : decode cJ15_shiftRight 4 = .ok (.ifCond .ne 7, 3) := dk_154 0 7 (dk_at dksJ15_shiftRight_0 4 rfl rfl)
theorem dJ15_shiftRight_7 : decode cJ15_shiftRight 7 = .ok (.getstatic 22, 3) := dk_178 0 22 (dk_at dksJ15_shiftRight_0 7 rfl rfl)
theorem dJ15_shiftRight_10 : decode cJ15_shiftRight 10 = .ok (.areturn, 1) := dk_176 (dk_at dksJ15_shiftRight_0 10 rfl rfl)
theorem dJ15_shiftRight_11 : decode cJ15_shiftRight 11 = .ok (.iload_n 1, 1) := dk_27 (dk_at dksJ15_shiftRight_0 11 rfl rfl)
theorem dJ15_shiftRight_12 : decode cJ15_shiftRight 12 = .ok (.ifCond .le 9, 3) := dk_158 0 9 (dk_at dksJ15_shiftRight_0 12 rfl rfl)
theorem dJ15_shiftRight_15 : decode cJ15_shiftRight 15 = .ok (.aload_n 0, 1) := dk_42 (dk_at dksJ15_shiftRight_0 15 rfl rfl)
theorem dJ15_shiftRight_16 : decode cJ15_shiftRight 16 = .ok (.iload_n 1, 1) := dk_27 (dk_at dksJ15_shiftRight_0 16 rfl rfl)
theorem dJ15_shiftRight_17 : decode cJ15_shiftRight 17 = .ok (.invokevirtual 727, 3) := dk_182 2 215 (dk_at dksJ15_shiftRight_0 17 rfl rfl)
theorem dJ15_shiftRight_20 : decode cJ15_shiftRight 20 = .ok (.areturn, 1) := dk_176 (dk_at dksJ15_shiftRight_0 20 rfl rfl)
theorem dJ15_shiftRight_21 : decode cJ15_shiftRight 21 = .ok (.iload_n 1, 1) := dk_27 (dk_at dksJ15_shiftRight_0 21 rfl rfl)
theorem dJ15_shiftRight_22 : decode cJ15_shiftRight 22 = .ok (.ifCond .ne 5, 3) := dk_154 0 5 (dk_at dksJ15_shiftRight_1 0 rfl rfl)
theorem dJ15_shiftRight_25 : decode cJ15_shiftRight 25 = .ok (.aload_n 0, 1) := dk_42 (dk_at dksJ15_shiftRight_1 3 rfl rfl)
theorem dJ15_shiftRight_26 : decode cJ15_shiftRight 26 = .ok (.areturn, 1) := dk_176 (dk_at dksJ15_shiftRight_1 4 rfl rfl)
theorem dJ15_shiftRight_27 : decode cJ15_shiftRight 27 = .ok (.new 23, 3) := dk_187 0 23 (dk_at dksJ15_shiftRight_1 5 rfl rfl)
theorem dJ15_shiftRight_30 : decode cJ15_shiftRight 30 = .ok (.dup, 1) := dk_89 (dk_at dksJ15_shiftRight_1 8 rfl rfl)
theorem dJ15_shiftRight_31 : decode cJ15_shiftRight 31 = .ok (.aload_n 0, 1) := dk_42 (dk_at dksJ15_shiftRight_1 9 rfl rfl)
theorem dJ15_shiftRight_32 : decode cJ15_shiftRight 32 = .ok (.getfield 28, 3) := dk_180 0 28 (dk_at dksJ15_shiftRight_1 10 rfl rfl)
theorem dJ15_shiftRight_35 : decode cJ15_shiftRight 35 = .ok (.iload_n 1, 1) := dk_27 (dk_at dksJ15_shiftRight_1 13 rfl rfl)
theorem dJ15_shiftRight_36 : decode cJ15_shiftRight 36 = .ok (.ineg, 1) := dk_116 (dk_at dksJ15_shiftRight_1 14 rfl rfl)
theorem dJ15_shiftRight_37 : decode cJ15_shiftRight 37 = .ok (.invokestatic 429, 3) := dk_184 1 173 (dk_at dksJ15_shiftRight_1 15 rfl rfl)
theorem dJ15_shiftRight_40 : decode cJ15_shiftRight 40 = .ok (.aload_n 0, 1) := dk_42 (dk_at dksJ15_shiftRight_1 18 rfl rfl)
theorem dJ15_shiftRight_41 : decode cJ15_shiftRight 41 = .ok (.getfield 32, 3) := dk_180 0 32 (dk_at dksJ15_shiftRight_1 19 rfl rfl)
theorem dJ15_shiftRight_44 : decode cJ15_shiftRight 44 = .ok (.invokespecial 175, 3) := dk_183 0 175 (dk_at dksJ15_shiftRight_2 0 rfl rfl)
theorem dJ15_shiftRight_47 : decode cJ15_shiftRight 47 = .ok (.areturn, 1) := dk_176 (dk_at dksJ15_shiftRight_2 3 rfl rfl)
abbrev cJ15_shiftRightImpl : ByteArray := prog_27_method_105_code
def yJ15_shiftRightImpl : MethodName := ⟨RJ15, "shiftRightImpl", "(I)Ljava/math/BigInteger;"⟩
def dkwJ15_shiftRightImpl_12 : List UInt8 := [25, 5, 42, 180, 0, 32, 183, 0, 175, 176]
abbrev dktJ15_shiftRightImpl_12 : List UInt8 := dkwJ15_shiftRightImpl_12 ++ []
def dkwJ15_shiftRightImpl_11 : List UInt8 := [167, 0, 4, 3, 54, 6, 21, 6, 153, 0, 11, 42, 25, 5, 182, 2, 218, 58, 5, 187, 0, 23, 89]
abbrev dktJ15_shiftRightImpl_11 : List UInt8 := dkwJ15_shiftRightImpl_11 ++ dktJ15_shiftRightImpl_12
def dkwJ15_shiftRightImpl_10 : List UInt8 := [153, 0, 29, 42, 180, 0, 28, 21, 4, 28, 100, 4, 100, 46, 16, 32, 29, 100, 120, 153, 0, 7, 4]
abbrev dktJ15_shiftRightImpl_10 : List UInt8 := dkwJ15_shiftRightImpl_10 ++ dktJ15_shiftRightImpl_11
def dkwJ15_shiftRightImpl_9 : List UInt8 := [153, 0, 7, 4, 167, 0, 4, 3, 54, 6, 132, 7, 255, 167, 255, 224, 21, 6, 154, 0, 33, 29]
abbrev dktJ15_shiftRightImpl_9 : List UInt8 := dkwJ15_shiftRightImpl_9 ++ dktJ15_shiftRightImpl_10
def dkwJ15_shiftRightImpl_8 : List UInt8 := [100, 54, 8, 21, 7, 21, 8, 161, 0, 31, 21, 6, 154, 0, 26, 42, 180, 0, 28, 21, 7, 46]
abbrev dktJ15_shiftRightImpl_8 : List UInt8 := dkwJ15_shiftRightImpl_8 ++ dktJ15_shiftRightImpl_9
def dkwJ15_shiftRightImpl_7 : List UInt8 := [21, 8, 184, 2, 102, 42, 180, 0, 32, 156, 0, 101, 3, 54, 6, 21, 4, 4, 100, 54, 7, 21, 4, 28]
abbrev dktJ15_shiftRightImpl_7 : List UInt8 := dkwJ15_shiftRightImpl_7 ++ dktJ15_shiftRightImpl_8
def dkwJ15_shiftRightImpl_6 : List UInt8 := [21, 6, 21, 8, 21, 6, 96, 25, 5, 190, 184, 2, 99, 87, 25, 5, 42, 180, 0, 28, 21, 6, 29]
abbrev dktJ15_shiftRightImpl_6 : List UInt8 := dkwJ15_shiftRightImpl_6 ++ dktJ15_shiftRightImpl_7
def dkwJ15_shiftRightImpl_5 : List UInt8 := [58, 5, 21, 4, 28, 100, 4, 100, 54, 8, 3, 21, 8, 4, 96, 42, 180, 0, 28, 190, 184, 2, 99, 87]
abbrev dktJ15_shiftRightImpl_5 : List UInt8 := dkwJ15_shiftRightImpl_5 ++ dktJ15_shiftRightImpl_6
def dkwJ15_shiftRightImpl_4 : List UInt8 := [58, 5, 25, 5, 21, 6, 132, 6, 1, 21, 7, 79, 167, 0, 13, 21, 4, 28, 100, 4, 100, 188, 10]
abbrev dktJ15_shiftRightImpl_4 : List UInt8 := dkwJ15_shiftRightImpl_4 ++ dktJ15_shiftRightImpl_5
def dkwJ15_shiftRightImpl_3 : List UInt8 := [54, 6, 42, 180, 0, 28, 3, 46, 29, 124, 54, 7, 21, 7, 153, 0, 24, 21, 4, 28, 100, 188, 10]
abbrev dktJ15_shiftRightImpl_3 : List UInt8 := dkwJ15_shiftRightImpl_3 ++ dktJ15_shiftRightImpl_4
def dkwJ15_shiftRightImpl_2 : List UInt8 := [154, 0, 23, 21, 4, 28, 100, 54, 6, 42, 180, 0, 28, 21, 6, 184, 2, 178, 58, 5, 167, 0, 102, 3]
abbrev dktJ15_shiftRightImpl_2 : List UInt8 := dkwJ15_shiftRightImpl_2 ++ dktJ15_shiftRightImpl_3
def dkwJ15_shiftRightImpl_1 : List UInt8 := [161, 0, 22, 42, 180, 0, 32, 155, 0, 9, 178, 0, 22, 167, 0, 8, 178, 1, 97, 4, 50, 176, 29]
abbrev dktJ15_shiftRightImpl_1 : List UInt8 := dkwJ15_shiftRightImpl_1 ++ dktJ15_shiftRightImpl_2
def dkwJ15_shiftRightImpl_0 : List UInt8 := [27, 8, 124, 61, 27, 16, 31, 126, 62, 42, 180, 0, 28, 190, 54, 4, 1, 58, 5, 28, 21, 4]
abbrev dktJ15_shiftRightImpl_0 : List UInt8 := dkwJ15_shiftRightImpl_0 ++ dktJ15_shiftRightImpl_1
theorem dksJ15_shiftRightImpl_0 : cJ15_shiftRightImpl.data.toList.drop 0 = dktJ15_shiftRightImpl_0 := by decide +kernel
theorem dksJ15_shiftRightImpl_1 : cJ15_shiftRightImpl.data.toList.drop 22 = dktJ15_shiftRightImpl_1 := dk_seg dksJ15_shiftRightImpl_0 22 rfl rfl
theorem dksJ15_shiftRightImpl_2 : cJ15_shiftRightImpl.data.toList.drop 45 = dktJ15_shiftRightImpl_2 := dk_seg dksJ15_shiftRightImpl_1 23 rfl rfl
theorem dksJ15_shiftRightImpl_3 : cJ15_shiftRightImpl.data.toList.drop 69 = dktJ15_shiftRightImpl_3 := dk_seg dksJ15_shiftRightImpl_2 24 rfl rfl
theorem dksJ15_shiftRightImpl_4 : cJ15_shiftRightImpl.data.toList.drop 92 = dktJ15_shiftRightImpl_4 := dk_seg dksJ15_shiftRightImpl_3 23 rfl rfl
theorem dksJ15_shiftRightImpl_5 : cJ15_shiftRightImpl.data.toList.drop 115 = dktJ15_shiftRightImpl_5 := dk_seg dksJ15_shiftRightImpl_4 23 rfl rfl
theorem dksJ15_shiftRightImpl_6 : cJ15_shiftRightImpl.data.toList.drop 139 = dktJ15_shiftRightImpl_6 := dk_seg dksJ15_shiftRightImpl_5 24 rfl rfl
theorem dksJ15_shiftRightImpl_7 : cJ15_shiftRightImpl.data.toList.drop 162 = dktJ15_shiftRightImpl_7 := dk_seg dksJ15_shiftRightImpl_6 23 rfl rfl
theorem dksJ15_shiftRightImpl_8 : cJ15_shiftRightImpl.data.toList.drop 186 = dktJ15_shiftRightImpl_8 := dk_seg dksJ15_shiftRightImpl_7 24 rfl rfl
theorem dksJ15_shiftRightImpl_9 : cJ15_shiftRightImpl.data.toList.drop 208 = dktJ15_shiftRightImpl_9 := dk_seg dksJ15_shiftRightImpl_8 22 rfl rfl
theorem dksJ15_shiftRightImpl_10 : cJ15_shiftRightImpl.data.toList.drop 230 = dktJ15_shiftRightImpl_10 := dk_seg dksJ15_shiftRightImpl_9 22 rfl rfl
theorem dksJ15_shiftRightImpl_11 : cJ15_shiftRightImpl.data.toList.drop 253 = dktJ15_shiftRightImpl_11 := dk_seg dksJ15_shiftRightImpl_10 23 rfl rfl
theorem dksJ15_shiftRightImpl_12 : cJ15_shiftRightImpl.data.toList.drop 276 = dktJ15_shiftRightImpl_12 := dk_seg dksJ15_shiftRightImpl_11 23 rfl rfl
theorem dJ15_shiftRightImpl_0 : decode cJ15_shiftRightImpl 0 = .ok (.iload_n 1, 1) := dk_27 (dk_at dksJ15_shiftRightImpl_0 0 rfl rfl)
theorem dJ15_shiftRightImpl_1 : decode cJ15_shiftRightImpl 1 = .ok (.iconst 5, 1) := dk_8 (dk_at dksJ15_shiftRightImpl_0 1 rfl rfl)
theorem dJ15_shiftRightImpl_2 : decode cJ15_shiftRightImpl 2 = .ok (.iushr, 1) := dk_124 (dk_at dksJ15_shiftRightImpl_0 2 rfl rfl)
theorem dJ15_shiftRightImpl_3 : decode cJ15_shiftRightImpl 3 = .ok (.istore_n 2, 1) := dk_61 (dk_at dksJ15_shiftRightImpl_0 3 rfl rfl)
theorem dJ15_shiftRightImpl_4 : decode cJ15_shiftRightImpl 4 = .ok (.iload_n 1, 1) := dk_27 (dk_at dksJ15_shiftRightImpl_0 4 rfl rfl)
theorem dJ15_shiftRightImpl_5 : decode cJ15_shiftRightImpl 5 = .ok (.bipush 31, 2) := dk_16 31 (dk_at dksJ15_shiftRightImpl_0 5 rfl rfl)
theorem dJ15_shiftRightImpl_7 : decode cJ15_shiftRightImpl 7 = .ok (.iand, 1) := dk_126 (dk_at dksJ15_shiftRightImpl_0 7 rfl rfl)
theorem dJ15_shiftRightImpl_8 : decode cJ15_shiftRightImpl 8 = .ok (.istore_n 3, 1) := dk_62 (dk_at dksJ15_shiftRightImpl_0 8 rfl rfl)
theorem dJ15_shiftRightImpl_9 : decode cJ15_shiftRightImpl 9 = .ok (.aload_n 0, 1) := dk_42 (dk_at dksJ15_shiftRightImpl_0 9 rfl rfl)
theorem dJ15_shiftRightImpl_10 : decode cJ15_shiftRightImpl 10 = .ok (.getfield 28, 3) := dk_180 0 28 (dk_at dksJ15_shiftRightImpl_0 10 rfl rfl)
theorem dJ15_shiftRightImpl_13 : decode cJ15_shiftRightImpl 13 = .ok (.arraylength, 1) := dk_190 (dk_at dksJ15_shiftRightImpl_0 13 rfl rfl)
theorem dJ15_shiftRightImpl_14 : decode cJ15_shiftRightImpl 14 = .ok (.istore 4, 2) := dk_54 4 (dk_at dksJ15_shiftRightImpl_0 14 rfl rfl)
theorem dJ15_shiftRightImpl_16 : decode cJ15_shiftRightImpl 16 = .ok (.aconst_null, 1) := dk_1 (dk_at dksJ15_shiftRightImpl_0 16 rfl rfl)
theorem dJ15_shiftRightImpl_17 : decode cJ15_shiftRightImpl 17 = .ok (.astore 5, 2) := dk_58 5 (dk_at dksJ15_shiftRightImpl_0 17 rfl rfl)
theorem dJ15_shiftRightImpl_19 : decode cJ15_shiftRightImpl 19 = .ok (.iload_n 2, 1) := dk_28 (dk_at dksJ15_shiftRightImpl_0 19 rfl rfl)
theorem dJ15_shiftRightImpl_20 : decode cJ15_shiftRightImpl 20 = .ok (.iload 4, 2) := dk_21 4 (dk_at dksJ15_shiftRightImpl_0 20 rfl rfl)
theorem dJ15_shiftRightImpl_22 : decode cJ15_shiftRightImpl 22 = .ok (.if_icmp .lt 22, 3) := dk_161 0 22 (dk_at dksJ15_shiftRightImpl_1 0 rfl rfl)
theorem dJ15_shiftRightImpl_25 : decode cJ15_shiftRightImpl 25 = .ok (.aload_n 0, 1) := dk_42 (dk_at dksJ15_shiftRightImpl_1 3 rfl rfl)
theorem dJ15_shiftRightImpl_26 : decode cJ15_shiftRightImpl 26 = .ok (.getfield 32, 3) := dk_180 0 32 (dk_at dksJ15_shiftRightImpl_1 4 rfl rfl)
theorem dJ15_shiftRightImpl_29 : decode cJ15_shiftRightImpl 29 = .ok (.ifCond .lt 9, 3) := dk_155 0 9 (dk_at dksJ15_shiftRightImpl_1 7 rfl rfl)
theorem dJ15_shiftRightImpl_32 : decode cJ15_shiftRightImpl 32 = .ok (.getstatic 22, 3) := dk_178 0 22 (dk_at dksJ15_shiftRightImpl_1 10 rfl rfl)
theorem dJ15_shiftRightImpl_35 : decode cJ15_shiftRightImpl 35 = .ok (.goto 8, 3) := dk_167 0 8 (dk_at dksJ15_shiftRightImpl_1 13 rfl rfl)
theorem dJ15_shiftRightImpl_38 : decode cJ15_shiftRightImpl 38 = .ok (.getstatic 353, 3) := dk_178 1 97 (dk_at dksJ15_shiftRightImpl_1 16 rfl rfl)
theorem dJ15_shiftRightImpl_41 : decode cJ15_shiftRightImpl 41 = .ok (.iconst 1, 1) := dk_4 (dk_at dksJ15_shiftRightImpl_1 19 rfl rfl)
theorem dJ15_shiftRightImpl_42 : decode cJ15_shiftRightImpl 42 = .ok (.aaload, 1) := dk_50 (dk_at dksJ15_shiftRightImpl_1 20 rfl rfl)
theorem dJ15_shiftRightImpl_43 : decode cJ15_shiftRightImpl 43 = .ok (.areturn, 1) := dk_176 (dk_at dksJ15_shiftRightImpl_1 21 rfl rfl)
theorem dJ15_shiftRightImpl_44 : decode cJ15_shiftRightImpl 44 = .ok (.iload_n 3, 1) := dk_29 (dk_at dksJ15_shiftRightImpl_1 22 rfl rfl)
theorem dJ15_shiftRightImpl_45 : decode cJ15_shiftRightImpl 45 = .ok (.ifCond .ne 23, 3) := dk_154 0 23 (dk_at dksJ15_shiftRightImpl_2 0 rfl rfl)
theorem dJ15_shiftRightImpl_48 : decode cJ15_shiftRightImpl 48 = .ok (.iload 4, 2) := dk_21 4 (dk_at dksJ15_shiftRightImpl_2 3 rfl rfl)
theorem dJ15_shiftRightImpl_50 : decode cJ15_shiftRightImpl 50 = .ok (.iload_n 2, 1) := dk_28 (dk_at dksJ15_shiftRightImpl_2 5 rfl rfl)
theorem dJ15_shiftRightImpl_51 : decode cJ15_shiftRightImpl 51 = .ok (.isub, 1) := dk_100 (dk_at dksJ15_shiftRightImpl_2 6 rfl rfl)
theorem dJ15_shiftRightImpl_52 : decode cJ15_shiftRightImpl 52 = .ok (.istore 6, 2) := dk_54 6 (dk_at dksJ15_shiftRightImpl_2 7 rfl rfl)
theorem dJ15_shiftRightImpl_54 : decode cJ15_shiftRightImpl 54 = .ok (.aload_n 0, 1) := dk_42 (dk_at dksJ15_shiftRightImpl_2 9 rfl rfl)
theorem dJ15_shiftRightImpl_55 : decode cJ15_shiftRightImpl 55 = .ok (.getfield 28, 3) := dk_180 0 28 (dk_at dksJ15_shiftRightImpl_2 10 rfl rfl)
theorem dJ15_shiftRightImpl_58 : decode cJ15_shiftRightImpl 58 = .ok (.iload 6, 2) := dk_21 6 (dk_at dksJ15_shiftRightImpl_2 13 rfl rfl)
theorem dJ15_shiftRightImpl_60 : decode cJ15_shiftRightImpl 60 = .ok (.invokestatic 690, 3) := dk_184 2 178 (dk_at dksJ15_shiftRightImpl_2 15 rfl rfl)
theorem dJ15_shiftRightImpl_63 : decode cJ15_shiftRightImpl 63 = .ok (.astore 5, 2) := dk_58 5 (dk_at dksJ15_shiftRightImpl_2 18 rfl rfl)
theorem dJ15_shiftRightImpl_65 : decode cJ15_shiftRightImpl 65 = .ok (.goto 102, 3) := dk_167 0 102 (dk_at dksJ15_shiftRightImpl_2 20 rfl rfl)
theorem dJ15_shiftRightImpl_68 : decode cJ15_shiftRightImpl 68 = .ok (.iconst 0, 1) := dk_3 (dk_at dksJ15_shiftRightImpl_2 23 rfl rfl)
theorem dJ15_shiftRightImpl_69 : decode cJ15_shiftRightImpl 69 = .ok (.istore 6, 2) := dk_54 6 (dk_at dksJ15_shiftRightImpl_3 0 rfl rfl)
theorem dJ15_shiftRightImpl_71 : decode cJ15_shiftRightImpl 71 = .ok (.aload_n 0, 1) := dk_42 (dk_at dksJ15_shiftRightImpl_3 2 rfl rfl)
theorem dJ15_shiftRightImpl_72 : decode cJ15_shiftRightImpl 72 = .ok (.getfield 28, 3) := dk_180 0 28 (dk_at dksJ15_shiftRightImpl_3 3 rfl rfl)
theorem dJ15_shiftRightImpl_75 : decode cJ15_shiftRightImpl 75 = .ok (.iconst 0, 1) := dk_3 (dk_at dksJ15_shiftRightImpl_3 6 rfl rfl)
theorem dJ15_shiftRightImpl_76 : decode cJ15_shiftRightImpl 76 = .ok (.iaload, 1) := dk_46 (dk_at dksJ15_shiftRightImpl_3 7 rfl rfl)
theorem dJ15_shiftRightImpl_77 : decode cJ15_shiftRightImpl 77 = .ok (.iload_n 3, 1) := dk_29 (dk_at dksJ15_shiftRightImpl_3 8 rfl rfl)
theorem dJ15_shiftRightImpl_78 : decode cJ15_shiftRightImpl 78 = .ok (.iushr, 1) := dk_124 (dk_at dksJ15_shiftRightImpl_3 9 rfl rfl)
theorem dJ15_shiftRightImpl_79 : decode cJ15_shiftRightImpl 79 = .ok (.istore 7, 2) := dk_54 7 (dk_at dksJ15_shiftRightImpl_3 10 rfl rfl)
theorem dJ15_shiftRightImpl_81 : decode cJ15_shiftRightImpl 81 = .ok (.iload 7, 2) := dk_21 7 (dk_at dksJ15_shiftRightImpl_3 12 rfl rfl)
theorem dJ15_shiftRightImpl_83 : decode cJ15_shiftRightImpl 83 = .ok (.ifCond .eq 24, 3) := dk_153 0 24 (dk_at dksJ15_shiftRightImpl_3 14 rfl rfl)
theorem dJ15_shiftRightImpl_86 : decode cJ15_shiftRightImpl 86 = .ok (.iload 4, 2) := dk_21 4 (dk_at dksJ15_shiftRightImpl_3 17 rfl rfl)
theorem dJ15_shiftRightImpl_88 : decode cJ15_shiftRightImpl 88 = .ok (.iload_n 2, 1) := dk_28 (dk_at dksJ15_shiftRightImpl_3 19 rfl rfl)
theorem dJ15_shiftRightImpl_89 : decode cJ15_shiftRightImpl 89 = .ok (.isub, 1) := dk_100 (dk_at dksJ15_shiftRightImpl_3 20 rfl rfl)
theorem dJ15_shiftRightImpl_90 : decode cJ15_shiftRightImpl 90 = .ok (.newarray .int, 2) := dk_188_10 (dk_at dksJ15_shiftRightImpl_3 21 rfl rfl)
theorem dJ15_shiftRightImpl_92 : decode cJ15_shiftRightImpl 92 = .ok (.astore 5, 2) := dk_58 5 (dk_at dksJ15_shiftRightImpl_4 0 rfl rfl)
theorem dJ15_shiftRightImpl_94 : decode cJ15_shiftRightImpl 94 = .ok (.aload 5, 2) := dk_25 5 (dk_at dksJ15_shiftRightImpl_4 2 rfl rfl)
theorem dJ15_shiftRightImpl_96 : decode cJ15_shiftRightImpl 96 = .ok (.iload 6, 2) := dk_21 6 (dk_at dksJ15_shiftRightImpl_4 4 rfl rfl)
theorem dJ15_shiftRightImpl_98 : decode cJ15_shiftRightImpl 98 = .ok (.iinc 6 1, 3) := dk_132 6 1 (dk_at dksJ15_shiftRightImpl_4 6 rfl rfl)
theorem dJ15_shiftRightImpl_101 : decode cJ15_shiftRightImpl 101 = .ok (.iload 7, 2) := dk_21 7 (dk_at dksJ15_shiftRightImpl_4 9 rfl rfl)
theorem dJ15_shiftRightImpl_103 : decode cJ15_shiftRightImpl 103 = .ok (.iastore, 1) := dk_79 (dk_at dksJ15_shiftRightImpl_4 11 rfl rfl)
theorem dJ15_shiftRightImpl_104 : decode cJ15_shiftRightImpl 104 = .ok (.goto 13, 3) := dk_167 0 13 (dk_at dksJ15_shiftRightImpl_4 12 rfl rfl)
theorem dJ15_shiftRightImpl_107 : decode cJ15_shiftRightImpl 107 = .ok (.iload 4, 2) := dk_21 4 (dk_at dksJ15_shiftRightImpl_4 15 rfl rfl)
theorem dJ15_shiftRightImpl_109 : decode cJ15_shiftRightImpl 109 = .ok (.iload_n 2, 1) := dk_28 (dk_at dksJ15_shiftRightImpl_4 17 rfl rfl)
theorem dJ15_shiftRightImpl_110 : decode cJ15_shiftRightImpl 110 = .ok (.isub, 1) := dk_100 (dk_at dksJ15_shiftRightImpl_4 18 rfl rfl)
theorem dJ15_shiftRightImpl_111 : decode cJ15_shiftRightImpl 111 = .ok (.iconst 1, 1) := dk_4 (dk_at dksJ15_shiftRightImpl_4 19 rfl rfl)
theorem dJ15_shiftRightImpl_112 : decode cJ15_shiftRightImpl 112 = .ok (.isub, 1) := dk_100 (dk_at dksJ15_shiftRightImpl_4 20 rfl rfl)
theorem dJ15_shiftRightImpl_113 : decode cJ15_shiftRightImpl 113 = .ok (.newarray .int, 2) := dk_188_10 (dk_at dksJ15_shiftRightImpl_4 21 rfl rfl)
theorem dJ15_shiftRightImpl_115 : decode cJ15_shiftRightImpl 115 = .ok (.astore 5, 2) := dk_58 5 (dk_at dksJ15_shiftRightImpl_5 0 rfl rfl)
theorem dJ15_shiftRightImpl_117 : decode cJ15_shiftRightImpl 117 = .ok (.iload 4, 2) := dk_21 4 (dk_at dksJ15_shiftRightImpl_5 2 rfl rfl)
theorem dJ15_shiftRightImpl_119 : decode cJ15_shiftRightImpl 119 = .ok (.iload_n 2, 1) := dk_28 (dk_at dksJ15_shiftRightImpl_5 4 rfl rfl)
theorem dJ15_shiftRightImpl_120 : decode cJ15_shiftRightImpl 120 = .ok (.isub, 1) := dk_100 (dk_at dksJ15_shiftRightImpl_5 5 rfl rfl)
theorem dJ15_shiftRightImpl_121 : decode cJ15_shiftRightImpl 121 = .ok (.iconst 1, 1) := dk_4 (dk_at dksJ15_shiftRightImpl_5 6 rfl rfl)
theorem dJ15_shiftRightImpl_122 : decode cJ15_shiftRightImpl 122 = .ok (.isub, 1) := dk_100 (dk_at dksJ15_shiftRightImpl_5 7 rfl rfl)
theorem dJ15_shiftRightImpl_123 : decode cJ15_shiftRightImpl 123 = .ok (.istore 8, 2) := dk_54 8 (dk_at dksJ15_shiftRightImpl_5 8 rfl rfl)
theorem dJ15_shiftRightImpl_125 : decode cJ15_shiftRightImpl 125 = .ok (.iconst 0, 1) := dk_3 (dk_at dksJ15_shiftRightImpl_5 10 rfl rfl)
theorem dJ15_shiftRightImpl_126 : decode cJ15_shiftRightImpl 126 = .ok (.iload 8, 2) := dk_21 8 (dk_at dksJ15_shiftRightImpl_5 11 rfl rfl)
theorem dJ15_shiftRightImpl_128 : decode cJ15_shiftRightImpl 128 = .ok (.iconst 1, 1) := dk_4 (dk_at dksJ15_shiftRightImpl_5 13 rfl rfl)
theorem dJ15_shiftRightImpl_129 : decode cJ15_shiftRightImpl 129 = .ok (.iadd, 1) := dk_96 (dk_at dksJ15_shiftRightImpl_5 14 rfl rfl)
theorem dJ15_shiftRightImpl_130 : decode cJ15_shiftRightImpl 130 = .ok (.aload_n 0, 1) := dk_42 (dk_at dksJ15_shiftRightImpl_5 15 rfl rfl)
theorem dJ15_shiftRightImpl_131 : decode cJ15_shiftRightImpl 131 = .ok (.getfield 28, 3) := dk_180 0 28 (dk_at dksJ15_shiftRightImpl_5 16 rfl rfl)
theorem dJ15_shiftRightImpl_134 : decode cJ15_shiftRightImpl 134 = .ok (.arraylength, 1) := dk_190 (dk_at dksJ15_shiftRightImpl_5 19 rfl rfl)
theorem dJ15_shiftRightImpl_135 : decode cJ15_shiftRightImpl 135 = .ok (.invokestatic 611, 3) := dk_184 2 99 (dk_at dksJ15_shiftRightImpl_5 20 rfl rfl)
theorem dJ15_shiftRightImpl_138 : decode cJ15_shiftRightImpl 138 = .ok (.pop, 1) := dk_87 (dk_at dksJ15_shiftRightImpl_5 23 rfl rfl)
theorem dJ15_shiftRightImpl_139 : decode cJ15_shiftRightImpl 139 = .ok (.iload 6, 2) := dk_21 6 (dk_at dksJ15_shiftRightImpl_6 0 rfl rfl)
theorem dJ15_shiftRightImpl_141 : decode cJ15_shiftRightImpl 141 = .ok (.iload 8, 2) := dk_21 8 (dk_at dksJ15_shiftRightImpl_6 2 rfl rfl)
theorem dJ15_shiftRightImpl_143 : decode cJ15_shiftRightImpl 143 = .ok (.iload 6, 2) := dk_21 6 (dk_at dksJ15_shiftRightImpl_6 4 rfl rfl)
theorem dJ15_shiftRightImpl_145 : decode cJ15_shiftRightImpl 145 = .ok (.iadd, 1) := dk_96 (dk_at dksJ15_shiftRightImpl_6 6 rfl rfl)
theorem dJ15_shiftRightImpl_146 : decode cJ15_shiftRightImpl 146 = .ok (.aload 5, 2) := dk_25 5 (dk_at dksJ15_shiftRightImpl_6 7 rfl rfl)
theorem dJ15_shiftRightImpl_148 : decode cJ15_shiftRightImpl 148 = .ok (.arraylength, 1) := dk_190 (dk_at dksJ15_shiftRightImpl_6 9 rfl rfl)
theorem dJ15_shiftRightImpl_149 : decode cJ15_shiftRightImpl 149 = .ok (.invokestatic 611, 3) := dk_184 2 99 (dk_at dksJ15_shiftRightImpl_6 10 rfl rfl)
theorem dJ15_shiftRightImpl_152 : decode cJ15_shiftRightImpl 152 = .ok (.pop, 1) := dk_87 (dk_at dksJ15_shiftRightImpl_6 13 rfl rfl)
theorem dJ15_shiftRightImpl_153 : decode cJ15_shiftRightImpl 153 = .ok (.aload 5, 2) := dk_25 5 (dk_at dksJ15_shiftRightImpl_6 14 rfl rfl)
theorem dJ15_shiftRightImpl_155 : decode cJ15_shiftRightImpl 155 = .ok (.aload_n 0, 1) := dk_42 (dk_at dksJ15_shiftRightImpl_6 16 rfl rfl)
theorem dJ15_shiftRightImpl_156 : decode cJ15_shiftRightImpl 156 = .ok (.getfield 28, 3) := dk_180 0 28 (dk_at dksJ15_shiftRightImpl_6 17 rfl rfl)
theorem dJ15_shiftRightImpl_159 : decode cJ15_shiftRightImpl 159 = .ok (.iload 6, 2) := dk_21 6 (dk_at dksJ15_shiftRightImpl_6 20 rfl rfl)
theorem dJ15_shiftRightImpl_161 : decode cJ15_shiftRightImpl 161 = .ok (.iload_n 3, 1) := dk_29 (dk_at dksJ15_shiftRightImpl_6 22 rfl rfl)
theorem dJ15_shiftRightImpl_162 : decode cJ15_shiftRightImpl 162 = .ok (.iload 8, 2) := dk_21 8 (dk_at dksJ15_shiftRightImpl_7 0 rfl rfl)
theorem dJ15_shiftRightImpl_164 : decode cJ15_shiftRightImpl 164 = .ok (.invokestatic 614, 3) := dk_184 2 102 (dk_at dksJ15_shiftRightImpl_7 2 rfl rfl)
theorem dJ15_shiftRightImpl_167 : decode cJ15_shiftRightImpl 167 = .ok (.aload_n 0, 1) := dk_42 (dk_at dksJ15_shiftRightImpl_7 5 rfl rfl)
theorem dJ15_shiftRightImpl_168 : decode cJ15_shiftRightImpl 168 = .ok (.getfield 32, 3) := dk_180 0 32 (dk_at dksJ15_shiftRightImpl_7 6 rfl rfl)
theorem dJ15_shiftRightImpl_171 : decode cJ15_shiftRightImpl 171 = .ok (.ifCond .ge 101, 3) := dk_156 0 101 (dk_at dksJ15_shiftRightImpl_7 9 rfl rfl)
theorem dJ15_shiftRightImpl_174 : decode cJ15_shiftRightImpl 174 = .ok (.iconst 0, 1) := dk_3 (dk_at dksJ15_shiftRightImpl_7 12 rfl rfl)
theorem dJ15_shiftRightImpl_175 : decode cJ15_shiftRightImpl 175 = .ok (.istore 6, 2) := dk_54 6 (dk_at dksJ15_shiftRightImpl_7 13 rfl rfl)
theorem dJ15_shiftRightImpl_177 : decode cJ15_shiftRightImpl 177 = .ok (.iload 4, 2) := dk_21 4 (dk_at dksJ15_shiftRightImpl_7 15 rfl rfl)
theorem dJ15_shiftRightImpl_179 : decode cJ15_shiftRightImpl 179 = .ok (.iconst 1, 1) := dk_4 (dk_at dksJ15_shiftRightImpl_7 17 rfl rfl)
theorem dJ15_shiftRightImpl_180 : decode cJ15_shiftRightImpl 180 = .ok (.isub, 1) := dk_100 (dk_at dksJ15_shiftRightImpl_7 18 rfl rfl)
theorem dJ15_shiftRightImpl_181 : decode cJ15_shiftRightImpl 181 = .ok (.istore 7, 2) := dk_54 7 (dk_at dksJ15_shiftRightImpl_7 19 rfl rfl)
theorem dJ15_shiftRightImpl_183 : decode cJ15_shiftRightImpl 183 = .ok (.iload 4, 2) := dk_21 4 (dk_at dksJ15_shiftRightImpl_7 21 rfl rfl)
theorem dJ15_shiftRightImpl_185 : decode cJ15_shiftRightImpl 185 = .ok (.iload_n 2, 1) := dk_28 (dk_at dksJ15_shiftRightImpl_7 23 rfl rfl)
theorem dJ15_shiftRightImpl_186 : decode cJ15_shiftRightImpl 186 = .ok (.isub, 1) := dk_100 (dk_at dksJ15_shiftRightImpl_8 0 rfl rfl)
theorem dJ15_shiftRightImpl_187 : decode cJ15_shiftRightImpl 187 = .ok (.istore 8, 2) := dk_54 8 (dk_at dksJ15_shiftRightImpl_8 1 rfl rfl)
theorem dJ15_shiftRightImpl_189 : decode cJ15_shiftRightImpl 189 = .ok (.iload 7, 2) := dk_21 7 (dk_at dksJ15_shiftRightImpl_8 3 rfl rfl)
theorem dJ15_shiftRightImpl_191 : decode cJ15_shiftRightImpl 191 = .ok (.iload 8, 2) := dk_21 8 (dk_at dksJ15_shiftRightImpl_8 5 rfl rfl)
theorem dJ15_shiftRightImpl_193 : decode cJ15_shiftRightImpl 193 = .ok (.if_icmp .lt 31, 3) := dk_161 0 31 (dk_at dksJ15_shiftRightImpl_8 7 rfl rfl)
theorem dJ15_shiftRightImpl_196 : decode cJ15_shiftRightImpl 196 = .ok (.iload 6, 2) := dk_21 6 (dk_at dksJ15_shiftRightImpl_8 10 rfl rfl)
theorem dJ15_shiftRightImpl_198 : decode cJ15_shiftRightImpl 198 = .ok (.ifCond .ne 26, 3) := dk_154 0 26 (dk_at dksJ15_shiftRightImpl_8 12 rfl rfl)
theorem dJ15_shiftRightImpl_201 : decode cJ15_shiftRightImpl 201 = .ok (.aload_n 0, 1) := dk_42 (dk_at dksJ15_shiftRightImpl_8 15 rfl rfl)
theorem dJ15_shiftRightImpl_202 : decode cJ15_shiftRightImpl 202 = .ok (.getfield 28, 3) := dk_180 0 28 (dk_at dksJ15_shiftRightImpl_8 16 rfl rfl)
theorem dJ15_shiftRightImpl_205 : decode cJ15_shiftRightImpl 205 = .ok (.iload 7, 2) := dk_21 7 (dk_at dksJ15_shiftRightImpl_8 19 rfl rfl)
theorem dJ15_shiftRightImpl_207 : decode cJ15_shiftRightImpl 207 = .ok (.iaload, 1) := dk_46 (dk_at dksJ15_shiftRightImpl_8 21 rfl rfl)
theorem dJ15_shiftRightImpl_208 : decode cJ15_shiftRightImpl 208 = .ok (.ifCond .eq 7, 3) := dk_153 0 7 (dk_at dksJ15_shiftRightImpl_9 0 rfl rfl)
theorem dJ15_shiftRightImpl_211 : decode cJ15_shiftRightImpl 211 = .ok (.iconst 1, 1) := dk_4 (dk_at dksJ15_shiftRightImpl_9 3 rfl rfl)
theorem dJ15_shiftRightImpl_212 : decode cJ15_shiftRightImpl 212 = .ok (.goto 4, 3) := dk_167 0 4 (dk_at dksJ15_shiftRightImpl_9 4 rfl rfl)
theorem dJ15_shiftRightImpl_215 : decode cJ15_shiftRightImpl 215 = .ok (.iconst 0, 1) := dk_3 (dk_at dksJ15_shiftRightImpl_9 7 rfl rfl)
theorem dJ15_shiftRightImpl_216 : decode cJ15_shiftRightImpl 216 = .ok (.istore 6, 2) := dk_54 6 (dk_at dksJ15_shiftRightImpl_9 8 rfl rfl)
theorem dJ15_shiftRightImpl_218 : decode cJ15_shiftRightImpl 218 = .ok (.iinc 7 (-1), 3) := dk_132 7 255 (dk_at dksJ15_shiftRightImpl_9 10 rfl rfl)
theorem dJ15_shiftRightImpl_221 : decode cJ15_shiftRightImpl 221 = .ok (.goto (-32), 3) := dk_167 255 224 (dk_at dksJ15_shiftRightImpl_9 13 rfl rfl)
theorem dJ15_shiftRightImpl_224 : decode cJ15_shiftRightImpl 224 = .ok (.iload 6, 2) := dk_21 6 (dk_at dksJ15_shiftRightImpl_9 16 rfl rfl)
theorem dJ15_shiftRightImpl_226 : decode cJ15_shiftRightImpl 226 = .ok (.ifCond .ne 33, 3) := dk_154 0 33 (dk_at dksJ15_shiftRightImpl_9 18 rfl rfl)
theorem dJ15_shiftRightImpl_229 : decode cJ15_shiftRightImpl 229 = .ok (.iload_n 3, 1) := dk_29 (dk_at dksJ15_shiftRightImpl_9 21 rfl rfl)
theorem dJ15_shiftRightImpl_230 : decode cJ15_shiftRightImpl 230 = .ok (.ifCond .eq 29, 3) := dk_153 0 29 (dk_at dksJ15_shiftRightImpl_10 0 rfl rfl)
theorem dJ15_shiftRightImpl_233 : decode cJ15_shiftRightImpl 233 = .ok (.aload_n 0, 1) := dk_42 (dk_at dksJ15_shiftRightImpl_10 3 rfl rfl)
theorem dJ15_shiftRightImpl_234 : decode cJ15_shiftRightImpl 234 = .ok (.getfield 28, 3) := dk_180 0 28 (dk_at dksJ15_shiftRightImpl_10 4 rfl rfl)
theorem dJ15_shiftRightImpl_237 : decode cJ15_shiftRightImpl 237 = .ok (.iload 4, 2) := dk_21 4 (dk_at dksJ15_shiftRightImpl_10 7 rfl rfl)
theorem dJ15_shiftRightImpl_239 : decode cJ15_shiftRightImpl 239 = .ok (.iload_n 2, 1) := dk_28 (dk_at dksJ15_shiftRightImpl_10 9 rfl rfl)
theorem dJ15_shiftRightImpl_240 : decode cJ15_shiftRightImpl 240 = .ok (.isub, 1) := dk_100 (dk_at dksJ15_shiftRightImpl_10 10 rfl rfl)
theorem dJ15_shiftRightImpl_241 : decode cJ15_shiftRightImpl 241 = .ok (.iconst 1, 1) := dk_4 (dk_at dksJ15_shiftRightImpl_10 11 rfl rfl)
theorem dJ15_shiftRightImpl_242 : decode cJ15_shiftRightImpl 242 = .ok (.isub, 1) := dk_100 (dk_at dksJ15_shiftRightImpl_10 12 rfl rfl)
theorem dJ15_shiftRightImpl_243 : decode cJ15_shiftRightImpl 243 = .ok (.iaload, 1) := dk_46 (dk_at dksJ15_shiftRightImpl_10 13 rfl rfl)
theorem dJ15_shiftRightImpl_244 : decode cJ15_shiftRightImpl 244 = .ok (.bipush 32, 2) := dk_16 32 (dk_at dksJ15_shiftRightImpl_10 14 rfl rfl)
theorem dJ15_shiftRightImpl_246 : decode cJ15_shiftRightImpl 246 = .ok (.iload_n 3, 1) := dk_29 (dk_at dksJ15_shiftRightImpl_10 16 rfl rfl)
theorem dJ15_shiftRightImpl_247 : decode cJ15_shiftRightImpl 247 = .ok (.isub, 1) := dk_100 (dk_at dksJ15_shiftRightImpl_10 17 rfl rfl)
theorem dJ15_shiftRightImpl_248 : decode cJ15_shiftRightImpl 248 = .ok (.ishl, 1) := dk_120 (dk_at dksJ15_shiftRightImpl_10 18 rfl rfl)
theorem dJ15_shiftRightImpl_249 : decode cJ15_shiftRightImpl 249 = .ok (.ifCond .eq 7, 3) := dk_153 0 7 (dk_at dksJ15_shiftRightImpl_10 19 rfl rfl)
theorem dJ15_shiftRightImpl_252 : decode cJ15_shiftRightImpl 252 = .ok (.iconst 1, 1) := dk_4 (dk_at dksJ15_shiftRightImpl_10 22 rfl rfl)
theorem dJ15_shiftRightImpl_253 : decode cJ15_shiftRightImpl 253 = .ok (.goto 4, 3) := dk_167 0 4 (dk_at dksJ15_shiftRightImpl_11 0 rfl rfl)
theorem dJ15_shiftRightImpl_256 : decode cJ15_shiftRightImpl 256 = .ok (.iconst 0, 1) := dk_3 (dk_at dksJ15_shiftRightImpl_11 3 rfl rfl)
theorem dJ15_shiftRightImpl_257 : decode cJ15_shiftRightImpl 257 = .ok (.istore 6, 2) := dk_54 6 (dk_at dksJ15_shiftRightImpl_11 4 rfl rfl)
theorem dJ15_shiftRightImpl_259 : decode cJ15_shiftRightImpl 259 = .ok (.iload 6, 2) := dk_21 6 (dk_at dksJ15_shiftRightImpl_11 6 rfl rfl)
theorem dJ15_shiftRightImpl_261 : decode cJ15_shiftRightImpl 261 = .ok (.ifCond .eq 11, 3) := dk_153 0 11 (dk_at dksJ15_shiftRightImpl_11 8 rfl rfl)
theorem dJ15_shiftRightImpl_264 : decode cJ15_shiftRightImpl 264 = .ok (.aload_n 0, 1) := dk_42 (dk_at dksJ15_shiftRightImpl_11 11 rfl rfl)
theorem dJ15_shiftRightImpl_265 : decode cJ15_shiftRightImpl 265 = .ok (.aload 5, 2) := dk_25 5 (dk_at dksJ15_shiftRightImpl_11 12 rfl rfl)
theorem dJ15_shiftRightImpl_267 : decode cJ15_shiftRightImpl 267 = .ok (.invokevirtual 730, 3) := dk_182 2 218 (dk_at dksJ15_shiftRightImpl_11 14 rfl rfl)
theorem dJ15_shiftRightImpl_270 : decode cJ15_shiftRightImpl 270 = .ok (.astore 5, 2) := dk_58 5 (dk_at dksJ15_shiftRightImpl_11 17 rfl rfl)
theorem dJ15_shiftRightImpl_272 : decode cJ15_shiftRightImpl 272 = .ok (.new 23, 3) := dk_187 0 23 (dk_at dksJ15_shiftRightImpl_11 19 rfl rfl)
theorem dJ15_shiftRightImpl_275 : decode cJ15_shiftRightImpl 275 = .ok (.dup, 1) := dk_89 (dk_at dksJ15_shiftRightImpl_11 22 rfl rfl)
theorem dJ15_shiftRightImpl_276 : decode cJ15_shiftRightImpl 276 = .ok (.aload 5, 2) := dk_25 5 (dk_at dksJ15_shiftRightImpl_12 0 rfl rfl)
theorem dJ15_shiftRightImpl_278 : decode cJ15_shiftRightImpl 278 = .ok (.aload_n 0, 1) := dk_42 (dk_at dksJ15_shiftRightImpl_12 2 rfl rfl)
theorem dJ15_shiftRightImpl_279 : decode cJ15_shiftRightImpl 279 = .ok (.getfield 32, 3) := dk_180 0 32 (dk_at dksJ15_shiftRightImpl_12 3 rfl rfl)
theorem dJ15_shiftRightImpl_282 : decode cJ15_shiftRightImpl 282 = .ok (.invokespecial 175, 3) := dk_183 0 175 (dk_at dksJ15_shiftRightImpl_12 6 rfl rfl)
theorem dJ15_shiftRightImpl_285 : decode cJ15_shiftRightImpl 285 = .ok (.areturn, 1) := dk_176 (dk_at dksJ15_shiftRightImpl_12 9 rfl rfl)
abbrev cJ15_shiftRightImplWorker : ByteArray := prog_27_method_106_code
def yJ15_shiftRightImplWorker : MethodName := ⟨RJ15, "shiftRightImplWorker", "([I[IIII)V"⟩
def dkwJ15_shiftRightImplWorker_2 : List UInt8 := [21, 6, 46, 21, 5, 120, 128, 79, 167, 255, 226, 177]
abbrev dktJ15_shiftRightImplWorker_2 : List UInt8 := dkwJ15_shiftRightImplWorker_2 ++ []
def dkwJ15_shiftRightImplWorker_1 : List UInt8 := [54, 7, 21, 7, 28, 161, 0, 30, 42, 21, 7, 132, 7, 255, 43, 21, 6, 132, 6, 255, 46, 29, 124, 43]
abbrev dktJ15_shiftRightImplWorker_1 : List UInt8 := dkwJ15_shiftRightImplWorker_1 ++ dktJ15_shiftRightImplWorker_2
def dkwJ15_shiftRightImplWorker_0 : List UInt8 := [16, 32, 29, 100, 54, 5, 21, 4, 54, 6, 28, 154, 0, 10, 21, 4, 4, 100, 167, 0, 5, 21, 4]
abbrev dktJ15_shiftRightImplWorker_0 : List UInt8 := dkwJ15_shiftRightImplWorker_0 ++ dktJ15_shiftRightImplWorker_1
theorem dksJ15_shiftRightImplWorker_0 : cJ15_shiftRightImplWorker.data.toList.drop 0 = dktJ15_shiftRightImplWorker_0 := by decide +kernel
theorem dksJ15_shiftRightImplWorker_1 : cJ15_shiftRightImplWorker.data.toList.drop 23 = dktJ15_shiftRightImplWorker_1 := dk_seg dksJ15_shiftRightImplWorker_0 23 rfl rfl
theorem dksJ15_shiftRightImplWorker_2 : cJ15_shiftRightImplWorker.data.toList.drop 47 = dktJ15_shiftRightImplWorker_2 := dk_seg dksJ15_shiftRightImplWorker_1 24 rfl rfl
theorem dJ15_shiftRightImplWorker_0 : decode cJ15_shiftRightImplWorker 0 = .ok (.bipush 32, 2) := dk_16 32 (dk_at dksJ15_shiftRightImplWorker_0 0 rfl rfl)
theorem dJ15_shiftRightImplWorker_2 : decode cJ15_shiftRightImplWorker 2 = .ok (.iload_n 3, 1) := dk_29 (dk_at dksJ15_shiftRightImplWorker_0 2 rfl rfl)
theorem dJ15_shiftRightImplWorker_3 : decode cJ15_shiftRightImplWorker 3 = .ok (.isub, 1) := dk_100 (dk_at dksJ15_shiftRightImplWorker_0 3 rfl rfl)
theorem dJ15_shiftRightImplWorker_4 : decode cJ15_shiftRightImplWorker 4 = .ok (.istore 5, 2) := dk_54 5 (dk_at dksJ15_shiftRightImplWorker_0 4 rfl rfl)
theorem dJ15_shiftRightImplWorker_6 : decode cJ15_shiftRightImplWorker 6 = .ok (.iload 4, 2) := dk_21 4 (dk_at dksJ15_shiftRightImplWorker_0 6 rfl rfl)
theorem dJ15_shiftRightImplWorker_8 : decode cJ15_shiftRightImplWorker 8 = .ok (.istore 6, 2) := dk_54 6 (dk_at dksJ15_shiftRightImplWorker_0 8 rfl rfl)
theorem dJ15_shiftRightImplWorker_10 : decode cJ15_shiftRightImplWorker 10 = .ok (.iload_n 2, 1) := dk_28 (dk_at dksJ15_shiftRightImplWorker_0 10 rfl rfl)
theorem dJ15_shiftRightImplWorker_11 : decode cJ15_shiftRightImplWorker 11 = .ok (.ifCond .ne 10, 3) := dk_154 0 10 (dk_at dksJ15_shiftRightImplWorker_0 11 rfl rfl)
theorem dJ15_shiftRightImplWorker_14 : decode cJ15_shiftRightImplWorker 14 = .ok (.iload 4, 2) := dk_21 4 (dk_at dksJ15_shiftRightImplWorker_0 14 rfl rfl)
theorem dJ15_shiftRightImplWorker_16 : decode cJ15_shiftRightImplWorker 16 = .ok (.iconst 1, 1) := dk_4 (dk_at dksJ15_shiftRightImplWorker_0 16 rfl rfl)
theorem dJ15_shiftRightImplWorker_17 : decode cJ15_shiftRightImplWorker 17 = .ok (.isub, 1) := dk_100 (dk_at dksJ15_shiftRightImplWorker_0 17 rfl rfl)
theorem dJ15_shiftRightImplWorker_18 : decode cJ15_shiftRightImplWorker 18 = .ok (.goto 5, 3) := dk_167 0 5 (dk_at dksJ15_shiftRightImplWorker_0 18 rfl rfl)
theorem dJ15_shiftRightImplWorker_21 : decode cJ15_shiftRightImplWorker 21 = .ok (.iload 4, 2) := dk_21 4 (dk_at dksJ15_shiftRightImplWorker_0 21 rfl rfl)
theorem dJ15_shiftRightImplWorker_23 : decode cJ15_shiftRightImplWorker 23 = .ok (.istore 7, 2) := dk_54 7 (dk_at dksJ15_shiftRightImplWorker_1 0 rfl rfl)
theorem dJ15_shiftRightImplWorker_25 : decode cJ15_shiftRightImplWorker 25 = .ok (.iload 7, 2) := dk_21 7 (dk_at dksJ15_shiftRightImplWorker_1 2 rfl rfl)
theorem dJ15_shiftRightImplWorker_27 : decode cJ15_shiftRightImplWorker 27 = .ok (.iload_n 2, 1) := dk_28 (dk_at dksJ15_shiftRightImplWorker_1 4 rfl rfl)
theorem dJ15_shiftRightImplWorker_28 : decode cJ15_shiftRightImplWorker 28 = .ok (.if_icmp .lt 30, 3) := dk_161 0 30 (dk_at dksJ15_shiftRightImplWorker_1 5 rfl rfl)
theorem dJ15_shiftRightImplWorker_31 : decode cJ15_shiftRightImplWorker 31 = .ok (.aload_n 0, 1) := dk_42 (dk_at dksJ15_shiftRightImplWorker_1 8 rfl rfl)
theorem dJ15_shiftRightImplWorker_32 : decode cJ15_shiftRightImplWorker 32 = .ok (.iload 7, 2) := dk_21 7 (dk_at dksJ15_shiftRightImplWorker_1 9 rfl rfl)
theorem dJ15_shiftRightImplWorker_34 : decode cJ15_shiftRightImplWorker 34 = .ok (.iinc 7 (-1), 3) := dk_132 7 255 (dk_at dksJ15_shiftRightImplWorker_1 11 rfl rfl)
theorem dJ15_shiftRightImplWorker_37 : decode cJ15_shiftRightImplWorker 37 = .ok (.aload_n 1, 1) := dk_43 (dk_at dksJ15_shiftRightImplWorker_1 14 rfl rfl)
theorem dJ15_shiftRightImplWorker_38 : decode cJ15_shiftRightImplWorker 38 = .ok (.iload 6, 2) := dk_21 6 (dk_at dksJ15_shiftRightImplWorker_1 15 rfl rfl)
theorem dJ15_shiftRightImplWorker_40 : decode cJ15_shiftRightImplWorker 40 = .ok (.iinc 6 (-1), 3) := dk_132 6 255 (dk_at dksJ15_shiftRightImplWorker_1 17 rfl rfl)
theorem dJ15_shiftRightImplWorker_43 : decode cJ15_shiftRightImplWorker 43 = .ok (.iaload, 1) := dk_46 (dk_at dksJ15_shiftRightImplWorker_1 20 rfl rfl)
theorem dJ15_shiftRightImplWorker_44 : decode cJ15_shiftRightImplWorker 44 = .ok (.iload_n 3, 1) := dk_29 (dk_at dksJ15_shiftRightImplWorker_1 21 rfl rfl)
theorem dJ15_shiftRightImplWorker_45 : decode cJ15_shiftRightImplWorker 45 = .ok (.iushr, 1) := dk_124 (dk_at dksJ15_shiftRightImplWorker_1 22 rfl rfl)
theorem dJ15_shiftRightImplWorker_46 : decode cJ15_shiftRightImplWorker 46 = .ok (.aload_n 1, 1) := dk_43 (dk_at dksJ15_shiftRightImplWorker_1 23 rfl rfl)
theorem dJ15_shiftRightImplWorker_47 : decode cJ15_shiftRightImplWorker 47 = .ok (.iload 6, 2) := dk_21 6 (dk_at dksJ15_shiftRightImplWorker_2 0 rfl rfl)
theorem dJ15_shiftRightImplWorker_49 : decode cJ15_shiftRightImplWorker 49 = .ok (.iaload, 1) := dk_46 (dk_at dksJ15_shiftRightImplWorker_2 2 rfl rfl)
theorem dJ15_shiftRightImplWorker_50 : decode cJ15_shiftRightImplWorker 50 = .ok (.iload 5, 2) := dk_21 5 (dk_at dksJ15_shiftRightImplWorker_2 3 rfl rfl)
theorem dJ15_shiftRightImplWorker_52 : decode cJ15_shiftRightImplWorker 52 = .ok (.ishl, 1) := dk_120 (dk_at dksJ15_shiftRightImplWorker_2 5 rfl rfl)
theorem dJ15_shiftRightImplWorker_53 : decode cJ15_shiftRightImplWorker 53 = .ok (.ior, 1) := dk_128 (dk_at dksJ15_shiftRightImplWorker_2 6 rfl rfl)
theorem dJ15_shiftRightImplWorker_54 : decode cJ15_shiftRightImplWorker 54 = .ok (.iastore, 1) := dk_79 (dk_at dksJ15_shiftRightImplWorker_2 7 rfl rfl)
theorem dJ15_shiftRightImplWorker_55 : decode cJ15_shiftRightImplWorker 55 = .ok (.goto (-30), 3) := dk_167 255 226 (dk_at dksJ15_shiftRightImplWorker_2 8 rfl rfl)
theorem dJ15_shiftRightImplWorker_58 : decode cJ15_shiftRightImplWorker 58 = .ok (.return_, 1) := dk_177 (dk_at dksJ15_shiftRightImplWorker_2 11 rfl rfl)
abbrev cJ15_javaIncrement : ByteArray := prog_27_method_107_code
def yJ15_javaIncrement : MethodName := ⟨RJ15, "javaIncrement", "([I)[I"⟩
def dkwJ15_javaIncrement_1 : List UInt8 := [132, 3, 255, 167, 255, 236, 28, 154, 0, 14, 43, 190, 4, 96, 188, 10, 76, 43, 3, 4, 79, 43, 176]
abbrev dktJ15_javaIncrement_1 : List UInt8 := dkwJ15_javaIncrement_1 ++ []
def dkwJ15_javaIncrement_0 : List UInt8 := [3, 61, 43, 190, 4, 100, 62, 29, 155, 0, 22, 28, 154, 0, 18, 43, 29, 92, 46, 4, 96, 91, 79, 61]
abbrev dktJ15_javaIncrement_0 : List UInt8 := dkwJ15_javaIncrement_0 ++ dktJ15_javaIncrement_1
theorem dksJ15_javaIncrement_0 : cJ15_javaIncrement.data.toList.drop 0 = dktJ15_javaIncrement_0 := by decide +kernel
theorem dksJ15_javaIncrement_1 : cJ15_javaIncrement.data.toList.drop 24 = dktJ15_javaIncrement_1 := dk_seg dksJ15_javaIncrement_0 24 rfl rfl
theorem dJ15_javaIncrement_0 : decode cJ15_javaIncrement 0 = .ok (.iconst 0, 1) := dk_3 (dk_at dksJ15_javaIncrement_0 0 rfl rfl)
theorem dJ15_javaIncrement_1 : decode cJ15_javaIncrement 1 = .ok (.istore_n 2, 1) := dk_61 (dk_at dksJ15_javaIncrement_0 1 rfl rfl)
theorem dJ15_javaIncrement_2 : decode cJ15_javaIncrement 2 = .ok (.aload_n 1, 1) := dk_43 (dk_at dksJ15_javaIncrement_0 2 rfl rfl)
theorem dJ15_javaIncrement_3 : decode cJ15_javaIncrement 3 = .ok (.arraylength, 1) := dk_190 (dk_at dksJ15_javaIncrement_0 3 rfl rfl)
theorem dJ15_javaIncrement_4 : decode cJ15_javaIncrement 4 = .ok (.iconst 1, 1) := dk_4 (dk_at dksJ15_javaIncrement_0 4 rfl rfl)
theorem dJ15_javaIncrement_5 : decode cJ15_javaIncrement 5 = .ok (.isub, 1) := dk_100 (dk_at dksJ15_javaIncrement_0 5 rfl rfl)
theorem dJ15_javaIncrement_6 : decode cJ15_javaIncrement 6 = .ok (.istore_n 3, 1) := dk_62 (dk_at dksJ15_javaIncrement_0 6 rfl rfl)
theorem dJ15_javaIncrement_7 : decode cJ15_javaIncrement 7 = .ok (.iload_n 3, 1) := dk_29 (dk_at dksJ15_javaIncrement_0 7 rfl rfl)
theorem dJ15_javaIncrement_8 : decode cJ15_javaIncrement 8 = .ok (.ifCond .lt 22, 3) := dk_155 0 22 (dk_at dksJ15_javaIncrement_0 8 rfl rfl)
theorem dJ15_javaIncrement_11 : decode cJ15_javaIncrement 11 = .ok (.iload_n 2, 1) := dk_28 (dk_at dksJ15_javaIncrement_0 11 rfl rfl)
theorem dJ15_javaIncrement_12 : decode cJ15_javaIncrement 12 = .ok (.ifCond .ne 18, 3) := dk_154 0 18 (dk_at dksJ15_javaIncrement_0 12 rfl rfl)
theorem dJ15_javaIncrement_15 : decode cJ15_javaIncrement 15 = .ok (.aload_n 1, 1) := dk_43 (dk_at dksJ15_javaIncrement_0 15 rfl rfl)
theorem dJ15_javaIncrement_16 : decode cJ15_javaIncrement 16 = .ok (.iload_n 3, 1) := dk_29 (dk_at dksJ15_javaIncrement_0 16 rfl rfl)
theorem dJ15_javaIncrement_17 : decode cJ15_javaIncrement 17 = .ok (.dup2, 1) := dk_92 (dk_at dksJ15_javaIncrement_0 17 rfl rfl)
theorem dJ15_javaIncrement_18 : decode cJ15_javaIncrement 18 = .ok (.iaload, 1) := dk_46 (dk_at dksJ15_javaIncrement_0 18 rfl rfl)
theorem dJ15_javaIncrement_19 : decode cJ15_javaIncrement 19 = .ok (.iconst 1, 1) := dk_4 (dk_at dksJ15_javaIncrement_0 19 rfl rfl)
theorem dJ15_javaIncrement_20 : decode cJ15_javaIncrement 20 = .ok (.iadd, 1) := dk_96 (dk_at dksJ15_javaIncrement_0 20 rfl rfl)
theorem dJ15_javaIncrement_21 : decode cJ15_javaIncrement 21 = .ok (.dup_x2, 1) := dk_91 (dk_at dksJ15_javaIncrement_0 21 rfl rfl)
theorem dJ15_javaIncrement_22 : decode cJ15_javaIncrement 22 = .ok (.iastore, 1) := dk_79 (dk_at dksJ15_javaIncrement_0 22 rfl rfl)
theorem dJ15_javaIncrement_23 : decode cJ15_javaIncrement 23 = .ok (.istore_n 2, 1) := dk_61 (dk_at dksJ15_javaIncrement_0 23 rfl rfl)
theorem dJ15_javaIncrement_24 : decode cJ15_javaIncrement 24 = .ok (.iinc 3 (-1), 3) := dk_132 3 255 (dk_at dksJ15_javaIncrement_1 0 rfl rfl)
theorem dJ15_javaIncrement_27 : decode cJ15_javaIncrement 27 = .ok (.goto (-20), 3) := dk_167 255 236 (dk_at dksJ15_javaIncrement_1 3 rfl rfl)
theorem dJ15_javaIncrement_30 : decode cJ15_javaIncrement 30 = .ok (.iload_n 2, 1) := dk_28 (dk_at dksJ15_javaIncrement_1 6 rfl rfl)
theorem dJ15_javaIncrement_31 : decode cJ15_javaIncrement 31 = .ok (.ifCond .ne 14, 3) := dk_154 0 14 (dk_at dksJ15_javaIncrement_1 7 rfl rfl)
theorem dJ15_javaIncrement_34 : decode cJ15_javaIncrement 34 = .ok (.aload_n 1, 1) := dk_43 (dk_at dksJ15_javaIncrement_1 10 rfl rfl)
theorem dJ15_javaIncrement_35 : decode cJ15_javaIncrement 35 = .ok (.arraylength, 1) := dk_190 (dk_at dksJ15_javaIncrement_1 11 rfl rfl)
theorem dJ15_javaIncrement_36 : decode cJ15_javaIncrement 36 = .ok (.iconst 1, 1) := dk_4 (dk_at dksJ15_javaIncrement_1 12 rfl rfl)
theorem dJ15_javaIncrement_37 : decode cJ15_javaIncrement 37 = .ok (.iadd, 1) := dk_96 (dk_at dksJ15_javaIncrement_1 13 rfl rfl)
theorem dJ15_javaIncrement_38 : decode cJ15_javaIncrement 38 = .ok (.newarray .int, 2) := dk_188_10 (dk_at dksJ15_javaIncrement_1 14 rfl rfl)
theorem dJ15_javaIncrement_40 : decode cJ15_javaIncrement 40 = .ok (.astore_n 1, 1) := dk_76 (dk_at dksJ15_javaIncrement_1 16 rfl rfl)
theorem dJ15_javaIncrement_41 : decode cJ15_javaIncrement 41 = .ok (.aload_n 1, 1) := dk_43 (dk_at dksJ15_javaIncrement_1 17 rfl rfl)
theorem dJ15_javaIncrement_42 : decode cJ15_javaIncrement 42 = .ok (.iconst 0, 1) := dk_3 (dk_at dksJ15_javaIncrement_1 18 rfl rfl)
theorem dJ15_javaIncrement_43 : decode cJ15_javaIncrement 43 = .ok (.iconst 1, 1) := dk_4 (dk_at dksJ15_javaIncrement_1 19 rfl rfl)
theorem dJ15_javaIncrement_44 : decode cJ15_javaIncrement 44 = .ok (.iastore, 1) := dk_79 (dk_at dksJ15_javaIncrement_1 20 rfl rfl)
theorem dJ15_javaIncrement_45 : decode cJ15_javaIncrement 45 = .ok (.aload_n 1, 1) := dk_43 (dk_at dksJ15_javaIncrement_1 21 rfl rfl)
theorem dJ15_javaIncrement_46 : decode cJ15_javaIncrement 46 = .ok (.areturn, 1) := dk_176 (dk_at dksJ15_javaIncrement_1 22 rfl rfl)
abbrev cJ15_init_2 : ByteArray := prog_27_method_25_code
def yJ15_init_2 : MethodName := ⟨RJ15, "<init>", "([II)V"⟩
def dkwJ15_init_2_1 : List UInt8 := [180, 0, 28, 190, 18, 43, 161, 0, 7, 42, 182, 0, 44, 177]
abbrev dktJ15_init_2_1 : List UInt8 := dkwJ15_init_2_1 ++ []
def dkwJ15_init_2_0 : List UInt8 := [42, 183, 0, 3, 42, 43, 190, 154, 0, 7, 3, 167, 0, 4, 28, 181, 0, 32, 42, 43, 181, 0, 28, 42]
abbrev dktJ15_init_2_0 : List UInt8 := dkwJ15_init_2_0 ++ dktJ15_init_2_1
theorem dksJ15_init_2_0 : cJ15_init_2.data.toList.drop 0 = dktJ15_init_2_0 := by decide +kernel
theorem dksJ15_init_2_1 : cJ15_init_2.data.toList.drop 24 = dktJ15_init_2_1 := dk_seg dksJ15_init_2_0 24 rfl rfl
theorem dJ15_init_2_0 : decode cJ15_init_2 0 = .ok (.aload_n 0, 1) := dk_42 (dk_at dksJ15_init_2_0 0 rfl rfl)
theorem dJ15_init_2_1 : decode cJ15_init_2 1 = .ok (.invokespecial 3, 3) := dk_183 0 3 (dk_at dksJ15_init_2_0 1 rfl rfl)
theorem dJ15_init_2_4 : decode cJ15_init_2 4 = .ok (.aload_n 0, 1) := dk_42 (dk_at dksJ15_init_2_0 4 rfl rfl)
theorem dJ15_init_2_5 : decode cJ15_init_2 5 = .ok (.aload_n 1, 1) := dk_43 (dk_at dksJ15_init_2_0 5 rfl rfl)
theorem dJ15_init_2_6 : decode cJ15_init_2 6 = .ok (.arraylength, 1) := dk_190 (dk_at dksJ15_init_2_0 6 rfl rfl)
theorem dJ15_init_2_7 : decode cJ15_init_2 7 = .ok (.ifCond .ne 7, 3) := dk_154 0 7 (dk_at dksJ15_init_2_0 7 rfl rfl)
theorem dJ15_init_2_10 : decode cJ15_init_2 10 = .ok (.iconst 0, 1) := dk_3 (dk_at dksJ15_init_2_0 10 rfl rfl)
theorem dJ15_init_2_11 : decode cJ15_init_2 11 = .ok (.goto 4, 3) := dk_167 0 4 (dk_at dksJ15_init_2_0 11 rfl rfl)
theorem dJ15_init_2_14 : decode cJ15_init_2 14 = .ok (.iload_n 2, 1) := dk_28 (dk_at dksJ15_init_2_0 14 rfl rfl)
theorem dJ15_init_2_15 : decode cJ15_init_2 15 = .ok (.putfield 32, 3) := dk_181 0 32 (dk_at dksJ15_init_2_0 15 rfl rfl)
theorem dJ15_init_2_18 : decode cJ15_init_2 18 = .ok (.aload_n 0, 1) := dk_42 (dk_at dksJ15_init_2_0 18 rfl rfl)
theorem dJ15_init_2_19 : decode cJ15_init_2 19 = .ok (.aload_n 1, 1) := dk_43 (dk_at dksJ15_init_2_0 19 rfl rfl)
theorem dJ15_init_2_20 : decode cJ15_init_2 20 = .ok (.putfield 28, 3) := dk_181 0 28 (dk_at dksJ15_init_2_0 20 rfl rfl)
theorem dJ15_init_2_23 : decode cJ15_init_2 23 = .ok (.aload_n 0, 1) := dk_42 (dk_at dksJ15_init_2_0 23 rfl rfl)
theorem dJ15_init_2_24 : decode cJ15_init_2 24 = .ok (.getfield 28, 3) := dk_180 0 28 (dk_at dksJ15_init_2_1 0 rfl rfl)
theorem dJ15_init_2_27 : decode cJ15_init_2 27 = .ok (.arraylength, 1) := dk_190 (dk_at dksJ15_init_2_1 3 rfl rfl)
theorem dJ15_init_2_28 : decode cJ15_init_2 28 = .ok (.ldc 43, 2) := dk_18 43 (dk_at dksJ15_init_2_1 4 rfl rfl)
theorem dJ15_init_2_30 : decode cJ15_init_2 30 = .ok (.if_icmp .lt 7, 3) := dk_161 0 7 (dk_at dksJ15_init_2_1 6 rfl rfl)
theorem dJ15_init_2_33 : decode cJ15_init_2 33 = .ok (.aload_n 0, 1) := dk_42 (dk_at dksJ15_init_2_1 9 rfl rfl)
theorem dJ15_init_2_34 : decode cJ15_init_2 34 = .ok (.invokevirtual 44, 3) := dk_182 0 44 (dk_at dksJ15_init_2_1 10 rfl rfl)
theorem dJ15_init_2_37 : decode cJ15_init_2 37 = .ok (.return_, 1) := dk_177 (dk_at dksJ15_init_2_1 13 rfl rfl)
abbrev cJ15_checkRange : ByteArray := prog_27_method_27_code
def yJ15_checkRange : MethodName := ⟨RJ15, "checkRange", "()V"⟩
def dkwJ15_checkRange_1 : List UInt8 := [3, 46, 156, 0, 6, 184, 0, 101, 177]
abbrev dktJ15_checkRange_1 : List UInt8 := dkwJ15_checkRange_1 ++ []
def dkwJ15_checkRange_0 : List UInt8 := [42, 180, 0, 28, 190, 18, 43, 163, 0, 22, 42, 180, 0, 28, 190, 18, 43, 160, 0, 15, 42, 180, 0, 28]
abbrev dktJ15_checkRange_0 : List UInt8 := dkwJ15_checkRange_0 ++ dktJ15_checkRange_1
theorem dksJ15_checkRange_0 : cJ15_checkRange.data.toList.drop 0 = dktJ15_checkRange_0 := by decide +kernel
theorem dksJ15_checkRange_1 : cJ15_checkRange.data.toList.drop 24 = dktJ15_checkRange_1 := dk_seg dksJ15_checkRange_0 24 rfl rfl
theorem dJ15_checkRange_0 : decode cJ15_checkRange 0 = .ok (.aload_n 0, 1) := dk_42 (dk_at dksJ15_checkRange_0 0 rfl rfl)
theorem dJ15_checkRange_1 : decode cJ15_checkRange 1 = .ok (.getfield 28, 3) := dk_180 0 28 (dk_at dksJ15_checkRange_0 1 rfl rfl)
theorem dJ15_checkRange_4 : decode cJ15_checkRange 4 = .ok (.arraylength, 1) := dk_190 (dk_at dksJ15_checkRange_0 4 rfl rfl)
theorem dJ15_checkRange_5 : decode cJ15_checkRange 5 = .ok (.ldc 43, 2) := dk_18 43 (dk_at dksJ15_checkRange_0 5 rfl rfl)
theorem dJ15_checkRange_7 : decode cJ15_checkRange 7 = .ok (.if_icmp .gt 22, 3) := dk_163 0 22 (dk_at dksJ15_checkRange_0 7 rfl rfl)
theorem dJ15_checkRange_10 : decode cJ15_checkRange 10 = .ok (.aload_n 0, 1) := dk_42 (dk_at dksJ15_checkRange_0 10 rfl rfl)
theorem dJ15_checkRange_11 : decode cJ15_checkRange 11 = .ok (.getfield 28, 3) := dk_180 0 28 (dk_at dksJ15_checkRange_0 11 rfl rfl)
theorem dJ15_checkRange_14 : decode cJ15_checkRange 14 = .ok (.arraylength, 1) := dk_190 (dk_at dksJ15_checkRange_0 14 rfl rfl)
theorem dJ15_checkRange_15 : decode cJ15_checkRange 15 = .ok (.ldc 43, 2) := dk_18 43 (dk_at dksJ15_checkRange_0 15 rfl rfl)
theorem dJ15_checkRange_17 : decode cJ15_checkRange 17 = .ok (.if_icmp .ne 15, 3) := dk_160 0 15 (dk_at dksJ15_checkRange_0 17 rfl rfl)
theorem dJ15_checkRange_20 : decode cJ15_checkRange 20 = .ok (.aload_n 0, 1) := dk_42 (dk_at dksJ15_checkRange_0 20 rfl rfl)
theorem dJ15_checkRange_21 : decode cJ15_checkRange 21 = .ok (.getfield 28, 3) := dk_180 0 28 (dk_at dksJ15_checkRange_0 21 rfl rfl)
theorem dJ15_checkRange_24 : decode cJ15_checkRange 24 = .ok (.iconst 0, 1) := dk_3 (dk_at dksJ15_checkRange_1 0 rfl rfl)
theorem dJ15_checkRange_25 : decode cJ15_checkRange 25 = .ok (.iaload, 1) := dk_46 (dk_at dksJ15_checkRange_1 1 rfl rfl)
theorem dJ15_checkRange_26 : decode cJ15_checkRange 26 = .ok (.ifCond .ge 6, 3) := dk_156 0 6 (dk_at dksJ15_checkRange_1 2 rfl rfl)
theorem dJ15_checkRange_29 : decode cJ15_checkRange 29 = .ok (.invokestatic 101, 3) := dk_184 0 101 (dk_at dksJ15_checkRange_1 5 rfl rfl)
theorem dJ15_checkRange_32 : decode cJ15_checkRange 32 = .ok (.return_, 1) := dk_177 (dk_at dksJ15_checkRange_1 8 rfl rfl)
abbrev cJ15_reportOverflow : ByteArray := prog_27_method_28_code
def yJ15_reportOverflow : MethodName := ⟨RJ15, "reportOverflow", "()V"⟩
def dkwJ15_reportOverflow_0 : List UInt8 := [187, 0, 160, 89, 19, 1, 87, 183, 0, 164, 191]
abbrev dktJ15_reportOverflow_0 : List UInt8 := dkwJ15_reportOverflow_0 ++ []
theorem dksJ15_reportOverflow_0 : cJ15_reportOverflow.data.toList.drop 0 = dktJ15_reportOverflow_0 := by decide +kernel
theorem dJ15_reportOverflow_0 : decode cJ15_reportOverflow 0 = .ok (.new 160, 3) := dk_187 0 160 (dk_at dksJ15_reportOverflow_0 0 rfl rfl)
theorem dJ15_reportOverflow_3 : decode cJ15_reportOverflow 3 = .ok (.dup, 1) := dk_89 (dk_at dksJ15_reportOverflow_0 3 rfl rfl)
theorem dJ15_reportOverflow_4 : decode cJ15_reportOverflow 4 = .ok (.ldc_w 343, 3) := dk_19 1 87 (dk_at dksJ15_reportOverflow_0 4 rfl rfl)
theorem dJ15_reportOverflow_7 : decode cJ15_reportOverflow 7 = .ok (.invokespecial 164, 3) := dk_183 0 164 (dk_at dksJ15_reportOverflow_0 7 rfl rfl)
theorem dJ15_reportOverflow_10 : decode cJ15_reportOverflow 10 = .ok (.athrow, 1) := dk_191 (dk_at dksJ15_reportOverflow_0 10 rfl rfl)
abbrev cJ15_shiftLeft : ByteArray := prog_27_method_102_code
def yJ15_shiftLeft : MethodName := ⟨RJ15, "shiftLeft", "([II)[I"⟩
def dkwJ15_shiftLeft_6 : List UInt8 := [21, 6, 96, 42, 21, 9, 46, 29, 120, 79, 25, 5, 176]
abbrev dktJ15_shiftLeft_6 : List UInt8 := dkwJ15_shiftLeft_6 ++ []
def dkwJ15_shiftLeft_5 : List UInt8 := [4, 96, 25, 5, 190, 184, 2, 99, 87, 25, 5, 42, 21, 6, 29, 21, 9, 184, 2, 106, 25, 5, 21, 9]
abbrev dktJ15_shiftLeft_5 : List UInt8 := dkwJ15_shiftLeft_5 ++ dktJ15_shiftLeft_6
def dkwJ15_shiftLeft_4 : List UInt8 := [21, 4, 4, 100, 54, 9, 3, 21, 9, 4, 96, 42, 190, 184, 2, 99, 87, 21, 6, 21, 9, 21, 6, 96]
abbrev dktJ15_shiftLeft_4 : List UInt8 := dkwJ15_shiftLeft_4 ++ dktJ15_shiftLeft_5
def dkwJ15_shiftLeft_3 : List UInt8 := [58, 5, 25, 5, 21, 6, 132, 6, 1, 21, 8, 79, 167, 0, 11, 21, 4, 28, 96, 188, 10, 58, 5]
abbrev dktJ15_shiftLeft_3 : List UInt8 := dkwJ15_shiftLeft_3 ++ dktJ15_shiftLeft_4
def dkwJ15_shiftLeft_2 : List UInt8 := [54, 7, 42, 3, 46, 21, 7, 124, 54, 8, 21, 8, 153, 0, 26, 21, 4, 28, 96, 4, 96, 188, 10]
abbrev dktJ15_shiftLeft_2 : List UInt8 := dkwJ15_shiftLeft_2 ++ dktJ15_shiftLeft_3
def dkwJ15_shiftLeft_1 : List UInt8 := [188, 10, 58, 5, 42, 3, 25, 5, 3, 21, 4, 184, 1, 132, 167, 0, 114, 3, 54, 6, 16, 32, 29, 100]
abbrev dktJ15_shiftLeft_1 : List UInt8 := dkwJ15_shiftLeft_1 ++ dktJ15_shiftLeft_2
def dkwJ15_shiftLeft_0 : List UInt8 := [27, 8, 124, 61, 27, 16, 31, 126, 62, 42, 190, 54, 4, 1, 58, 5, 29, 154, 0, 24, 21, 4, 28, 96]
abbrev dktJ15_shiftLeft_0 : List UInt8 := dkwJ15_shiftLeft_0 ++ dktJ15_shiftLeft_1
theorem dksJ15_shiftLeft_0 : cJ15_shiftLeft.data.toList.drop 0 = dktJ15_shiftLeft_0 := by decide +kernel
theorem dksJ15_shiftLeft_1 : cJ15_shiftLeft.data.toList.drop 24 = dktJ15_shiftLeft_1 := dk_seg dksJ15_shiftLeft_0 24 rfl rfl
theorem dksJ15_shiftLeft_2 : cJ15_shiftLeft.data.toList.drop 48 = dktJ15_shiftLeft_2 := dk_seg dksJ15_shiftLeft_1 24 rfl rfl
theorem dksJ15_shiftLeft_3 : cJ15_shiftLeft.data.toList.drop 71 = dktJ15_shiftLeft_3 := dk_seg dksJ15_shiftLeft_2 23 rfl rfl
theorem dksJ15_shiftLeft_4 : cJ15_shiftLeft.data.toList.drop 94 = dktJ15_shiftLeft_4 := dk_seg dksJ15_shiftLeft_3 23 rfl rfl
theorem dksJ15_shiftLeft_5 : cJ15_shiftLeft.data.toList.drop 118 = dktJ15_shiftLeft_5 := dk_seg dksJ15_shiftLeft_4 24 rfl rfl
theorem dksJ15_shiftLeft_6 : cJ15_shiftLeft.data.toList.drop 142 = dktJ15_shiftLeft_6 := dk_seg dksJ15_shiftLeft_5 24 rfl rfl
theorem dJ15_shiftLeft_0 : decode cJ15_shiftLeft 0 = .ok (.iload_n 1, 1) := dk_27 (dk_at dksJ15_shiftLeft_0 0 rfl rfl)
theorem dJ15_shiftLeft_1 : decode cJ15_shiftLeft 1 = .ok (.iconst 5, 1) := dk_8 (dk_at dksJ15_shiftLeft_0 1 rfl rfl)
theorem dJ15_shiftLeft_2 : decode cJ15_shiftLeft 2 = .ok (.iushr, 1) := dk_124 (dk_at dksJ15_shiftLeft_0 2 rfl rfl)
theorem dJ15_shiftLeft_3 : decode cJ15_shiftLeft 3 = .ok (.istore_n 2, 1) := dk_61 (dk_at dksJ15_shiftLeft_0 3 rfl rfl)
theorem dJ15_shiftLeft_4 : decode cJ15_shiftLeft 4 = .ok (.iload_n 1, 1) := dk_27 (dk_at dksJ15_shiftLeft_0 4 rfl rfl)
theorem dJ15_shiftLeft_5 : decode cJ15_shiftLeft 5 = .ok (.bipush 31, 2) := dk_16 31 (dk_at dksJ15_shiftLeft_0 5 rfl rfl)
theorem dJ15_shiftLeft_7 : decode cJ15_shiftLeft 7 = .ok (.iand, 1) := dk_126 (dk_at dksJ15_shiftLeft_0 7 rfl rfl)
theorem dJ15_shiftLeft_8 : decode cJ15_shiftLeft 8 = .ok (.istore_n 3, 1) := dk_62 (dk_at dksJ15_shiftLeft_0 8 rfl rfl)
theorem dJ15_shiftLeft_9 : decode cJ15_shiftLeft 9 = .ok (.aload_n 0, 1) := dk_42 (dk_at dksJ15_shiftLeft_0 9 rfl rfl)
theorem dJ15_shiftLeft_10 : decode cJ15_shiftLeft 10 = .ok (.arraylength, 1) := dk_190 (dk_at dksJ15_shiftLeft_0 10 rfl rfl)
theorem dJ15_shiftLeft_11 : decode cJ15_shiftLeft 11 = .ok (.istore 4, 2) := dk_54 4 (dk_at dksJ15_shiftLeft_0 11 rfl rfl)
theorem dJ15_shiftLeft_13 : decode cJ15_shiftLeft 13 = .ok (.aconst_null, 1) := dk_1 (dk_at dksJ15_shiftLeft_0 13 rfl rfl)
theorem dJ15_shiftLeft_14 : decode cJ15_shiftLeft 14 = .ok (.astore 5, 2) := dk_58 5 (dk_at dksJ15_shiftLeft_0 14 rfl rfl)
theorem dJ15_shiftLeft_16 : decode cJ15_shiftLeft 16 = .ok (.iload_n 3, 1) := dk_29 (dk_at dksJ15_shiftLeft_0 16 rfl rfl)
theorem dJ15_shiftLeft_17 : decode cJ15_shiftLeft 17 = .ok (.ifCond .ne 24, 3) := dk_154 0 24 (dk_at dksJ15_shiftLeft_0 17 rfl rfl)
theorem dJ15_shiftLeft_20 : decode cJ15_shiftLeft 20 = .ok (.iload 4, 2) := dk_21 4 (dk_at dksJ15_shiftLeft_0 20 rfl rfl)
theorem dJ15_shiftLeft_22 : decode cJ15_shiftLeft 22 = .ok (.iload_n 2, 1) := dk_28 (dk_at dksJ15_shiftLeft_0 22 rfl rfl)
theorem dJ15_shiftLeft_23 : decode cJ15_shiftLeft 23 = .ok (.iadd, 1) := dk_96 (dk_at dksJ15_shiftLeft_0 23 rfl rfl)
theorem dJ15_shiftLeft_24 : decode cJ15_shiftLeft 24 = .ok (.newarray .int, 2) := dk_188_10 (dk_at dksJ15_shiftLeft_1 0 rfl rfl)
theorem dJ15_shiftLeft_26 : decode cJ15_shiftLeft 26 = .ok (.astore 5, 2) := dk_58 5 (dk_at dksJ15_shiftLeft_1 2 rfl rfl)
theorem dJ15_shiftLeft_28 : decode cJ15_shiftLeft 28 = .ok (.aload_n 0, 1) := dk_42 (dk_at dksJ15_shiftLeft_1 4 rfl rfl)
theorem dJ15_shiftLeft_29 : decode cJ15_shiftLeft 29 = .ok (.iconst 0, 1) := dk_3 (dk_at dksJ15_shiftLeft_1 5 rfl rfl)
theorem dJ15_shiftLeft_30 : decode cJ15_shiftLeft 30 = .ok (.aload 5, 2) := dk_25 5 (dk_at dksJ15_shiftLeft_1 6 rfl rfl)
theorem dJ15_shiftLeft_32 : decode cJ15_shiftLeft 32 = .ok (.iconst 0, 1) := dk_3 (dk_at dksJ15_shiftLeft_1 8 rfl rfl)
theorem dJ15_shiftLeft_33 : decode cJ15_shiftLeft 33 = .ok (.iload 4, 2) := dk_21 4 (dk_at dksJ15_shiftLeft_1 9 rfl rfl)
theorem dJ15_shiftLeft_35 : decode cJ15_shiftLeft 35 = .ok (.invokestatic 388, 3) := dk_184 1 132 (dk_at dksJ15_shiftLeft_1 11 rfl rfl)
theorem dJ15_shiftLeft_38 : decode cJ15_shiftLeft 38 = .ok (.goto 114, 3) := dk_167 0 114 (dk_at dksJ15_shiftLeft_1 14 rfl rfl)
theorem dJ15_shiftLeft_41 : decode cJ15_shiftLeft 41 = .ok (.iconst 0, 1) := dk_3 (dk_at dksJ15_shiftLeft_1 17 rfl rfl)
theorem dJ15_shiftLeft_42 : decode cJ15_shiftLeft 42 = .ok (.istore 6, 2) := dk_54 6 (dk_at dksJ15_shiftLeft_1 18 rfl rfl)
theorem dJ15_shiftLeft_44 : decode cJ15_shiftLeft 44 = .ok (.bipush 32, 2) := dk_16 32 (dk_at dksJ15_shiftLeft_1 20 rfl rfl)
theorem dJ15_shiftLeft_46 : decode cJ15_shiftLeft 46 = .ok (.iload_n 3, 1) := dk_29 (dk_at dksJ15_shiftLeft_1 22 rfl rfl)
theorem dJ15_shiftLeft_47 : decode cJ15_shiftLeft 47 = .ok (.isub, 1) := dk_100 (dk_at dksJ15_shiftLeft_1 23 rfl rfl)
theorem dJ15_shiftLeft_48 : decode cJ15_shiftLeft 48 = .ok (.istore 7, 2) := dk_54 7 (dk_at dksJ15_shiftLeft_2 0 rfl rfl)
theorem dJ15_shiftLeft_50 : decode cJ15_shiftLeft 50 = .ok (.aload_n 0, 1) := dk_42 (dk_at dksJ15_shiftLeft_2 2 rfl rfl)
theorem dJ15_shiftLeft_51 : decode cJ15_shiftLeft 51 = .ok (.iconst 0, 1) := dk_3 (dk_at dksJ15_shiftLeft_2 3 rfl rfl)
theorem dJ15_shiftLeft_52 : decode cJ15_shiftLeft 52 = .ok (.iaload, 1) := dk_46 (dk_at dksJ15_shiftLeft_2 4 rfl rfl)
theorem dJ15_shiftLeft_53 : decode cJ15_shiftLeft 53 = .ok (.iload 7, 2) := dk_21 7 (dk_at dksJ15_shiftLeft_2 5 rfl rfl)
theorem dJ15_shiftLeft_55 : decode cJ15_shiftLeft 55 = .ok (.iushr, 1) := dk_124 (dk_at dksJ15_shiftLeft_2 7 rfl rfl)
theorem dJ15_shiftLeft_56 : decode cJ15_shiftLeft 56 = .ok (.istore 8, 2) := dk_54 8 (dk_at dksJ15_shiftLeft_2 8 rfl rfl)
theorem dJ15_shiftLeft_58 : decode cJ15_shiftLeft 58 = .ok (.iload 8, 2) := dk_21 8 (dk_at dksJ15_shiftLeft_2 10 rfl rfl)
theorem dJ15_shiftLeft_60 : decode cJ15_shiftLeft 60 = .ok (.ifCond .eq 26, 3) := dk_153 0 26 (dk_at dksJ15_shiftLeft_2 12 rfl rfl)
theorem dJ15_shiftLeft_63 : decode cJ15_shiftLeft 63 = .ok (.iload 4, 2) := dk_21 4 (dk_at dksJ15_shiftLeft_2 15 rfl rfl)
theorem dJ15_shiftLeft_65 : decode cJ15_shiftLeft 65 = .ok (.iload_n 2, 1) := dk_28 (dk_at dksJ15_shiftLeft_2 17 rfl rfl)
theorem dJ15_shiftLeft_66 : decode cJ15_shiftLeft 66 = .ok (.iadd, 1) := dk_96 (dk_at dksJ15_shiftLeft_2 18 rfl rfl)
theorem dJ15_shiftLeft_67 : decode cJ15_shiftLeft 67 = .ok (.iconst 1, 1) := dk_4 (dk_at dksJ15_shiftLeft_2 19 rfl rfl)
theorem dJ15_shiftLeft_68 : decode cJ15_shiftLeft 68 = .ok (.iadd, 1) := dk_96 (dk_at dksJ15_shiftLeft_2 20 rfl rfl)
theorem dJ15_shiftLeft_69 : decode cJ15_shiftLeft 69 = .ok (.newarray .int, 2) := dk_188_10 (dk_at dksJ15_shiftLeft_2 21 rfl rfl)
theorem dJ15_shiftLeft_71 : decode cJ15_shiftLeft 71 = .ok (.astore 5, 2) := dk_58 5 (dk_at dksJ15_shiftLeft_3 0 rfl rfl)
theorem dJ15_shiftLeft_73 : decode cJ15_shiftLeft 73 = .ok (.aload 5, 2) := dk_25 5 (dk_at dksJ15_shiftLeft_3 2 rfl rfl)
theorem dJ15_shiftLeft_75 : decode cJ15_shiftLeft 75 = .ok (.iload 6, 2) := dk_21 6 (dk_at dksJ15_shiftLeft_3 4 rfl rfl)
theorem dJ15_shiftLeft_77 : decode cJ15_shiftLeft 77 = .ok (.iinc 6 1, 3) := dk_132 6 1 (dk_at dksJ15_shiftLeft_3 6 rfl rfl)
theorem dJ15_shiftLeft_80 : decode cJ15_shiftLeft 80 = .ok (.iload 8, 2) := dk_21 8 (dk_at dksJ15_shiftLeft_3 9 rfl rfl)
theorem dJ15_shiftLeft_82 : decode cJ15_shiftLeft 82 = .ok (.iastore, 1) := dk_79 (dk_at dksJ15_shiftLeft_3 11 rfl rfl)
theorem dJ15_shiftLeft_83 : decode cJ15_shiftLeft 83 = .ok (.goto 11, 3) := dk_167 0 11 (dk_at dksJ15_shiftLeft_3 12 rfl rfl)
theorem dJ15_shiftLeft_86 : decode cJ15_shiftLeft 86 = .ok (.iload 4, 2) := dk_21 4 (dk_at dksJ15_shiftLeft_3 15 rfl rfl)
theorem dJ15_shiftLeft_88 : decode cJ15_shiftLeft 88 = .ok (.iload_n 2, 1) := dk_28 (dk_at dksJ15_shiftLeft_3 17 rfl rfl)
theorem dJ15_shiftLeft_89 : decode cJ15_shiftLeft 89 = .ok (.iadd, 1) := dk_96 (dk_at dksJ15_shiftLeft_3 18 rfl rfl)
theorem dJ15_shiftLeft_90 : decode cJ15_shiftLeft 90 = .ok (.newarray .int, 2) := dk_188_10 (dk_at dksJ15_shiftLeft_3 19 rfl rfl)
theorem dJ15_shiftLeft_92 : decode cJ15_shiftLeft 92 = .ok (.astore 5, 2) := dk_58 5 (dk_at dksJ15_shiftLeft_3 21 rfl rfl)
theorem dJ15_shiftLeft_94 : decode cJ15_shiftLeft 94 = .ok (.iload 4, 2) := dk_21 4 (dk_at dksJ15_shiftLeft_4 0 rfl rfl)
theorem dJ15_shiftLeft_96 : decode cJ15_shiftLeft 96 = .ok (.iconst 1, 1) := dk_4 (dk_at dksJ15_shiftLeft_4 2 rfl rfl)
theorem dJ15_shiftLeft_97 : decode cJ15_shiftLeft 97 = .ok (.isub, 1) := dk_100 (dk_at dksJ15_shiftLeft_4 3 rfl rfl)
theorem dJ15_shiftLeft_98 : decode cJ15_shiftLeft 98 = .ok (.istore 9, 2) := dk_54 9 (dk_at dksJ15_shiftLeft_4 4 rfl rfl)
theorem dJ15_shiftLeft_100 : decode cJ15_shiftLeft 100 = .ok (.iconst 0, 1) := dk_3 (dk_at dksJ15_shiftLeft_4 6 rfl rfl)
theorem dJ15_shiftLeft_101 : decode cJ15_shiftLeft 101 = .ok (.iload 9, 2) := dk_21 9 (dk_at dksJ15_shiftLeft_4 7 rfl rfl)
theorem dJ15_shiftLeft_103 : decode cJ15_shiftLeft 103 = .ok (.iconst 1, 1) := dk_4 (dk_at dksJ15_shiftLeft_4 9 rfl rfl)
theorem dJ15_shiftLeft_104 : decode cJ15_shiftLeft 104 = .ok (.iadd, 1) := dk_96 (dk_at dksJ15_shiftLeft_4 10 rfl rfl)
theorem dJ15_shiftLeft_105 : decode cJ15_shiftLeft 105 = .ok (.aload_n 0, 1) := dk_42 (dk_at dksJ15_shiftLeft_4 11 rfl rfl)
theorem dJ15_shiftLeft_106 : decode cJ15_shiftLeft 106 = .ok (.arraylength, 1) := dk_190 (dk_at dksJ15_shiftLeft_4 12 rfl rfl)
theorem dJ15_shiftLeft_107 : decode cJ15_shiftLeft 107 = .ok (.invokestatic 611, 3) := dk_184 2 99 (dk_at dksJ15_shiftLeft_4 13 rfl rfl)
theorem dJ15_shiftLeft_110 : decode cJ15_shiftLeft 110 = .ok (.pop, 1) := dk_87 (dk_at dksJ15_shiftLeft_4 16 rfl rfl)
theorem dJ15_shiftLeft_111 : decode cJ15_shiftLeft 111 = .ok (.iload 6, 2) := dk_21 6 (dk_at dksJ15_shiftLeft_4 17 rfl rfl)
theorem dJ15_shiftLeft_113 : decode cJ15_shiftLeft 113 = .ok (.iload 9, 2) := dk_21 9 (dk_at dksJ15_shiftLeft_4 19 rfl rfl)
theorem dJ15_shiftLeft_115 : decode cJ15_shiftLeft 115 = .ok (.iload 6, 2) := dk_21 6 (dk_at dksJ15_shiftLeft_4 21 rfl rfl)
theorem dJ15_shiftLeft_117 : decode cJ15_shiftLeft 117 = .ok (.iadd, 1) := dk_96 (dk_at dksJ15_shiftLeft_4 23 rfl rfl)
theorem dJ15_shiftLeft_118 : decode cJ15_shiftLeft 118 = .ok (.iconst 1, 1) := dk_4 (dk_at dksJ15_shiftLeft_5 0 rfl rfl)
theorem dJ15_shiftLeft_119 : decode cJ15_shiftLeft 119 = .ok (.iadd, 1) := dk_96 (dk_at dksJ15_shiftLeft_5 1 rfl rfl)
theorem dJ15_shiftLeft_120 : decode cJ15_shiftLeft 120 = .ok (.aload 5, 2) := dk_25 5 (dk_at dksJ15_shiftLeft_5 2 rfl rfl)
theorem dJ15_shiftLeft_122 : decode cJ15_shiftLeft 122 = .ok (.arraylength, 1) := dk_190 (dk_at dksJ15_shiftLeft_5 4 rfl rfl)
theorem dJ15_shiftLeft_123 : decode cJ15_shiftLeft 123 = .ok (.invokestatic 611, 3) := dk_184 2 99 (dk_at dksJ15_shiftLeft_5 5 rfl rfl)
theorem dJ15_shiftLeft_126 : decode cJ15_shiftLeft 126 = .ok (.pop, 1) := dk_87 (dk_at dksJ15_shiftLeft_5 8 rfl rfl)
theorem dJ15_shiftLeft_127 : decode cJ15_shiftLeft 127 = .ok (.aload 5, 2) := dk_25 5 (dk_at dksJ15_shiftLeft_5 9 rfl rfl)
theorem dJ15_shiftLeft_129 : decode cJ15_shiftLeft 129 = .ok (.aload_n 0, 1) := dk_42 (dk_at dksJ15_shiftLeft_5 11 rfl rfl)
theorem dJ15_shiftLeft_130 : decode cJ15_shiftLeft 130 = .ok (.iload 6, 2) := dk_21 6 (dk_at dksJ15_shiftLeft_5 12 rfl rfl)
theorem dJ15_shiftLeft_132 : decode cJ15_shiftLeft 132 = .ok (.iload_n 3, 1) := dk_29 (dk_at dksJ15_shiftLeft_5 14 rfl rfl)
theorem dJ15_shiftLeft_133 : decode cJ15_shiftLeft 133 = .ok (.iload 9, 2) := dk_21 9 (dk_at dksJ15_shiftLeft_5 15 rfl rfl)
theorem dJ15_shiftLeft_135 : decode cJ15_shiftLeft 135 = .ok (.invokestatic 618, 3) := dk_184 2 106 (dk_at dksJ15_shiftLeft_5 17 rfl rfl)
theorem dJ15_shiftLeft_138 : decode cJ15_shiftLeft 138 = .ok (.aload 5, 2) := dk_25 5 (dk_at dksJ15_shiftLeft_5 20 rfl rfl)
theorem dJ15_shiftLeft_140 : decode cJ15_shiftLeft 140 = .ok (.iload 9, 2) := dk_21 9 (dk_at dksJ15_shiftLeft_5 22 rfl rfl)
theorem dJ15_shiftLeft_142 : decode cJ15_shiftLeft 142 = .ok (.iload 6, 2) := dk_21 6 (dk_at dksJ15_shiftLeft_6 0 rfl rfl)
theorem dJ15_shiftLeft_144 : decode cJ15_shiftLeft 144 = .ok (.iadd, 1) := dk_96 (dk_at dksJ15_shiftLeft_6 2 rfl rfl)
theorem dJ15_shiftLeft_145 : decode cJ15_shiftLeft 145 = .ok (.aload_n 0, 1) := dk_42 (dk_at dksJ15_shiftLeft_6 3 rfl rfl)
theorem dJ15_shiftLeft_146 : decode cJ15_shiftLeft 146 = .ok (.iload 9, 2) := dk_21 9 (dk_at dksJ15_shiftLeft_6 4 rfl rfl)
theorem dJ15_shiftLeft_148 : decode cJ15_shiftLeft 148 = .ok (.iaload, 1) := dk_46 (dk_at dksJ15_shiftLeft_6 6 rfl rfl)
theorem dJ15_shiftLeft_149 : decode cJ15_shiftLeft 149 = .ok (.iload_n 3, 1) := dk_29 (dk_at dksJ15_shiftLeft_6 7 rfl rfl)
theorem dJ15_shiftLeft_150 : decode cJ15_shiftLeft 150 = .ok (.ishl, 1) := dk_120 (dk_at dksJ15_shiftLeft_6 8 rfl rfl)
theorem dJ15_shiftLeft_151 : decode cJ15_shiftLeft 151 = .ok (.iastore, 1) := dk_79 (dk_at dksJ15_shiftLeft_6 9 rfl rfl)
theorem dJ15_shiftLeft_152 : decode cJ15_shiftLeft 152 = .ok (.aload 5, 2) := dk_25 5 (dk_at dksJ15_shiftLeft_6 10 rfl rfl)
theorem dJ15_shiftLeft_154 : decode cJ15_shiftLeft 154 = .ok (.areturn, 1) := dk_176 (dk_at dksJ15_shiftLeft_6 12 rfl rfl)
abbrev cJ15_shiftLeftImplWorker : ByteArray := prog_27_method_103_code
def yJ15_shiftLeftImplWorker : MethodName := ⟨RJ15, "shiftLeftImplWorker", "([I[IIII)V"⟩
def dkwJ15_shiftLeftImplWorker_1 : List UInt8 := [132, 6, 1, 46, 29, 120, 43, 21, 6, 46, 21, 5, 124, 128, 79, 167, 255, 226, 177]
abbrev dktJ15_shiftLeftImplWorker_1 : List UInt8 := dkwJ15_shiftLeftImplWorker_1 ++ []
def dkwJ15_shiftLeftImplWorker_0 : List UInt8 := [16, 32, 29, 100, 54, 5, 3, 54, 6, 21, 6, 21, 4, 162, 0, 29, 42, 28, 132, 2, 1, 43, 21, 6]
abbrev dktJ15_shiftLeftImplWorker_0 : List UInt8 := dkwJ15_shiftLeftImplWorker_0 ++ dktJ15_shiftLeftImplWorker_1
theorem dksJ15_shiftLeftImplWorker_0 : cJ15_shiftLeftImplWorker.data.toList.drop 0 = dktJ15_shiftLeftImplWorker_0 := by decide +kernel
theorem dksJ15_shiftLeftImplWorker_1 : cJ15_shiftLeftImplWorker.data.toList.drop 24 = dktJ15_shiftLeftImplWorker_1 := dk_seg dksJ15_shiftLeftImplWorker_0 24 rfl rfl
theorem dJ15_shiftLeftImplWorker_0 : decode cJ15_shiftLeftImplWorker 0 = .ok (.bipush 32, 2) := dk_16 32 (dk_at dksJ15_shiftLeftImplWorker_0 0 rfl rfl)
theorem dJ15_shiftLeftImplWorker_2 : decode cJ15_shiftLeftImplWorker 2 = .ok (.iload_n 3, 1) := dk_29 (dk_at dksJ15_shiftLeftImplWorker_0 2 rfl rfl)
theorem dJ15_shiftLeftImplWorker_3 : decode cJ15_shiftLeftImplWorker 3 = .ok (.isub, 1) := dk_100 (dk_at dksJ15_shiftLeftImplWorker_0 3 rfl rfl)
theorem dJ15_shiftLeftImplWorker_4 : decode cJ15_shiftLeftImplWorker 4 = .ok (.istore 5, 2) := dk_54 5 (dk_at dksJ15_shiftLeftImplWorker_0 4 rfl rfl)
theorem dJ15_shiftLeftImplWorker_6 : decode cJ15_shiftLeftImplWorker 6 = .ok (.iconst 0, 1) := dk_3 (dk_at dksJ15_shiftLeftImplWorker_0 6 rfl rfl)
theorem dJ15_shiftLeftImplWorker_7 : decode cJ15_shiftLeftImplWorker 7 = .ok (.istore 6, 2) := dk_54 6 (dk_at dksJ15_shiftLeftImplWorker_0 7 rfl rfl)
theorem dJ15_shiftLeftImplWorker_9 : decode cJ15_shiftLeftImplWorker 9 = .ok (.iload 6, 2) := dk_21 6 (dk_at dksJ15_shiftLeftImplWorker_0 9 rfl rfl)
theorem dJ15_shiftLeftImplWorker_11 : decode cJ15_shiftLeftImplWorker 11 = .ok (.iload 4, 2) := dk_21 4 (dk_at dksJ15_shiftLeftImplWorker_0 11 rfl rfl)
theorem dJ15_shiftLeftImplWorker_13 : decode cJ15_shiftLeftImplWorker 13 = .ok (.if_icmp .ge 29, 3) := dk_162 0 29 (dk_at dksJ15_shiftLeftImplWorker_0 13 rfl rfl)
theorem dJ15_shiftLeftImplWorker_16 : decode cJ15_shiftLeftImplWorker 16 = .ok (.aload_n 0, 1) := dk_42 (dk_at dksJ15_shiftLeftImplWorker_0 16 rfl rfl)
theorem dJ15_shiftLeftImplWorker_17 : decode cJ15_shiftLeftImplWorker 17 = .ok (.iload_n 2, 1) := dk_28 (dk_at dksJ15_shiftLeftImplWorker_0 17 rfl rfl)
theorem dJ15_shiftLeftImplWorker_18 : decode cJ15_shiftLeftImplWorker 18 = .ok (.iinc 2 1, 3) := dk_132 2 1 (dk_at dksJ15_shiftLeftImplWorker_0 18 rfl rfl)
theorem dJ15_shiftLeftImplWorker_21 : decode cJ15_shiftLeftImplWorker 21 = .ok (.aload_n 1, 1) := dk_43 (dk_at dksJ15_shiftLeftImplWorker_0 21 rfl rfl)
theorem dJ15_shiftLeftImplWorker_22 : decode cJ15_shiftLeftImplWorker 22 = .ok (.iload 6, 2) := dk_21 6 (dk_at dksJ15_shiftLeftImplWorker_0 22 rfl rfl)
theorem dJ15_shiftLeftImplWorker_24 : decode cJ15_shiftLeftImplWorker 24 = .ok (.iinc 6 1, 3) := dk_132 6 1 (dk_at dksJ15_shiftLeftImplWorker_1 0 rfl rfl)
theorem dJ15_shiftLeftImplWorker_27 : decode cJ15_shiftLeftImplWorker 27 = .ok (.iaload, 1) := dk_46 (dk_at dksJ15_shiftLeftImplWorker_1 3 rfl rfl)
theorem dJ15_shiftLeftImplWorker_28 : decode cJ15_shiftLeftImplWorker 28 = .ok (.iload_n 3, 1) := dk_29 (dk_at dksJ15_shiftLeftImplWorker_1 4 rfl rfl)
theorem dJ15_shiftLeftImplWorker_29 : decode cJ15_shiftLeftImplWorker 29 = .ok (.ishl, 1) := dk_120 (dk_at dksJ15_shiftLeftImplWorker_1 5 rfl rfl)
theorem dJ15_shiftLeftImplWorker_30 : decode cJ15_shiftLeftImplWorker 30 = .ok (.aload_n 1, 1) := dk_43 (dk_at dksJ15_shiftLeftImplWorker_1 6 rfl rfl)
theorem dJ15_shiftLeftImplWorker_31 : decode cJ15_shiftLeftImplWorker 31 = .ok (.iload 6, 2) := dk_21 6 (dk_at dksJ15_shiftLeftImplWorker_1 7 rfl rfl)
theorem dJ15_shiftLeftImplWorker_33 : decode cJ15_shiftLeftImplWorker 33 = .ok (.iaload, 1) := dk_46 (dk_at dksJ15_shiftLeftImplWorker_1 9 rfl rfl)
theorem dJ15_shiftLeftImplWorker_34 : decode cJ15_shiftLeftImplWorker 34 = .ok (.iload 5, 2) := dk_21 5 (dk_at dksJ15_shiftLeftImplWorker_1 10 rfl rfl)
theorem dJ15_shiftLeftImplWorker_36 : decode cJ15_shiftLeftImplWorker 36 = .ok (.iushr, 1) := dk_124 (dk_at dksJ15_shiftLeftImplWorker_1 12 rfl rfl)
theorem dJ15_shiftLeftImplWorker_37 : decode cJ15_shiftLeftImplWorker 37 = .ok (.ior, 1) := dk_128 (dk_at dksJ15_shiftLeftImplWorker_1 13 rfl rfl)
theorem dJ15_shiftLeftImplWorker_38 : decode cJ15_shiftLeftImplWorker 38 = .ok (.iastore, 1) := dk_79 (dk_at dksJ15_shiftLeftImplWorker_1 14 rfl rfl)
theorem dJ15_shiftLeftImplWorker_39 : decode cJ15_shiftLeftImplWorker 39 = .ok (.goto (-30), 3) := dk_167 255 226 (dk_at dksJ15_shiftLeftImplWorker_1 15 rfl rfl)
theorem dJ15_shiftLeftImplWorker_42 : decode cJ15_shiftLeftImplWorker 42 = .ok (.return_, 1) := dk_177 (dk_at dksJ15_shiftLeftImplWorker_1 18 rfl rfl)
abbrev cJ15_shiftLeft_2 : ByteArray := prog_27_method_101_code
def yJ15_shiftLeft_2 : MethodName := ⟨RJ15, "shiftLeft", "(I)Ljava/math/BigInteger;"⟩
def dkwJ15_shiftLeft_2_1 : List UInt8 := [184, 1, 173, 42, 180, 0, 32, 183, 0, 175, 176, 27, 154, 0, 5, 42, 176, 42, 27, 116, 182, 2, 215, 176]
abbrev dktJ15_shiftLeft_2_1 : List UInt8 := dkwJ15_shiftLeft_2_1 ++ []
def dkwJ15_shiftLeft_2_0 : List UInt8 := [42, 180, 0, 32, 154, 0, 7, 178, 0, 22, 176, 27, 158, 0, 23, 187, 0, 23, 89, 42, 180, 0, 28, 27]
abbrev dktJ15_shiftLeft_2_0 : List UInt8 := dkwJ15_shiftLeft_2_0 ++ dktJ15_shiftLeft_2_1
theorem dksJ15_shiftLeft_2_0 : cJ15_shiftLeft_2.data.toList.drop 0 = dktJ15_shiftLeft_2_0 := by decide +kernel
theorem dksJ15_shiftLeft_2_1 : cJ15_shiftLeft_2.data.toList.drop 24 = dktJ15_shiftLeft_2_1 := dk_seg dksJ15_shiftLeft_2_0 24 rfl rfl
theorem dJ15_shiftLeft_2_0 : decode cJ15_shiftLeft_2 0 = .ok (.aload_n 0, 1) := dk_42 (dk_at dksJ15_shiftLeft_2_0 0 rfl rfl)
theorem dJ15_shiftLeft_2_1 : decode cJ15_shiftLeft_2 1 = .ok (.getfield 32, 3) := dk_180 0 32 (dk_at dksJ15_shiftLeft_2_0 1 rfl rfl)
theorem dJ15_shiftLeft_2_4 : decode cJ15_shiftLeft_2 4 = .ok (.ifCond .ne 7, 3) := dk_154 0 7 (dk_at dksJ15_shiftLeft_2_0 4 rfl rfl)
theorem dJ15_shiftLeft_2_7 : decode cJ15_shiftLeft_2 7 = .ok (.getstatic 22, 3) := dk_178 0 22 (dk_at dksJ15_shiftLeft_2_0 7 rfl rfl)
theorem dJ15_shiftLeft_2_10 : decode cJ15_shiftLeft_2 10 = .ok (.areturn, 1) := dk_176 (dk_at dksJ15_shiftLeft_2_0 10 rfl rfl)
theorem dJ15_shiftLeft_2_11 : decode cJ15_shiftLeft_2 11 = .ok (.iload_n 1, 1) := dk_27 (dk_at dksJ15_shiftLeft_2_0 11 rfl rfl)
theorem dJ15_shiftLeft_2_12 : decode cJ15_shiftLeft_2 12 = .ok (.ifCond .le 23, 3) := dk_158 0 23 (dk_at dksJ15_shiftLeft_2_0 12 rfl rfl)
theorem dJ15_shiftLeft_2_15 : decode cJ15_shiftLeft_2 15 = .ok (.new 23, 3) := dk_187 0 23 (dk_at dksJ15_shiftLeft_2_0 15 rfl rfl)
theorem dJ15_shiftLeft_2_18 : decode cJ15_shiftLeft_2 18 = .ok (.dup, 1) := dk_89 (dk_at dksJ15_shiftLeft_2_0 18 rfl rfl)
theorem dJ15_shiftLeft_2_19 : decode cJ15_shiftLeft_2 19 = .ok (.aload_n 0, 1) := dk_42 (dk_at dksJ15_shiftLeft_2_0 19 rfl rfl)
theorem dJ15_shiftLeft_2_20 : decode cJ15_shiftLeft_2 20 = .ok (.getfield 28, 3) := dk_180 0 28 (dk_at dksJ15_shiftLeft_2_0 20 rfl rfl)
theorem dJ15_shiftLeft_2_23 : decode cJ15_shiftLeft_2 23 = .ok (.iload_n 1, 1) := dk_27 (dk_at dksJ15_shiftLeft_2_0 23 rfl rfl)
theorem dJ15_shiftLeft_2_24 : decode cJ15_shiftLeft_2 24 = .ok (.invokestatic 429, 3) := dk_184 1 173 (dk_at dksJ15_shiftLeft_2_1 0 rfl rfl)
theorem dJ15_shiftLeft_2_27 : decode cJ15_shiftLeft_2 27 = .ok (.aload_n 0, 1) := dk_42 (dk_at dksJ15_shiftLeft_2_1 3 rfl rfl)
theorem dJ15_shiftLeft_2_28 : decode cJ15_shiftLeft_2 28 = .ok (.getfield 32, 3) := dk_180 0 32 (dk_at dksJ15_shiftLeft_2_1 4 rfl rfl)
theorem dJ15_shiftLeft_2_31 : decode cJ15_shiftLeft_2 31 = .ok (.invokespecial 175, 3) := dk_183 0 175 (dk_at dksJ15_shiftLeft_2_1 7 rfl rfl)
theorem dJ15_shiftLeft_2_34 : decode cJ15_shiftLeft_2 34 = .ok (.areturn, 1) := dk_176 (dk_at dksJ15_shiftLeft_2_1 10 rfl rfl)
theorem dJ15_shiftLeft_2_35 : decode cJ15_shiftLeft_2 35 = .ok (.iload_n 1, 1) := dk_27 (dk_at dksJ15_shiftLeft_2_1 11 rfl rfl)
theorem dJ15_shiftLeft_2_36 : decode cJ15_shiftLeft_2 36 = .ok (.ifCond .ne 5, 3) := dk_154 0 5 (dk_at dksJ15_shiftLeft_2_1 12 rfl rfl)
theorem dJ15_shiftLeft_2_39 : decode cJ15_shiftLeft_2 39 = .ok (.aload_n 0, 1) := dk_42 (dk_at dksJ15_shiftLeft_2_1 15 rfl rfl)
theorem dJ15_shiftLeft_2_40 : decode cJ15_shiftLeft_2 40 = .ok (.areturn, 1) := dk_176 (dk_at dksJ15_shiftLeft_2_1 16 rfl rfl)
theorem dJ15_shiftLeft_2_41 : decode cJ15_shiftLeft_2 41 = .ok (.aload_n 0, 1) := dk_42 (dk_at dksJ15_shiftLeft_2_1 17 rfl rfl)
theorem dJ15_shiftLeft_2_42 : decode cJ15_shiftLeft_2 42 = .ok (.iload_n 1, 1) := dk_27 (dk_at dksJ15_shiftLeft_2_1 18 rfl rfl)
theorem dJ15_shiftLeft_2_43 : decode cJ15_shiftLeft_2 43 = .ok (.ineg, 1) := dk_116 (dk_at dksJ15_shiftLeft_2_1 19 rfl rfl)
theorem dJ15_shiftLeft_2_44 : decode cJ15_shiftLeft_2 44 = .ok (.invokevirtual 727, 3) := dk_182 2 215 (dk_at dksJ15_shiftLeft_2_1 20 rfl rfl)
theorem dJ15_shiftLeft_2_47 : decode cJ15_shiftLeft_2 47 = .ok (.areturn, 1) := dk_176 (dk_at dksJ15_shiftLeft_2_1 23 rfl rfl)
abbrev cJ15_bitLength : ByteArray := prog_27_method_118_code
def yJ15_bitLength : MethodName := ⟨RJ15, "bitLength", "()I"⟩
def dkwJ15_bitLength_5 : List UInt8 := [100, 167, 0, 5, 21, 4, 60, 167, 0, 6, 21, 4, 60, 42, 27, 4, 96, 181, 2, 235, 27, 172]
abbrev dktJ15_bitLength_5 : List UInt8 := dkwJ15_bitLength_5 ++ []
def dkwJ15_bitLength_4 : List UInt8 := [154, 0, 7, 4, 167, 0, 4, 3, 54, 5, 132, 6, 1, 167, 255, 225, 21, 5, 153, 0, 10, 21, 4, 4]
abbrev dktJ15_bitLength_4 : List UInt8 := dkwJ15_bitLength_4 ++ dktJ15_bitLength_5
def dkwJ15_bitLength_3 : List UInt8 := [54, 5, 4, 54, 6, 21, 6, 29, 162, 0, 31, 21, 5, 153, 0, 26, 42, 180, 0, 28, 21, 6, 46]
abbrev dktJ15_bitLength_3 : List UInt8 := dkwJ15_bitLength_3 ++ dktJ15_bitLength_4
def dkwJ15_bitLength_2 : List UInt8 := [180, 0, 32, 156, 0, 78, 42, 180, 0, 28, 3, 46, 184, 1, 167, 4, 160, 0, 7, 4, 167, 0, 4, 3]
abbrev dktJ15_bitLength_2 : List UInt8 := dkwJ15_bitLength_2 ++ dktJ15_bitLength_3
def dkwJ15_bitLength_1 : List UInt8 := [3, 60, 167, 0, 105, 29, 4, 100, 8, 120, 42, 180, 0, 28, 3, 46, 184, 2, 93, 96, 54, 4, 42]
abbrev dktJ15_bitLength_1 : List UInt8 := dkwJ15_bitLength_1 ++ dktJ15_bitLength_2
def dkwJ15_bitLength_0 : List UInt8 := [42, 180, 2, 235, 4, 100, 60, 27, 2, 160, 0, 129, 42, 180, 0, 28, 77, 44, 190, 62, 29, 154, 0, 8]
abbrev dktJ15_bitLength_0 : List UInt8 := dkwJ15_bitLength_0 ++ dktJ15_bitLength_1
theorem dksJ15_bitLength_0 : cJ15_bitLength.data.toList.drop 0 = dktJ15_bitLength_0 := by decide +kernel
theorem dksJ15_bitLength_1 : cJ15_bitLength.data.toList.drop 24 = dktJ15_bitLength_1 := dk_seg dksJ15_bitLength_0 24 rfl rfl
theorem dksJ15_bitLength_2 : cJ15_bitLength.data.toList.drop 47 = dktJ15_bitLength_2 := dk_seg dksJ15_bitLength_1 23 rfl rfl
theorem dksJ15_bitLength_3 : cJ15_bitLength.data.toList.drop 71 = dktJ15_bitLength_3 := dk_seg dksJ15_bitLength_2 24 rfl rfl
theorem dksJ15_bitLength_4 : cJ15_bitLength.data.toList.drop 94 = dktJ15_bitLength_4 := dk_seg dksJ15_bitLength_3 23 rfl rfl
theorem dksJ15_bitLength_5 : cJ15_bitLength.data.toList.drop 118 = dktJ15_bitLength_5 := dk_seg dksJ15_bitLength_4 24 rfl rfl
theorem dJ15_bitLength_0 : decode cJ15_bitLength 0 = .ok (.aload_n 0, 1) := dk_42 (dk_at dksJ15_bitLength_0 0 rfl rfl)
theorem dJ15_bitLength_1 : decode cJ15_bitLength 1 = .ok (.getfield 747, 3) := dk_180 2 235 (dk_at dksJ15_bitLength_0 1 rfl rfl)
theorem dJ15_bitLength_4 : decode cJ15_bitLength 4 = .ok (.iconst 1, 1) := dk_4 (dk_at dksJ15_bitLength_0 4 rfl rfl)
theorem dJ15_bitLength_5 : decode cJ15_bitLength 5 = .ok (.isub, 1) := dk_100 (dk_at dksJ15_bitLength_0 5 rfl rfl)
theorem dJ15_bitLength_6 : decode cJ15_bitLength 6 = .ok (.istore_n 1, 1) := dk_60 (dk_at dksJ15_bitLength_0 6 rfl rfl)
theorem dJ15_bitLength_7 : decode cJ15_bitLength 7 = .ok (.iload_n 1, 1) := dk_27 (dk_at dksJ15_bitLength_0 7 rfl rfl)
theorem dJ15_bitLength_8 : decode cJ15_bitLength 8 = .ok (.iconst (-1), 1) := dk_2 (dk_at dksJ15_bitLength_0 8 rfl rfl)
theorem dJ15_bitLength_9 : decode cJ15_bitLength 9 = .ok (.if_icmp .ne 129, 3) := dk_160 0 129 (dk_at dksJ15_bitLength_0 9 rfl rfl)
theorem dJ15_bitLength_12 : decode cJ15_bitLength 12 = .ok (.aload_n 0, 1) := dk_42 (dk_at dksJ15_bitLength_0 12 rfl rfl)
theorem dJ15_bitLength_13 : decode cJ15_bitLength 13 = .ok (.getfield 28, 3) := dk_180 0 28 (dk_at dksJ15_bitLength_0 13 rfl rfl)
theorem dJ15_bitLength_16 : decode cJ15_bitLength 16 = .ok (.astore_n 2, 1) := dk_77 (dk_at dksJ15_bitLength_0 16 rfl rfl)
theorem dJ15_bitLength_17 : decode cJ15_bitLength 17 = .ok (.aload_n 2, 1) := dk_44 (dk_at dksJ15_bitLength_0 17 rfl rfl)
theorem dJ15_bitLength_18 : decode cJ15_bitLength 18 = .ok (.arraylength, 1) := dk_190 (dk_at dksJ15_bitLength_0 18 rfl rfl)
theorem dJ15_bitLength_19 : decode cJ15_bitLength 19 = .ok (.istore_n 3, 1) := dk_62 (dk_at dksJ15_bitLength_0 19 rfl rfl)
theorem dJ15_bitLength_20 : decode cJ15_bitLength 20 = .ok (.iload_n 3, 1) := dk_29 (dk_at dksJ15_bitLength_0 20 rfl rfl)
theorem dJ15_bitLength_21 : decode cJ15_bitLength 21 = .ok (.ifCond .ne 8, 3) := dk_154 0 8 (dk_at dksJ15_bitLength_0 21 rfl rfl)
theorem dJ15_bitLength_24 : decode cJ15_bitLength 24 = .ok (.iconst 0, 1) := dk_3 (dk_at dksJ15_bitLength_1 0 rfl rfl)
theorem dJ15_bitLength_25 : decode cJ15_bitLength 25 = .ok (.istore_n 1, 1) := dk_60 (dk_at dksJ15_bitLength_1 1 rfl rfl)
theorem dJ15_bitLength_26 : decode cJ15_bitLength 26 = .ok (.goto 105, 3) := dk_167 0 105 (dk_at dksJ15_bitLength_1 2 rfl rfl)
theorem dJ15_bitLength_29 : decode cJ15_bitLength 29 = .ok (.iload_n 3, 1) := dk_29 (dk_at dksJ15_bitLength_1 5 rfl rfl)
theorem dJ15_bitLength_30 : decode cJ15_bitLength 30 = .ok (.iconst 1, 1) := dk_4 (dk_at dksJ15_bitLength_1 6 rfl rfl)
theorem dJ15_bitLength_31 : decode cJ15_bitLength 31 = .ok (.isub, 1) := dk_100 (dk_at dksJ15_bitLength_1 7 rfl rfl)
theorem dJ15_bitLength_32 : decode cJ15_bitLength 32 = .ok (.iconst 5, 1) := dk_8 (dk_at dksJ15_bitLength_1 8 rfl rfl)
theorem dJ15_bitLength_33 : decode cJ15_bitLength 33 = .ok (.ishl, 1) := dk_120 (dk_at dksJ15_bitLength_1 9 rfl rfl)
theorem dJ15_bitLength_34 : decode cJ15_bitLength 34 = .ok (.aload_n 0, 1) := dk_42 (dk_at dksJ15_bitLength_1 10 rfl rfl)
theorem dJ15_bitLength_35 : decode cJ15_bitLength 35 = .ok (.getfield 28, 3) := dk_180 0 28 (dk_at dksJ15_bitLength_1 11 rfl rfl)
theorem dJ15_bitLength_38 : decode cJ15_bitLength 38 = .ok (.iconst 0, 1) := dk_3 (dk_at dksJ15_bitLength_1 14 rfl rfl)
theorem dJ15_bitLength_39 : decode cJ15_bitLength 39 = .ok (.iaload, 1) := dk_46 (dk_at dksJ15_bitLength_1 15 rfl rfl)
theorem dJ15_bitLength_40 : decode cJ15_bitLength 40 = .ok (.invokestatic 605, 3) := dk_184 2 93 (dk_at dksJ15_bitLength_1 16 rfl rfl)
theorem dJ15_bitLength_43 : decode cJ15_bitLength 43 = .ok (.iadd, 1) := dk_96 (dk_at dksJ15_bitLength_1 19 rfl rfl)
theorem dJ15_bitLength_44 : decode cJ15_bitLength 44 = .ok (.istore 4, 2) := dk_54 4 (dk_at dksJ15_bitLength_1 20 rfl rfl)
theorem dJ15_bitLength_46 : decode cJ15_bitLength 46 = .ok (.aload_n 0, 1) := dk_42 (dk_at dksJ15_bitLength_1 22 rfl rfl)
theorem dJ15_bitLength_47 : decode cJ15_bitLength 47 = .ok (.getfield 32, 3) := dk_180 0 32 (dk_at dksJ15_bitLength_2 0 rfl rfl)
theorem dJ15_bitLength_50 : decode cJ15_bitLength 50 = .ok (.ifCond .ge 78, 3) := dk_156 0 78 (dk_at dksJ15_bitLength_2 3 rfl rfl)
theorem dJ15_bitLength_53 : decode cJ15_bitLength 53 = .ok (.aload_n 0, 1) := dk_42 (dk_at dksJ15_bitLength_2 6 rfl rfl)
theorem dJ15_bitLength_54 : decode cJ15_bitLength 54 = .ok (.getfield 28, 3) := dk_180 0 28 (dk_at dksJ15_bitLength_2 7 rfl rfl)
theorem dJ15_bitLength_57 : decode cJ15_bitLength 57 = .ok (.iconst 0, 1) := dk_3 (dk_at dksJ15_bitLength_2 10 rfl rfl)
theorem dJ15_bitLength_58 : decode cJ15_bitLength 58 = .ok (.iaload, 1) := dk_46 (dk_at dksJ15_bitLength_2 11 rfl rfl)
theorem dJ15_bitLength_59 : decode cJ15_bitLength 59 = .ok (.invokestatic 423, 3) := dk_184 1 167 (dk_at dksJ15_bitLength_2 12 rfl rfl)
theorem dJ15_bitLength_62 : decode cJ15_bitLength 62 = .ok (.iconst 1, 1) := dk_4 (dk_at dksJ15_bitLength_2 15 rfl rfl)
theorem dJ15_bitLength_63 : decode cJ15_bitLength 63 = .ok (.if_icmp .ne 7, 3) := dk_160 0 7 (dk_at dksJ15_bitLength_2 16 rfl rfl)
theorem dJ15_bitLength_66 : decode cJ15_bitLength 66 = .ok (.iconst 1, 1) := dk_4 (dk_at dksJ15_bitLength_2 19 rfl rfl)
theorem dJ15_bitLength_67 : decode cJ15_bitLength 67 = .ok (.goto 4, 3) := dk_167 0 4 (dk_at dksJ15_bitLength_2 20 rfl rfl)
theorem dJ15_bitLength_70 : decode cJ15_bitLength 70 = .ok (.iconst 0, 1) := dk_3 (dk_at dksJ15_bitLength_2 23 rfl rfl)
theorem dJ15_bitLength_71 : decode cJ15_bitLength 71 = .ok (.istore 5, 2) := dk_54 5 (dk_at dksJ15_bitLength_3 0 rfl rfl)
theorem dJ15_bitLength_73 : decode cJ15_bitLength 73 = .ok (.iconst 1, 1) := dk_4 (dk_at dksJ15_bitLength_3 2 rfl rfl)
theorem dJ15_bitLength_74 : decode cJ15_bitLength 74 = .ok (.istore 6, 2) := dk_54 6 (dk_at dksJ15_bitLength_3 3 rfl rfl)
theorem dJ15_bitLength_76 : decode cJ15_bitLength 76 = .ok (.iload 6, 2) := dk_21 6 (dk_at dksJ15_bitLength_3 5 rfl rfl)
theorem dJ15_bitLength_78 : decode cJ15_bitLength 78 = .ok (.iload_n 3, 1) := dk_29 (dk_at dksJ15_bitLength_3 7 rfl rfl)
theorem dJ15_bitLength_79 : decode cJ15_bitLength 79 = .ok (.if_icmp .ge 31, 3) := dk_162 0 31 (dk_at dksJ15_bitLength_3 8 rfl rfl)
theorem dJ15_bitLength_82 : decode cJ15_bitLength 82 = .ok (.iload 5, 2) := dk_21 5 (dk_at dksJ15_bitLength_3 11 rfl rfl)
theorem dJ15_bitLength_84 : decode cJ15_bitLength 84 = .ok (.ifCond .eq 26, 3) := dk_153 0 26 (dk_at dksJ15_bitLength_3 13 rfl rfl)
theorem dJ15_bitLength_87 : decode cJ15_bitLength 87 = .ok (.aload_n 0, 1) := dk_42 (dk_at dksJ15_bitLength_3 16 rfl rfl)
theorem dJ15_bitLength_88 : decode cJ15_bitLength 88 = .ok (.getfield 28, 3) := dk_180 0 28 (dk_at dksJ15_bitLength_3 17 rfl rfl)
theorem dJ15_bitLength_91 : decode cJ15_bitLength 91 = .ok (.iload 6, 2) := dk_21 6 (dk_at dksJ15_bitLength_3 20 rfl rfl)
theorem dJ15_bitLength_93 : decode cJ15_bitLength 93 = .ok (.iaload, 1) := dk_46 (dk_at dksJ15_bitLength_3 22 rfl rfl)
theorem dJ15_bitLength_94 : decode cJ15_bitLength 94 = .ok (.ifCond .ne 7, 3) := dk_154 0 7 (dk_at dksJ15_bitLength_4 0 rfl rfl)
theorem dJ15_bitLength_97 : decode cJ15_bitLength 97 = .ok (.iconst 1, 1) := dk_4 (dk_at dksJ15_bitLength_4 3 rfl rfl)
theorem dJ15_bitLength_98 : decode cJ15_bitLength 98 = .ok (.goto 4, 3) := dk_167 0 4 (dk_at dksJ15_bitLength_4 4 rfl rfl)
theorem dJ15_bitLength_101 : decode cJ15_bitLength 101 = .ok (.iconst 0, 1) := dk_3 (dk_at dksJ15_bitLength_4 7 rfl rfl)
theorem dJ15_bitLength_102 : decode cJ15_bitLength 102 = .ok (.istore 5, 2) := dk_54 5 (dk_at dksJ15_bitLength_4 8 rfl rfl)
theorem dJ15_bitLength_104 : decode cJ15_bitLength 104 = .ok (.iinc 6 1, 3) := dk_132 6 1 (dk_at dksJ15_bitLength_4 10 rfl rfl)
theorem dJ15_bitLength_107 : decode cJ15_bitLength 107 = .ok (.goto (-31), 3) := dk_167 255 225 (dk_at dksJ15_bitLength_4 13 rfl rfl)
theorem dJ15_bitLength_110 : decode cJ15_bitLength 110 = .ok (.iload 5, 2) := dk_21 5 (dk_at dksJ15_bitLength_4 16 rfl rfl)
theorem dJ15_bitLength_112 : decode cJ15_bitLength 112 = .ok (.ifCond .eq 10, 3) := dk_153 0 10 (dk_at dksJ15_bitLength_4 18 rfl rfl)
theorem dJ15_bitLength_115 : decode cJ15_bitLength 115 = .ok (.iload 4, 2) := dk_21 4 (dk_at dksJ15_bitLength_4 21 rfl rfl)
theorem dJ15_bitLength_117 : decode cJ15_bitLength 117 = .ok (.iconst 1, 1) := dk_4 (dk_at dksJ15_bitLength_4 23 rfl rfl)
theorem dJ15_bitLength_118 : decode cJ15_bitLength 118 = .ok (.isub, 1) := dk_100 (dk_at dksJ15_bitLength_5 0 rfl rfl)
theorem dJ15_bitLength_119 : decode cJ15_bitLength 119 = .ok (.goto 5, 3) := dk_167 0 5 (dk_at dksJ15_bitLength_5 1 rfl rfl)
theorem dJ15_bitLength_122 : decode cJ15_bitLength 122 = .ok (.iload 4, 2) := dk_21 4 (dk_at dksJ15_bitLength_5 4 rfl rfl)
theorem dJ15_bitLength_124 : decode cJ15_bitLength 124 = .ok (.istore_n 1, 1) := dk_60 (dk_at dksJ15_bitLength_5 6 rfl rfl)
theorem dJ15_bitLength_125 : decode cJ15_bitLength 125 = .ok (.goto 6, 3) := dk_167 0 6 (dk_at dksJ15_bitLength_5 7 rfl rfl)
theorem dJ15_bitLength_128 : decode cJ15_bitLength 128 = .ok (.iload 4, 2) := dk_21 4 (dk_at dksJ15_bitLength_5 10 rfl rfl)
theorem dJ15_bitLength_130 : decode cJ15_bitLength 130 = .ok (.istore_n 1, 1) := dk_60 (dk_at dksJ15_bitLength_5 12 rfl rfl)
theorem dJ15_bitLength_131 : decode cJ15_bitLength 131 = .ok (.aload_n 0, 1) := dk_42 (dk_at dksJ15_bitLength_5 13 rfl rfl)
theorem dJ15_bitLength_132 : decode cJ15_bitLength 132 = .ok (.iload_n 1, 1) := dk_27 (dk_at dksJ15_bitLength_5 14 rfl rfl)
theorem dJ15_bitLength_133 : decode cJ15_bitLength 133 = .ok (.iconst 1, 1) := dk_4 (dk_at dksJ15_bitLength_5 15 rfl rfl)
theorem dJ15_bitLength_134 : decode cJ15_bitLength 134 = .ok (.iadd, 1) := dk_96 (dk_at dksJ15_bitLength_5 16 rfl rfl)
theorem dJ15_bitLength_135 : decode cJ15_bitLength 135 = .ok (.putfield 747, 3) := dk_181 2 235 (dk_at dksJ15_bitLength_5 17 rfl rfl)
theorem dJ15_bitLength_138 : decode cJ15_bitLength 138 = .ok (.iload_n 1, 1) := dk_27 (dk_at dksJ15_bitLength_5 20 rfl rfl)
theorem dJ15_bitLength_139 : decode cJ15_bitLength 139 = .ok (.ireturn, 1) := dk_172 (dk_at dksJ15_bitLength_5 21 rfl rfl)
abbrev cJ15_bitLengthForInt : ByteArray := prog_27_method_74_code
def yJ15_bitLengthForInt : MethodName := ⟨RJ15, "bitLengthForInt", "(I)I"⟩
def dkwJ15_bitLengthForInt_0 : List UInt8 := [16, 32, 26, 184, 2, 90, 100, 172]
abbrev dktJ15_bitLengthForInt_0 : List UInt8 := dkwJ15_bitLengthForInt_0 ++ []
theorem dksJ15_bitLengthForInt_0 : cJ15_bitLengthForInt.data.toList.drop 0 = dktJ15_bitLengthForInt_0 := by decide +kernel
theorem dJ15_bitLengthForInt_0 : decode cJ15_bitLengthForInt 0 = .ok (.bipush 32, 2) := dk_16 32 (dk_at dksJ15_bitLengthForInt_0 0 rfl rfl)
theorem dJ15_bitLengthForInt_2 : decode cJ15_bitLengthForInt 2 = .ok (.iload_n 0, 1) := dk_26 (dk_at dksJ15_bitLengthForInt_0 2 rfl rfl)
theorem dJ15_bitLengthForInt_3 : decode cJ15_bitLengthForInt 3 = .ok (.invokestatic 602, 3) := dk_184 2 90 (dk_at dksJ15_bitLengthForInt_0 3 rfl rfl)
theorem dJ15_bitLengthForInt_6 : decode cJ15_bitLengthForInt 6 = .ok (.isub, 1) := dk_100 (dk_at dksJ15_bitLengthForInt_0 6 rfl rfl)
theorem dJ15_bitLengthForInt_7 : decode cJ15_bitLengthForInt 7 = .ok (.ireturn, 1) := dk_172 (dk_at dksJ15_bitLengthForInt_0 7 rfl rfl)
abbrev cJ15_longValue : ByteArray := prog_27_method_136_code
def yJ15_longValue : MethodName := ⟨RJ15, "longValue", "()J"⟩
def dkwJ15_longValue_1 : List UInt8 := [132, 3, 255, 167, 255, 233, 31, 173]
abbrev dktJ15_longValue_1 : List UInt8 := dkwJ15_longValue_1 ++ []
def dkwJ15_longValue_0 : List UInt8 := [9, 64, 4, 62, 29, 155, 0, 25, 31, 16, 32, 121, 42, 29, 182, 2, 224, 133, 20, 0, 130, 127, 97, 64]
abbrev dktJ15_longValue_0 : List UInt8 := dkwJ15_longValue_0 ++ dktJ15_longValue_1
theorem dksJ15_longValue_0 : cJ15_longValue.data.toList.drop 0 = dktJ15_longValue_0 := by decide +kernel
theorem dksJ15_longValue_1 : cJ15_longValue.data.toList.drop 24 = dktJ15_longValue_1 := dk_seg dksJ15_longValue_0 24 rfl rfl
theorem dJ15_longValue_0 : decode cJ15_longValue 0 = .ok (.lconst 0, 1) := dk_9 (dk_at dksJ15_longValue_0 0 rfl rfl)
theorem dJ15_longValue_1 : decode cJ15_longValue 1 = .ok (.lstore_n 1, 1) := dk_64 (dk_at dksJ15_longValue_0 1 rfl rfl)
theorem dJ15_longValue_2 : decode cJ15_longValue 2 = .ok (.iconst 1, 1) := dk_4 (dk_at dksJ15_longValue_0 2 rfl rfl)
theorem dJ15_longValue_3 : decode cJ15_longValue 3 = .ok (.istore_n 3, 1) := dk_62 (dk_at dksJ15_longValue_0 3 rfl rfl)
theorem dJ15_longValue_4 : decode cJ15_longValue 4 = .ok (.iload_n 3, 1) := dk_29 (dk_at dksJ15_longValue_0 4 rfl rfl)
theorem dJ15_longValue_5 : decode cJ15_longValue 5 = .ok (.ifCond .lt 25, 3) := dk_155 0 25 (dk_at dksJ15_longValue_0 5 rfl rfl)
theorem dJ15_longValue_8 : decode cJ15_longValue 8 = .ok (.lload_n 1, 1) := dk_31 (dk_at dksJ15_longValue_0 8 rfl rfl)
theorem dJ15_longValue_9 : decode cJ15_longValue 9 = .ok (.bipush 32, 2) := dk_16 32 (dk_at dksJ15_longValue_0 9 rfl rfl)
theorem dJ15_longValue_11 : decode cJ15_longValue 11 = .ok (.lshl, 1) := dk_121 (dk_at dksJ15_longValue_0 11 rfl rfl)
theorem dJ15_longValue_12 : decode cJ15_longValue 12 = .ok (.aload_n 0, 1) := dk_42 (dk_at dksJ15_longValue_0 12 rfl rfl)
theorem dJ15_longValue_13 : decode cJ15_longValue 13 = .ok (.iload_n 3, 1) := dk_29 (dk_at dksJ15_longValue_0 13 rfl rfl)
theorem dJ15_longValue_14 : decode cJ15_longValue 14 = .ok (.invokevirtual 736, 3) := dk_182 2 224 (dk_at dksJ15_longValue_0 14 rfl rfl)
theorem dJ15_longValue_17 : decode cJ15_longValue 17 = .ok (.i2l, 1) := dk_133 (dk_at dksJ15_longValue_0 17 rfl rfl)
theorem dJ15_longValue_18 : decode cJ15_longValue 18 = .ok (.ldc2_w 130, 3) := dk_20 0 130 (dk_at dksJ15_longValue_0 18 rfl rfl)
theorem dJ15_longValue_21 : decode cJ15_longValue 21 = .ok (.land, 1) := dk_127 (dk_at dksJ15_longValue_0 21 rfl rfl)
theorem dJ15_longValue_22 : decode cJ15_longValue 22 = .ok (.ladd, 1) := dk_97 (dk_at dksJ15_longValue_0 22 rfl rfl)
theorem dJ15_longValue_23 : decode cJ15_longValue 23 = .ok (.lstore_n 1, 1) := dk_64 (dk_at dksJ15_longValue_0 23 rfl rfl)
theorem dJ15_longValue_24 : decode cJ15_longValue 24 = .ok (.iinc 3 (-1), 3) := dk_132 3 255 (dk_at dksJ15_longValue_1 0 rfl rfl)
theorem dJ15_longValue_27 : decode cJ15_longValue 27 = .ok (.goto (-23), 3) := dk_167 255 233 (dk_at dksJ15_longValue_1 3 rfl rfl)
theorem dJ15_longValue_30 : decode cJ15_longValue 30 = .ok (.lload_n 1, 1) := dk_31 (dk_at dksJ15_longValue_1 6 rfl rfl)
theorem dJ15_longValue_31 : decode cJ15_longValue 31 = .ok (.lreturn, 1) := dk_173 (dk_at dksJ15_longValue_1 7 rfl rfl)
abbrev cJ15_getInt : ByteArray := prog_27_method_148_code
def yJ15_getInt : MethodName := ⟨RJ15, "getInt", "(I)I"⟩
def dkwJ15_getInt_2 : List UInt8 := [182, 3, 95, 163, 0, 8, 28, 116, 167, 0, 6, 28, 2, 130, 172]
abbrev dktJ15_getInt_2 : List UInt8 := dkwJ15_getInt_2 ++ []
def dkwJ15_getInt_1 : List UInt8 := [42, 180, 0, 28, 190, 27, 100, 4, 100, 46, 61, 42, 180, 0, 32, 155, 0, 7, 28, 167, 0, 19, 27, 42]
abbrev dktJ15_getInt_1 : List UInt8 := dkwJ15_getInt_1 ++ dktJ15_getInt_2
def dkwJ15_getInt_0 : List UInt8 := [27, 156, 0, 5, 3, 172, 27, 42, 180, 0, 28, 190, 161, 0, 8, 42, 182, 3, 92, 172, 42, 180, 0, 28]
abbrev dktJ15_getInt_0 : List UInt8 := dkwJ15_getInt_0 ++ dktJ15_getInt_1
theorem dksJ15_getInt_0 : cJ15_getInt.data.toList.drop 0 = dktJ15_getInt_0 := by decide +kernel
theorem dksJ15_getInt_1 : cJ15_getInt.data.toList.drop 24 = dktJ15_getInt_1 := dk_seg dksJ15_getInt_0 24 rfl rfl
theorem dksJ15_getInt_2 : cJ15_getInt.data.toList.drop 48 = dktJ15_getInt_2 := dk_seg dksJ15_getInt_1 24 rfl rfl
theorem dJ15_getInt_0 : decode cJ15_getInt 0 = .ok (.iload_n 1, 1) := dk_27 (dk_at dksJ15_getInt_0 0 rfl rfl)
theorem dJ15_getInt_1 : decode cJ15_getInt 1 = .ok (.ifCond .ge 5, 3) := dk_156 0 5 (dk_at dksJ15_getInt_0 1 rfl rfl)
theorem dJ15_getInt_4 : decode cJ15_getInt 4 = .ok (.iconst 0, 1) := dk_3 (dk_at dksJ15_getInt_0 4 rfl rfl)
theorem dJ15_getInt_5 : decode cJ15_getInt 5 = .ok (.ireturn, 1) := dk_172 (dk_at dksJ15_getInt_0 5 rfl rfl)
theorem dJ15_getInt_6 : decode cJ15_getInt 6 = .ok (.iload_n 1, 1) := dk_27 (dk_at dksJ15_getInt_0 6 rfl rfl)
theorem dJ15_getInt_7 : decode cJ15_getInt 7 = .ok (.aload_n 0, 1) := dk_42 (dk_at dksJ15_getInt_0 7 rfl rfl)
theorem dJ15_getInt_8 : decode cJ15_getInt 8 = .ok (.getfield 28, 3) := dk_180 0 28 (dk_at dksJ15_getInt_0 8 rfl rfl)
theorem dJ15_getInt_11 : decode cJ15_getInt 11 = .ok (.arraylength, 1) := dk_190 (dk_at dksJ15_getInt_0 11 rfl rfl)
theorem dJ15_getInt_12 : decode cJ15_getInt 12 = .ok (.if_icmp .lt 8, 3) := dk_161 0 8 (dk_at dksJ15_getInt_0 12 rfl rfl)
theorem dJ15_getInt_15 : decode cJ15_getInt 15 = .ok (.aload_n 0, 1) := dk_42 (dk_at dksJ15_getInt_0 15 rfl rfl)
theorem dJ15_getInt_16 : decode cJ15_getInt 16 = .ok (.invokevirtual 860, 3) := dk_182 3 92 (dk_at dksJ15_getInt_0 16 rfl rfl)
theorem dJ15_getInt_19 : decode cJ15_getInt 19 = .ok (.ireturn, 1) := dk_172 (dk_at dksJ15_getInt_0 19 rfl rfl)
theorem dJ15_getInt_20 : decode cJ15_getInt 20 = .ok (.aload_n 0, 1) := dk_42 (dk_at dksJ15_getInt_0 20 rfl rfl)
theorem dJ15_getInt_21 : decode cJ15_getInt 21 = .ok (.getfield 28, 3) := dk_180 0 28 (dk_at dksJ15_getInt_0 21 rfl rfl)
theorem dJ15_getInt_24 : decode cJ15_getInt 24 = .ok (.aload_n 0, 1) := dk_42 (dk_at dksJ15_getInt_1 0 rfl rfl)
theorem dJ15_getInt_25 : decode cJ15_getInt 25 = .ok (.getfield 28, 3) := dk_180 0 28 (dk_at dksJ15_getInt_1 1 rfl rfl)
theorem dJ15_getInt_28 : decode cJ15_getInt 28 = .ok (.arraylength, 1) := dk_190 (dk_at dksJ15_getInt_1 4 rfl rfl)
theorem dJ15_getInt_29 : decode cJ15_getInt 29 = .ok (.iload_n 1, 1) := dk_27 (dk_at dksJ15_getInt_1 5 rfl rfl)
theorem dJ15_getInt_30 : decode cJ15_getInt 30 = .ok (.isub, 1) := dk_100 (dk_at dksJ15_getInt_1 6 rfl rfl)
theorem dJ15_getInt_31 : decode cJ15_getInt 31 = .ok (.iconst 1, 1) := dk_4 (dk_at dksJ15_getInt_1 7 rfl rfl)
theorem dJ15_getInt_32 : decode cJ15_getInt 32 = .ok (.isub, 1) := dk_100 (dk_at dksJ15_getInt_1 8 rfl rfl)
theorem dJ15_getInt_33 : decode cJ15_getInt 33 = .ok (.iaload, 1) := dk_46 (dk_at dksJ15_getInt_1 9 rfl rfl)
theorem dJ15_getInt_34 : decode cJ15_getInt 34 = .ok (.istore_n 2, 1) := dk_61 (dk_at dksJ15_getInt_1 10 rfl rfl)
theorem dJ15_getInt_35 : decode cJ15_getInt 35 = .ok (.aload_n 0, 1) := dk_42 (dk_at dksJ15_getInt_1 11 rfl rfl)
theorem dJ15_getInt_36 : decode cJ15_getInt 36 = .ok (.getfield 32, 3) := dk_180 0 32 (dk_at dksJ15_getInt_1 12 rfl rfl)
theorem dJ15_getInt_39 : decode cJ15_getInt 39 = .ok (.ifCond .lt 7, 3) := dk_155 0 7 (dk_at dksJ15_getInt_1 15 rfl rfl)
theorem dJ15_getInt_42 : decode cJ15_getInt 42 = .ok (.iload_n 2, 1) := dk_28 (dk_at dksJ15_getInt_1 18 rfl rfl)
theorem dJ15_getInt_43 : decode cJ15_getInt 43 = .ok (.goto 19, 3) := dk_167 0 19 (dk_at dksJ15_getInt_1 19 rfl rfl)
theorem dJ15_getInt_46 : decode cJ15_getInt 46 = .ok (.iload_n 1, 1) := dk_27 (dk_at dksJ15_getInt_1 22 rfl rfl)
theorem dJ15_getInt_47 : decode cJ15_getInt 47 = .ok (.aload_n 0, 1) := dk_42 (dk_at dksJ15_getInt_1 23 rfl rfl)
theorem dJ15_getInt_48 : decode cJ15_getInt 48 = .ok (.invokevirtual 863, 3) := dk_182 3 95 (dk_at dksJ15_getInt_2 0 rfl rfl)
theorem dJ15_getInt_51 : decode cJ15_getInt 51 = .ok (.if_icmp .gt 8, 3) := dk_163 0 8 (dk_at dksJ15_getInt_2 3 rfl rfl)
theorem dJ15_getInt_54 : decode cJ15_getInt 54 = .ok (.iload_n 2, 1) := dk_28 (dk_at dksJ15_getInt_2 6 rfl rfl)
theorem dJ15_getInt_55 : decode cJ15_getInt 55 = .ok (.ineg, 1) := dk_116 (dk_at dksJ15_getInt_2 7 rfl rfl)
theorem dJ15_getInt_56 : decode cJ15_getInt 56 = .ok (.goto 6, 3) := dk_167 0 6 (dk_at dksJ15_getInt_2 8 rfl rfl)
theorem dJ15_getInt_59 : decode cJ15_getInt 59 = .ok (.iload_n 2, 1) := dk_28 (dk_at dksJ15_getInt_2 11 rfl rfl)
theorem dJ15_getInt_60 : decode cJ15_getInt 60 = .ok (.iconst (-1), 1) := dk_2 (dk_at dksJ15_getInt_2 12 rfl rfl)
theorem dJ15_getInt_61 : decode cJ15_getInt 61 = .ok (.ixor, 1) := dk_130 (dk_at dksJ15_getInt_2 13 rfl rfl)
theorem dJ15_getInt_62 : decode cJ15_getInt 62 = .ok (.ireturn, 1) := dk_172 (dk_at dksJ15_getInt_2 14 rfl rfl)
abbrev cJ15_signInt : ByteArray := prog_27_method_147_code
def yJ15_signInt : MethodName := ⟨RJ15, "signInt", "()I"⟩
def dkwJ15_signInt_0 : List UInt8 := [42, 180, 0, 32, 156, 0, 7, 2, 167, 0, 4, 3, 172]
abbrev dktJ15_signInt_0 : List UInt8 := dkwJ15_signInt_0 ++ []
theorem dksJ15_signInt_0 : cJ15_signInt.data.toList.drop 0 = dktJ15_signInt_0 := by decide +kernel
theorem dJ15_signInt_0 : decode cJ15_signInt 0 = .ok (.aload_n 0, 1) := dk_42 (dk_at dksJ15_signInt_0 0 rfl rfl)
theorem dJ15_signInt_1 : decode cJ15_signInt 1 = .ok (.getfield 32, 3) := dk_180 0 32 (dk_at dksJ15_signInt_0 1 rfl rfl)
theorem dJ15_signInt_4 : decode cJ15_signInt 4 = .ok (.ifCond .ge 7, 3) := dk_156 0 7 (dk_at dksJ15_signInt_0 4 rfl rfl)
theorem dJ15_signInt_7 : decode cJ15_signInt 7 = .ok (.iconst (-1), 1) := dk_2 (dk_at dksJ15_signInt_0 7 rfl rfl)
theorem dJ15_signInt_8 : decode cJ15_signInt 8 = .ok (.goto 4, 3) := dk_167 0 4 (dk_at dksJ15_signInt_0 8 rfl rfl)
theorem dJ15_signInt_11 : decode cJ15_signInt 11 = .ok (.iconst 0, 1) := dk_3 (dk_at dksJ15_signInt_0 11 rfl rfl)
theorem dJ15_signInt_12 : decode cJ15_signInt 12 = .ok (.ireturn, 1) := dk_172 (dk_at dksJ15_signInt_0 12 rfl rfl)
abbrev cJ15_firstNonzeroIntNum : ByteArray := prog_27_method_149_code
def yJ15_firstNonzeroIntNum : MethodName := ⟨RJ15, "firstNonzeroIntNum", "()I"⟩
def dkwJ15_firstNonzeroIntNum_2 : List UInt8 := [42, 27, 5, 96, 181, 3, 98, 27, 172]
abbrev dktJ15_firstNonzeroIntNum_2 : List UInt8 := dkwJ15_firstNonzeroIntNum_2 ++ []
def dkwJ15_firstNonzeroIntNum_1 : List UInt8 := [155, 0, 18, 42, 180, 0, 28, 28, 46, 154, 0, 9, 132, 2, 255, 167, 255, 240, 29, 28, 100, 4, 100, 60]
abbrev dktJ15_firstNonzeroIntNum_1 : List UInt8 := dkwJ15_firstNonzeroIntNum_1 ++ dktJ15_firstNonzeroIntNum_2
def dkwJ15_firstNonzeroIntNum_0 : List UInt8 := [42, 180, 3, 98, 5, 100, 60, 27, 16, 254, 160, 0, 45, 42, 180, 0, 28, 190, 62, 29, 4, 100, 61, 28]
abbrev dktJ15_firstNonzeroIntNum_0 : List UInt8 := dkwJ15_firstNonzeroIntNum_0 ++ dktJ15_firstNonzeroIntNum_1
theorem dksJ15_firstNonzeroIntNum_0 : cJ15_firstNonzeroIntNum.data.toList.drop 0 = dktJ15_firstNonzeroIntNum_0 := by decide +kernel
theorem dksJ15_firstNonzeroIntNum_1 : cJ15_firstNonzeroIntNum.data.toList.drop 24 = dktJ15_firstNonzeroIntNum_1 := dk_seg dksJ15_firstNonzeroIntNum_0 24 rfl rfl
theorem dksJ15_firstNonzeroIntNum_2 : cJ15_firstNonzeroIntNum.data.toList.drop 48 = dktJ15_firstNonzeroIntNum_2 := dk_seg dksJ15_firstNonzeroIntNum_1 24 rfl rfl
theorem dJ15_firstNonzeroIntNum_0 : decode cJ15_firstNonzeroIntNum 0 = .ok (.aload_n 0, 1) := dk_42 (dk_at dksJ15_firstNonzeroIntNum_0 0 rfl rfl)
theorem dJ15_firstNonzeroIntNum_1 : decode cJ15_firstNonzeroIntNum 1 = .ok (.getfield 866, 3) := dk_180 3 98 (dk_at dksJ15_firstNonzeroIntNum_0 1 rfl rfl)
theorem dJ15_firstNonzeroIntNum_4 : decode cJ15_firstNonzeroIntNum 4 = .ok (.iconst 2, 1) := dk_5 (dk_at dksJ15_firstNonzeroIntNum_0 4 rfl rfl)
theorem dJ15_firstNonzeroIntNum_5 : decode cJ15_firstNonzeroIntNum 5 = .ok (.isub, 1) := dk_100 (dk_at dksJ15_firstNonzeroIntNum_0 5 rfl rfl)
theorem dJ15_firstNonzeroIntNum_6 : decode cJ15_firstNonzeroIntNum 6 = .ok (.istore_n 1, 1) := dk_60 (dk_at dksJ15_firstNonzeroIntNum_0 6 rfl rfl)
theorem dJ15_firstNonzeroIntNum_7 : decode cJ15_firstNonzeroIntNum 7 = .ok (.iload_n 1, 1) := dk_27 (dk_at dksJ15_firstNonzeroIntNum_0 7 rfl rfl)
theorem dJ15_firstNonzeroIntNum_8 : decode cJ15_firstNonzeroIntNum 8 = .ok (.bipush (-2), 2) := dk_16 254 (dk_at dksJ15_firstNonzeroIntNum_0 8 rfl rfl)
theorem dJ15_firstNonzeroIntNum_10 : decode cJ15_firstNonzeroIntNum 10 = .ok (.if_icmp .ne 45, 3) := dk_160 0 45 (dk_at dksJ15_firstNonzeroIntNum_0 10 rfl rfl)
theorem dJ15_firstNonzeroIntNum_13 : decode cJ15_firstNonzeroIntNum 13 = .ok (.aload_n 0, 1) := dk_42 (dk_at dksJ15_firstNonzeroIntNum_0 13 rfl rfl)
theorem dJ15_firstNonzeroIntNum_14 : decode cJ15_firstNonzeroIntNum 14 = .ok (.getfield 28, 3) := dk_180 0 28 (dk_at dksJ15_firstNonzeroIntNum_0 14 rfl rfl)
theorem dJ15_firstNonzeroIntNum_17 : decode cJ15_firstNonzeroIntNum 17 = .ok (.arraylength, 1) := dk_190 (dk_at dksJ15_firstNonzeroIntNum_0 17 rfl rfl)
theorem dJ15_firstNonzeroIntNum_18 : decode cJ15_firstNonzeroIntNum 18 = .ok (.istore_n 3, 1) := dk_62 (dk_at dksJ15_firstNonzeroIntNum_0 18 rfl rfl)
theorem dJ15_firstNonzeroIntNum_19 : decode cJ15_firstNonzeroIntNum 19 = .ok (.iload_n 3, 1) := dk_29 (dk_at dksJ15_firstNonzeroIntNum_0 19 rfl rfl)
theorem dJ15_firstNonzeroIntNum_20 : decode cJ15_firstNonzeroIntNum 20 = .ok (.iconst 1, 1) := dk_4 (dk_at dksJ15_firstNonzeroIntNum_0 20 rfl rfl)
theorem dJ15_firstNonzeroIntNum_21 : decode cJ15_firstNonzeroIntNum 21 = .ok (.isub, 1) := dk_100 (dk_at dksJ15_firstNonzeroIntNum_0 21 rfl rfl)
theorem dJ15_firstNonzeroIntNum_22 : decode cJ15_firstNonzeroIntNum 22 = .ok (.istore_n 2, 1) := dk_61 (dk_at dksJ15_firstNonzeroIntNum_0 22 rfl rfl)
theorem dJ15_firstNonzeroIntNum_23 : decode cJ15_firstNonzeroIntNum 23 = .ok (.iload_n 2, 1) := dk_28 (dk_at dksJ15_firstNonzeroIntNum_0 23 rfl rfl)
theorem dJ15_firstNonzeroIntNum_24 : decode cJ15_firstNonzeroIntNum 24 = .ok (.ifCond .lt 18, 3) := dk_155 0 18 (dk_at dksJ15_firstNonzeroIntNum_1 0 rfl rfl)
theorem dJ15_firstNonzeroIntNum_27 : decode cJ15_firstNonzeroIntNum 27 = .ok (.aload_n 0, 1) := dk_42 (dk_at dksJ15_firstNonzeroIntNum_1 3 rfl rfl)
theorem dJ15_firstNonzeroIntNum_28 : decode cJ15_firstNonzeroIntNum 28 = .ok (.getfield 28, 3) := dk_180 0 28 (dk_at dksJ15_firstNonzeroIntNum_1 4 rfl rfl)
theorem dJ15_firstNonzeroIntNum_31 : decode cJ15_firstNonzeroIntNum 31 = .ok (.iload_n 2, 1) := dk_28 (dk_at dksJ15_firstNonzeroIntNum_1 7 rfl rfl)
theorem dJ15_firstNonzeroIntNum_32 : decode cJ15_firstNonzeroIntNum 32 = .ok (.iaload, 1) := dk_46 (dk_at dksJ15_firstNonzeroIntNum_1 8 rfl rfl)
theorem dJ15_firstNonzeroIntNum_33 : decode cJ15_firstNonzeroIntNum 33 = .ok (.ifCond .ne 9, 3) := dk_154 0 9 (dk_at dksJ15_firstNonzeroIntNum_1 9 rfl rfl)
theorem dJ15_firstNonzeroIntNum_36 : decode cJ15_firstNonzeroIntNum 36 = .ok (.iinc 2 (-1), 3) := dk_132 2 255 (dk_at dksJ15_firstNonzeroIntNum_1 12 rfl rfl)
theorem dJ15_firstNonzeroIntNum_39 : decode cJ15_firstNonzeroIntNum 39 = .ok (.goto (-16), 3) := dk_167 255 240 (dk_at dksJ15_firstNonzeroIntNum_1 15 rfl rfl)
theorem dJ15_firstNonzeroIntNum_42 : decode cJ15_firstNonzeroIntNum 42 = .ok (.iload_n 3, 1) := dk_29 (dk_at dksJ15_firstNonzeroIntNum_1 18 rfl rfl)
theorem dJ15_firstNonzeroIntNum_43 : decode cJ15_firstNonzeroIntNum 43 = .ok (.iload_n 2, 1) := dk_28 (dk_at dksJ15_firstNonzeroIntNum_1 19 rfl rfl)
theorem dJ15_firstNonzeroIntNum_44 : decode cJ15_firstNonzeroIntNum 44 = .ok (.isub, 1) := dk_100 (dk_at dksJ15_firstNonzeroIntNum_1 20 rfl rfl)
theorem dJ15_firstNonzeroIntNum_45 : decode cJ15_firstNonzeroIntNum 45 = .ok (.iconst 1, 1) := dk_4 (dk_at dksJ15_firstNonzeroIntNum_1 21 rfl rfl)
theorem dJ15_firstNonzeroIntNum_46 : decode cJ15_firstNonzeroIntNum 46 = .ok (.isub, 1) := dk_100 (dk_at dksJ15_firstNonzeroIntNum_1 22 rfl rfl)
theorem dJ15_firstNonzeroIntNum_47 : decode cJ15_firstNonzeroIntNum 47 = .ok (.istore_n 1, 1) := dk_60 (dk_at dksJ15_firstNonzeroIntNum_1 23 rfl rfl)
theorem dJ15_firstNonzeroIntNum_48 : decode cJ15_firstNonzeroIntNum 48 = .ok (.aload_n 0, 1) := dk_42 (dk_at dksJ15_firstNonzeroIntNum_2 0 rfl rfl)
theorem dJ15_firstNonzeroIntNum_49 : decode cJ15_firstNonzeroIntNum 49 = .ok (.iload_n 1, 1) := dk_27 (dk_at dksJ15_firstNonzeroIntNum_2 1 rfl rfl)
theorem dJ15_firstNonzeroIntNum_50 : decode cJ15_firstNonzeroIntNum 50 = .ok (.iconst 2, 1) := dk_5 (dk_at dksJ15_firstNonzeroIntNum_2 2 rfl rfl)
theorem dJ15_firstNonzeroIntNum_51 : decode cJ15_firstNonzeroIntNum 51 = .ok (.iadd, 1) := dk_96 (dk_at dksJ15_firstNonzeroIntNum_2 3 rfl rfl)
theorem dJ15_firstNonzeroIntNum_52 : decode cJ15_firstNonzeroIntNum 52 = .ok (.putfield 866, 3) := dk_181 3 98 (dk_at dksJ15_firstNonzeroIntNum_2 4 rfl rfl)
theorem dJ15_firstNonzeroIntNum_55 : decode cJ15_firstNonzeroIntNum 55 = .ok (.iload_n 1, 1) := dk_27 (dk_at dksJ15_firstNonzeroIntNum_2 7 rfl rfl)
theorem dJ15_firstNonzeroIntNum_56 : decode cJ15_firstNonzeroIntNum 56 = .ok (.ireturn, 1) := dk_172 (dk_at dksJ15_firstNonzeroIntNum_2 8 rfl rfl)
abbrev cJ15_multiply : ByteArray := prog_27_method_40_code
def yJ15_multiply : MethodName := ⟨RJ15, "multiply", "(Ljava/math/BigInteger;)Ljava/math/BigInteger;"⟩
def dkwJ15_multiply_0 : List UInt8 := [42, 43, 3, 3, 3, 182, 1, 141, 176]
abbrev dktJ15_multiply_0 : List UInt8 := dkwJ15_multiply_0 ++ []
theorem dksJ15_multiply_0 : cJ15_multiply.data.toList.drop 0 = dktJ15_multiply_0 := by decide +kernel
theorem dJ15_multiply_0 : decode cJ15_multiply 0 = .ok (.aload_n 0, 1) := dk_42 (dk_at dksJ15_multiply_0 0 rfl rfl)
theorem dJ15_multiply_1 : decode cJ15_multiply 1 = .ok (.aload_n 1, 1) := dk_43 (dk_at dksJ15_multiply_0 1 rfl rfl)
theorem dJ15_multiply_2 : decode cJ15_multiply 2 = .ok (.iconst 0, 1) := dk_3 (dk_at dksJ15_multiply_0 2 rfl rfl)
theorem dJ15_multiply_3 : decode cJ15_multiply 3 = .ok (.iconst 0, 1) := dk_3 (dk_at dksJ15_multiply_0 3 rfl rfl)
theorem dJ15_multiply_4 : decode cJ15_multiply 4 = .ok (.iconst 0, 1) := dk_3 (dk_at dksJ15_multiply_0 4 rfl rfl)
theorem dJ15_multiply_5 : decode cJ15_multiply 5 = .ok (.invokevirtual 397, 3) := dk_182 1 141 (dk_at dksJ15_multiply_0 5 rfl rfl)
theorem dJ15_multiply_8 : decode cJ15_multiply 8 = .ok (.areturn, 1) := dk_176 (dk_at dksJ15_multiply_0 8 rfl rfl)
abbrev cJ15_multiply_2 : ByteArray := prog_27_method_42_code
def yJ15_multiply_2 : MethodName := ⟨RJ15, "multiply", "(Ljava/math/BigInteger;ZZI)Ljava/math/BigInteger;"⟩
def dkwJ15_multiply_2_10 : List UInt8 := [43, 29, 21, 4, 184, 1, 163, 176]
abbrev dktJ15_multiply_2_10 : List UInt8 := dkwJ15_multiply_2_10 ++ []
def dkwJ15_multiply_2_9 : List UInt8 := [180, 0, 28, 43, 180, 0, 28, 190, 184, 1, 158, 133, 97, 20, 1, 161, 148, 158, 0, 6, 184, 0, 101, 42]
abbrev dktJ15_multiply_2_9 : List UInt8 := dkwJ15_multiply_2_9 ++ dktJ15_multiply_2_10
def dkwJ15_multiply_2_8 : List UInt8 := [184, 1, 155, 176, 28, 154, 0, 40, 42, 180, 0, 28, 42, 180, 0, 28, 190, 184, 1, 158, 133, 43]
abbrev dktJ15_multiply_2_8 : List UInt8 := dkwJ15_multiply_2_8 ++ dktJ15_multiply_2_9
def dkwJ15_multiply_2_7 : List UInt8 := [21, 7, 183, 0, 175, 176, 21, 5, 17, 0, 240, 162, 0, 17, 21, 6, 17, 0, 240, 162, 0, 9, 42, 43]
abbrev dktJ15_multiply_2_7 : List UInt8 := dkwJ15_multiply_2_7 ++ dktJ15_multiply_2_8
def dkwJ15_multiply_2_6 : List UInt8 := [180, 0, 28, 21, 6, 1, 184, 1, 151, 58, 8, 25, 8, 184, 0, 53, 58, 8, 187, 0, 23, 89, 25, 8]
abbrev dktJ15_multiply_2_6 : List UInt8 := dkwJ15_multiply_2_6 ++ dktJ15_multiply_2_7
def dkwJ15_multiply_2_5 : List UInt8 := [43, 180, 0, 28, 42, 180, 0, 28, 3, 46, 21, 7, 184, 1, 147, 176, 42, 180, 0, 28, 21, 5, 43]
abbrev dktJ15_multiply_2_5 : List UInt8 := dkwJ15_multiply_2_5 ++ dktJ15_multiply_2_6
def dkwJ15_multiply_2_4 : List UInt8 := [180, 0, 28, 43, 180, 0, 28, 3, 46, 21, 7, 184, 1, 147, 176, 42, 180, 0, 28, 190, 4, 160, 0, 19]
abbrev dktJ15_multiply_2_4 : List UInt8 := dkwJ15_multiply_2_4 ++ dktJ15_multiply_2_5
def dkwJ15_multiply_2_3 : List UInt8 := [43, 180, 0, 32, 160, 0, 7, 4, 167, 0, 4, 2, 54, 7, 43, 180, 0, 28, 190, 4, 160, 0, 19, 42]
abbrev dktJ15_multiply_2_3 : List UInt8 := dkwJ15_multiply_2_3 ++ dktJ15_multiply_2_4
def dkwJ15_multiply_2_2 : List UInt8 := [180, 0, 28, 190, 54, 6, 21, 5, 16, 80, 161, 0, 10, 21, 6, 16, 80, 162, 0, 108, 42, 180, 0, 32]
abbrev dktJ15_multiply_2_2 : List UInt8 := dkwJ15_multiply_2_2 ++ dktJ15_multiply_2_3
def dkwJ15_multiply_2_1 : List UInt8 := [54, 5, 43, 42, 166, 0, 19, 21, 5, 16, 20, 164, 0, 12, 42, 4, 29, 21, 4, 182, 1, 144, 176, 43]
abbrev dktJ15_multiply_2_1 : List UInt8 := dkwJ15_multiply_2_1 ++ dktJ15_multiply_2_2
def dkwJ15_multiply_2_0 : List UInt8 := [43, 180, 0, 32, 153, 0, 10, 42, 180, 0, 32, 154, 0, 7, 178, 0, 22, 176, 42, 180, 0, 28, 190]
abbrev dktJ15_multiply_2_0 : List UInt8 := dkwJ15_multiply_2_0 ++ dktJ15_multiply_2_1
theorem dksJ15_multiply_2_0 : cJ15_multiply_2.data.toList.drop 0 = dktJ15_multiply_2_0 := by decide +kernel
theorem dksJ15_multiply_2_1 : cJ15_multiply_2.data.toList.drop 23 = dktJ15_multiply_2_1 := dk_seg dksJ15_multiply_2_0 23 rfl rfl
theorem dksJ15_multiply_2_2 : cJ15_multiply_2.data.toList.drop 47 = dktJ15_multiply_2_2 := dk_seg dksJ15_multiply_2_1 24 rfl rfl
theorem dksJ15_multiply_2_3 : cJ15_multiply_2.data.toList.drop 71 = dktJ15_multiply_2_3 := dk_seg dksJ15_multiply_2_2 24 rfl rfl
theorem dksJ15_multiply_2_4 : cJ15_multiply_2.data.toList.drop 95 = dktJ15_multiply_2_4 := dk_seg dksJ15_multiply_2_3 24 rfl rfl
theorem dksJ15_multiply_2_5 : cJ15_multiply_2.data.toList.drop 119 = dktJ15_multiply_2_5 := dk_seg dksJ15_multiply_2_4 24 rfl rfl
theorem dksJ15_multiply_2_6 : cJ15_multiply_2.data.toList.drop 142 = dktJ15_multiply_2_6 := dk_seg dksJ15_multiply_2_5 23 rfl rfl
theorem dksJ15_multiply_2_7 : cJ15_multiply_2.data.toList.drop 166 = dktJ15_multiply_2_7 := dk_seg dksJ15_multiply_2_6 24 rfl rfl
theorem dksJ15_multiply_2_8 : cJ15_multiply_2.data.toList.drop 190 = dktJ15_multiply_2_8 := dk_seg dksJ15_multiply_2_7 24 rfl rfl
theorem dksJ15_multiply_2_9 : cJ15_multiply_2.data.toList.drop 212 = dktJ15_multiply_2_9 := dk_seg dksJ15_multiply_2_8 22 rfl rfl
theorem dksJ15_multiply_2_10 : cJ15_multiply_2.data.toList.drop 236 = dktJ15_multiply_2_10 := dk_seg dksJ15_multiply_2_9 24 rfl rfl
theorem dJ15_multiply_2_0 : decode cJ15_multiply_2 0 = .ok (.aload_n 1, 1) := dk_43 (dk_at dksJ15_multiply_2_0 0 rfl rfl)
theorem dJ15_multiply_2_1 : decode cJ15_multiply_2 1 = .ok (.getfield 32, 3) := dk_180 0 32 (dk_at dksJ15_multiply_2_0 1 rfl rfl)
theorem dJ15_multiply_2_4 : decode cJ15_multiply_2 4 = .ok (.ifCond .eq 10, 3) := dk_153 0 10 (dk_at dksJ15_multiply_2_0 4 rfl rfl)
theorem dJ15_multiply_2_7 : decode cJ15_multiply_2 7 = .ok (.aload_n 0, 1) := dk_42 (dk_at dksJ15_multiply_2_0 7 rfl rfl)
theorem dJ15_multiply_2_8 : decode cJ15_multiply_2 8 = .ok (.getfield 32, 3) := dk_180 0 32 (dk_at dksJ15_multiply_2_0 8 rfl rfl)
theorem dJ15_multiply_2_11 : decode cJ15_multiply_2 11 = .ok (.ifCond .ne 7, 3) := dk_154 0 7 (dk_at dksJ15_multiply_2_0 11 rfl rfl)
theorem dJ15_multiply_2_14 : decode cJ15_multiply_2 14 = .ok (.getstatic 22, 3) := dk_178 0 22 (dk_at dksJ15_multiply_2_0 14 rfl rfl)
theorem dJ15_multiply_2_17 : decode cJ15_multiply_2 17 = .ok (.areturn, 1) := dk_176 (dk_at dksJ15_multiply_2_0 17 rfl rfl)
theorem dJ15_multiply_2_18 : decode cJ15_multiply_2 18 = .ok (.aload_n 0, 1) := dk_42 (dk_at dksJ15_multiply_2_0 18 rfl rfl)
theorem dJ15_multiply_2_19 : decode cJ15_multiply_2 19 = .ok (.getfield 28, 3) := dk_180 0 28 (dk_at dksJ15_multiply_2_0 19 rfl rfl)
theorem dJ15_multiply_2_22 : decode cJ15_multiply_2 22 = .ok (.arraylength, 1) := dk_190 (dk_at dksJ15_multiply_2_0 22 rfl rfl)
theorem dJ15_multiply_2_23 : decode cJ15_multiply_2 23 = .ok (.istore 5, 2) := dk_54 5 (dk_at dksJ15_multiply_2_1 0 rfl rfl)
theorem dJ15_multiply_2_25 : decode cJ15_multiply_2 25 = .ok (.aload_n 1, 1) := dk_43 (dk_at dksJ15_multiply_2_1 2 rfl rfl)
theorem dJ15_multiply_2_26 : decode cJ15_multiply_2 26 = .ok (.aload_n 0, 1) := dk_42 (dk_at dksJ15_multiply_2_1 3 rfl rfl)
theorem dJ15_multiply_2_27 : decode cJ15_multiply_2 27 = .ok (.if_acmp .ne 19, 3) := dk_166 0 19 (dk_at dksJ15_multiply_2_1 4 rfl rfl)
theorem dJ15_multiply_2_30 : decode cJ15_multiply_2 30 = .ok (.iload 5, 2) := dk_21 5 (dk_at dksJ15_multiply_2_1 7 rfl rfl)
theorem dJ15_multiply_2_32 : decode cJ15_multiply_2 32 = .ok (.bipush 20, 2) := dk_16 20 (dk_at dksJ15_multiply_2_1 9 rfl rfl)
theorem dJ15_multiply_2_34 : decode cJ15_multiply_2 34 = .ok (.if_icmp .le 12, 3) := dk_164 0 12 (dk_at dksJ15_multiply_2_1 11 rfl rfl)
theorem dJ15_multiply_2_37 : decode cJ15_multiply_2 37 = .ok (.aload_n 0, 1) := dk_42 (dk_at dksJ15_multiply_2_1 14 rfl rfl)
theorem dJ15_multiply_2_38 : decode cJ15_multiply_2 38 = .ok (.iconst 1, 1) := dk_4 (dk_at dksJ15_multiply_2_1 15 rfl rfl)
theorem dJ15_multiply_2_39 : decode cJ15_multiply_2 39 = .ok (.iload_n 3, 1) := dk_29 (dk_at dksJ15_multiply_2_1 16 rfl rfl)
theorem dJ15_multiply_2_40 : decode cJ15_multiply_2 40 = .ok (.iload 4, 2) := dk_21 4 (dk_at dksJ15_multiply_2_1 17 rfl rfl)
theorem dJ15_multiply_2_42 : decode cJ15_multiply_2 42 = .ok (.invokevirtual 400, 3) := dk_182 1 144 (dk_at dksJ15_multiply_2_1 19 rfl rfl)
theorem dJ15_multiply_2_45 : decode cJ15_multiply_2 45 = .ok (.areturn, 1) := dk_176 (dk_at dksJ15_multiply_2_1 22 rfl rfl)
theorem dJ15_multiply_2_46 : decode cJ15_multiply_2 46 = .ok (.aload_n 1, 1) := dk_43 (dk_at dksJ15_multiply_2_1 23 rfl rfl)
theorem dJ15_multiply_2_47 : decode cJ15_multiply_2 47 = .ok (.getfield 28, 3) := dk_180 0 28 (dk_at dksJ15_multiply_2_2 0 rfl rfl)
theorem dJ15_multiply_2_50 : decode cJ15_multiply_2 50 = .ok (.arraylength, 1) := dk_190 (dk_at dksJ15_multiply_2_2 3 rfl rfl)
theorem dJ15_multiply_2_51 : decode cJ15_multiply_2 51 = .ok (.istore 6, 2) := dk_54 6 (dk_at dksJ15_multiply_2_2 4 rfl rfl)
theorem dJ15_multiply_2_53 : decode cJ15_multiply_2 53 = .ok (.iload 5, 2) := dk_21 5 (dk_at dksJ15_multiply_2_2 6 rfl rfl)
theorem dJ15_multiply_2_55 : decode cJ15_multiply_2 55 = .ok (.bipush 80, 2) := dk_16 80 (dk_at dksJ15_multiply_2_2 8 rfl rfl)
theorem dJ15_multiply_2_57 : decode cJ15_multiply_2 57 = .ok (.if_icmp .lt 10, 3) := dk_161 0 10 (dk_at dksJ15_multiply_2_2 10 rfl rfl)
theorem dJ15_multiply_2_60 : decode cJ15_multiply_2 60 = .ok (.iload 6, 2) := dk_21 6 (dk_at dksJ15_multiply_2_2 13 rfl rfl)
theorem dJ15_multiply_2_62 : decode cJ15_multiply_2 62 = .ok (.bipush 80, 2) := dk_16 80 (dk_at dksJ15_multiply_2_2 15 rfl rfl)
theorem dJ15_multiply_2_64 : decode cJ15_multiply_2 64 = .ok (.if_icmp .ge 108, 3) := dk_162 0 108 (dk_at dksJ15_multiply_2_2 17 rfl rfl)
theorem dJ15_multiply_2_67 : decode cJ15_multiply_2 67 = .ok (.aload_n 0, 1) := dk_42 (dk_at dksJ15_multiply_2_2 20 rfl rfl)
theorem dJ15_multiply_2_68 : decode cJ15_multiply_2 68 = .ok (.getfield 32, 3) := dk_180 0 32 (dk_at dksJ15_multiply_2_2 21 rfl rfl)
theorem dJ15_multiply_2_71 : decode cJ15_multiply_2 71 = .ok (.aload_n 1, 1) := dk_43 (dk_at dksJ15_multiply_2_3 0 rfl rfl)
theorem dJ15_multiply_2_72 : decode cJ15_multiply_2 72 = .ok (.getfield 32, 3) := dk_180 0 32 (dk_at dksJ15_multiply_2_3 1 rfl rfl)
theorem dJ15_multiply_2_75 : decode cJ15_multiply_2 75 = .ok (.if_icmp .ne 7, 3) := dk_160 0 7 (dk_at dksJ15_multiply_2_3 4 rfl rfl)
theorem dJ15_multiply_2_78 : decode cJ15_multiply_2 78 = .ok (.iconst 1, 1) := dk_4 (dk_at dksJ15_multiply_2_3 7 rfl rfl)
theorem dJ15_multiply_2_79 : decode cJ15_multiply_2 79 = .ok (.goto 4, 3) := dk_167 0 4 (dk_at dksJ15_multiply_2_3 8 rfl rfl)
theorem dJ15_multiply_2_82 : decode cJ15_multiply_2 82 = .ok (.iconst (-1), 1) := dk_2 (dk_at dksJ15_multiply_2_3 11 rfl rfl)
theorem dJ15_multiply_2_83 : decode cJ15_multiply_2 83 = .ok (.istore 7, 2) := dk_54 7 (dk_at dksJ15_multiply_2_3 12 rfl rfl)
theorem dJ15_multiply_2_85 : decode cJ15_multiply_2 85 = .ok (.aload_n 1, 1) := dk_43 (dk_at dksJ15_multiply_2_3 14 rfl rfl)
theorem dJ15_multiply_2_86 : decode cJ15_multiply_2 86 = .ok (.getfield 28, 3) := dk_180 0 28 (dk_at dksJ15_multiply_2_3 15 rfl rfl)
theorem dJ15_multiply_2_89 : decode cJ15_multiply_2 89 = .ok (.arraylength, 1) := dk_190 (dk_at dksJ15_multiply_2_3 18 rfl rfl)
theorem dJ15_multiply_2_90 : decode cJ15_multiply_2 90 = .ok (.iconst 1, 1) := dk_4 (dk_at dksJ15_multiply_2_3 19 rfl rfl)
theorem dJ15_multiply_2_91 : decode cJ15_multiply_2 91 = .ok (.if_icmp .ne 19, 3) := dk_160 0 19 (dk_at dksJ15_multiply_2_3 20 rfl rfl)
theorem dJ15_multiply_2_94 : decode cJ15_multiply_2 94 = .ok (.aload_n 0, 1) := dk_42 (dk_at dksJ15_multiply_2_3 23 rfl rfl)
theorem dJ15_multiply_2_95 : decode cJ15_multiply_2 95 = .ok (.getfield 28, 3) := dk_180 0 28 (dk_at dksJ15_multiply_2_4 0 rfl rfl)
theorem dJ15_multiply_2_98 : decode cJ15_multiply_2 98 = .ok (.aload_n 1, 1) := dk_43 (dk_at dksJ15_multiply_2_4 3 rfl rfl)
theorem dJ15_multiply_2_99 : decode cJ15_multiply_2 99 = .ok (.getfield 28, 3) := dk_180 0 28 (dk_at dksJ15_multiply_2_4 4 rfl rfl)
theorem dJ15_multiply_2_102 : decode cJ15_multiply_2 102 = .ok (.iconst 0, 1) := dk_3 (dk_at dksJ15_multiply_2_4 7 rfl rfl)
theorem dJ15_multiply_2_103 : decode cJ15_multiply_2 103 = .ok (.iaload, 1) := dk_46 (dk_at dksJ15_multiply_2_4 8 rfl rfl)
theorem dJ15_multiply_2_104 : decode cJ15_multiply_2 104 = .ok (.iload 7, 2) := dk_21 7 (dk_at dksJ15_multiply_2_4 9 rfl rfl)
theorem dJ15_multiply_2_106 : decode cJ15_multiply_2 106 = .ok (.invokestatic 403, 3) := dk_184 1 147 (dk_at dksJ15_multiply_2_4 11 rfl rfl)
theorem dJ15_multiply_2_109 : decode cJ15_multiply_2 109 = .ok (.areturn, 1) := dk_176 (dk_at dksJ15_multiply_2_4 14 rfl rfl)
theorem dJ15_multiply_2_110 : decode cJ15_multiply_2 110 = .ok (.aload_n 0, 1) := dk_42 (dk_at dksJ15_multiply_2_4 15 rfl rfl)
theorem dJ15_multiply_2_111 : decode cJ15_multiply_2 111 = .ok (.getfield 28, 3) := dk_180 0 28 (dk_at dksJ15_multiply_2_4 16 rfl rfl)
theorem dJ15_multiply_2_114 : decode cJ15_multiply_2 114 = .ok (.arraylength, 1) := dk_190 (dk_at dksJ15_multiply_2_4 19 rfl rfl)
theorem dJ15_multiply_2_115 : decode cJ15_multiply_2 115 = .ok (.iconst 1, 1) := dk_4 (dk_at dksJ15_multiply_2_4 20 rfl rfl)
theorem dJ15_multiply_2_116 : decode cJ15_multiply_2 116 = .ok (.if_icmp .ne 19, 3) := dk_160 0 19 (dk_at dksJ15_multiply_2_4 21 rfl rfl)
theorem dJ15_multiply_2_119 : decode cJ15_multiply_2 119 = .ok (.aload_n 1, 1) := dk_43 (dk_at dksJ15_multiply_2_5 0 rfl rfl)
theorem dJ15_multiply_2_120 : decode cJ15_multiply_2 120 = .ok (.getfield 28, 3) := dk_180 0 28 (dk_at dksJ15_multiply_2_5 1 rfl rfl)
theorem dJ15_multiply_2_123 : decode cJ15_multiply_2 123 = .ok (.aload_n 0, 1) := dk_42 (dk_at dksJ15_multiply_2_5 4 rfl rfl)
theorem dJ15_multiply_2_124 : decode cJ15_multiply_2 124 = .ok (.getfield 28, 3) := dk_180 0 28 (dk_at dksJ15_multiply_2_5 5 rfl rfl)
theorem dJ15_multiply_2_127 : decode cJ15_multiply_2 127 = .ok (.iconst 0, 1) := dk_3 (dk_at dksJ15_multiply_2_5 8 rfl rfl)
theorem dJ15_multiply_2_128 : decode cJ15_multiply_2 128 = .ok (.iaload, 1) := dk_46 (dk_at dksJ15_multiply_2_5 9 rfl rfl)
theorem dJ15_multiply_2_129 : decode cJ15_multiply_2 129 = .ok (.iload 7, 2) := dk_21 7 (dk_at dksJ15_multiply_2_5 10 rfl rfl)
theorem dJ15_multiply_2_131 : decode cJ15_multiply_2 131 = .ok (.invokestatic 403, 3) := dk_184 1 147 (dk_at dksJ15_multiply_2_5 12 rfl rfl)
theorem dJ15_multiply_2_134 : decode cJ15_multiply_2 134 = .ok (.areturn, 1) := dk_176 (dk_at dksJ15_multiply_2_5 15 rfl rfl)
theorem dJ15_multiply_2_135 : decode cJ15_multiply_2 135 = .ok (.aload_n 0, 1) := dk_42 (dk_at dksJ15_multiply_2_5 16 rfl rfl)
theorem dJ15_multiply_2_136 : decode cJ15_multiply_2 136 = .ok (.getfield 28, 3) := dk_180 0 28 (dk_at dksJ15_multiply_2_5 17 rfl rfl)
theorem dJ15_multiply_2_139 : decode cJ15_multiply_2 139 = .ok (.iload 5, 2) := dk_21 5 (dk_at dksJ15_multiply_2_5 20 rfl rfl)
theorem dJ15_multiply_2_141 : decode cJ15_multiply_2 141 = .ok (.aload_n 1, 1) := dk_43 (dk_at dksJ15_multiply_2_5 22 rfl rfl)
theorem dJ15_multiply_2_142 : decode cJ15_multiply_2 142 = .ok (.getfield 28, 3) := dk_180 0 28 (dk_at dksJ15_multiply_2_6 0 rfl rfl)
theorem dJ15_multiply_2_145 : decode cJ15_multiply_2 145 = .ok (.iload 6, 2) := dk_21 6 (dk_at dksJ15_multiply_2_6 3 rfl rfl)
theorem dJ15_multiply_2_147 : decode cJ15_multiply_2 147 = .ok (.aconst_null, 1) := dk_1 (dk_at dksJ15_multiply_2_6 5 rfl rfl)
theorem dJ15_multiply_2_148 : decode cJ15_multiply_2 148 = .ok (.invokestatic 407, 3) := dk_184 1 151 (dk_at dksJ15_multiply_2_6 6 rfl rfl)
theorem dJ15_multiply_2_151 : decode cJ15_multiply_2 151 = .ok (.astore 8, 2) := dk_58 8 (dk_at dksJ15_multiply_2_6 9 rfl rfl)
theorem dJ15_multiply_2_153 : decode cJ15_multiply_2 153 = .ok (.aload 8, 2) := dk_25 8 (dk_at dksJ15_multiply_2_6 11 rfl rfl)
theorem dJ15_multiply_2_155 : decode cJ15_multiply_2 155 = .ok (.invokestatic 53, 3) := dk_184 0 53 (dk_at dksJ15_multiply_2_6 13 rfl rfl)
theorem dJ15_multiply_2_158 : decode cJ15_multiply_2 158 = .ok (.astore 8, 2) := dk_58 8 (dk_at dksJ15_multiply_2_6 16 rfl rfl)
theorem dJ15_multiply_2_160 : decode cJ15_multiply_2 160 = .ok (.new 23, 3) := dk_187 0 23 (dk_at dksJ15_multiply_2_6 18 rfl rfl)
theorem dJ15_multiply_2_163 : decode cJ15_multiply_2 163 = .ok (.dup, 1) := dk_89 (dk_at dksJ15_multiply_2_6 21 rfl rfl)
theorem dJ15_multiply_2_164 : decode cJ15_multiply_2 164 = .ok (.aload 8, 2) := dk_25 8 (dk_at dksJ15_multiply_2_6 22 rfl rfl)
theorem dJ15_multiply_2_166 : decode cJ15_multiply_2 166 = .ok (.iload 7, 2) := dk_21 7 (dk_at dksJ15_multiply_2_7 0 rfl rfl)
theorem dJ15_multiply_2_168 : decode cJ15_multiply_2 168 = .ok (.invokespecial 175, 3) := dk_183 0 175 (dk_at dksJ15_multiply_2_7 2 rfl rfl)
theorem dJ15_multiply_2_171 : decode cJ15_multiply_2 171 = .ok (.areturn, 1) := dk_176 (dk_at dksJ15_multiply_2_7 5 rfl rfl)
theorem dJ15_multiply_2_172 : decode cJ15_multiply_2 172 = .ok (.iload 5, 2) := dk_21 5 (dk_at dksJ15_multiply_2_7 6 rfl rfl)
theorem dJ15_multiply_2_174 : decode cJ15_multiply_2 174 = .ok (.sipush 240, 3) := dk_17 0 240 (dk_at dksJ15_multiply_2_7 8 rfl rfl)
theorem dJ15_multiply_2_177 : decode cJ15_multiply_2 177 = .ok (.if_icmp .ge 17, 3) := dk_162 0 17 (dk_at dksJ15_multiply_2_7 11 rfl rfl)
theorem dJ15_multiply_2_180 : decode cJ15_multiply_2 180 = .ok (.iload 6, 2) := dk_21 6 (dk_at dksJ15_multiply_2_7 14 rfl rfl)
theorem dJ15_multiply_2_182 : decode cJ15_multiply_2 182 = .ok (.sipush 240, 3) := dk_17 0 240 (dk_at dksJ15_multiply_2_7 16 rfl rfl)
theorem dJ15_multiply_2_185 : decode cJ15_multiply_2 185 = .ok (.if_icmp .ge 9, 3) := dk_162 0 9 (dk_at dksJ15_multiply_2_7 19 rfl rfl)
theorem dJ15_multiply_2_188 : decode cJ15_multiply_2 188 = .ok (.aload_n 0, 1) := dk_42 (dk_at dksJ15_multiply_2_7 22 rfl rfl)
theorem dJ15_multiply_2_189 : decode cJ15_multiply_2 189 = .ok (.aload_n 1, 1) := dk_43 (dk_at dksJ15_multiply_2_7 23 rfl rfl)
theorem dJ15_multiply_2_190 : decode cJ15_multiply_2 190 = .ok (.invokestatic 411, 3) := dk_184 1 155 (dk_at dksJ15_multiply_2_8 0 rfl rfl)
theorem dJ15_multiply_2_193 : decode cJ15_multiply_2 193 = .ok (.areturn, 1) := dk_176 (dk_at dksJ15_multiply_2_8 3 rfl rfl)
theorem dJ15_multiply_2_194 : decode cJ15_multiply_2 194 = .ok (.iload_n 2, 1) := dk_28 (dk_at dksJ15_multiply_2_8 4 rfl rfl)
theorem dJ15_multiply_2_195 : decode cJ15_multiply_2 195 = .ok (.ifCond .ne 40, 3) := dk_154 0 40 (dk_at dksJ15_multiply_2_8 5 rfl rfl)
theorem dJ15_multiply_2_198 : decode cJ15_multiply_2 198 = .ok (.aload_n 0, 1) := dk_42 (dk_at dksJ15_multiply_2_8 8 rfl rfl)
theorem dJ15_multiply_2_199 : decode cJ15_multiply_2 199 = .ok (.getfield 28, 3) := dk_180 0 28 (dk_at dksJ15_multiply_2_8 9 rfl rfl)
theorem dJ15_multiply_2_202 : decode cJ15_multiply_2 202 = .ok (.aload_n 0, 1) := dk_42 (dk_at dksJ15_multiply_2_8 12 rfl rfl)
theorem dJ15_multiply_2_203 : decode cJ15_multiply_2 203 = .ok (.getfield 28, 3) := dk_180 0 28 (dk_at dksJ15_multiply_2_8 13 rfl rfl)
theorem dJ15_multiply_2_206 : decode cJ15_multiply_2 206 = .ok (.arraylength, 1) := dk_190 (dk_at dksJ15_multiply_2_8 16 rfl rfl)
theorem dJ15_multiply_2_207 : decode cJ15_multiply_2 207 = .ok (.invokestatic 414, 3) := dk_184 1 158 (dk_at dksJ15_multiply_2_8 17 rfl rfl)
theorem dJ15_multiply_2_210 : decode cJ15_multiply_2 210 = .ok (.i2l, 1) := dk_133 (dk_at dksJ15_multiply_2_8 20 rfl rfl)
theorem dJ15_multiply_2_211 : decode cJ15_multiply_2 211 = .ok (.aload_n 1, 1) := dk_43 (dk_at dksJ15_multiply_2_8 21 rfl rfl)
theorem dJ15_multiply_2_212 : decode cJ15_multiply_2 212 = .ok (.getfield 28, 3) := dk_180 0 28 (dk_at dksJ15_multiply_2_9 0 rfl rfl)
theorem dJ15_multiply_2_215 : decode cJ15_multiply_2 215 = .ok (.aload_n 1, 1) := dk_43 (dk_at dksJ15_multiply_2_9 3 rfl rfl)
theorem dJ15_multiply_2_216 : decode cJ15_multiply_2 216 = .ok (.getfield 28, 3) := dk_180 0 28 (dk_at dksJ15_multiply_2_9 4 rfl rfl)
theorem dJ15_multiply_2_219 : decode cJ15_multiply_2 219 = .ok (.arraylength, 1) := dk_190 (dk_at dksJ15_multiply_2_9 7 rfl rfl)
theorem dJ15_multiply_2_220 : decode cJ15_multiply_2 220 = .ok (.invokestatic 414, 3) := dk_184 1 158 (dk_at dksJ15_multiply_2_9 8 rfl rfl)
theorem dJ15_multiply_2_223 : decode cJ15_multiply_2 223 = .ok (.i2l, 1) := dk_133 (dk_at dksJ15_multiply_2_9 11 rfl rfl)
theorem dJ15_multiply_2_224 : decode cJ15_multiply_2 224 = .ok (.ladd, 1) := dk_97 (dk_at dksJ15_multiply_2_9 12 rfl rfl)
theorem dJ15_multiply_2_225 : decode cJ15_multiply_2 225 = .ok (.ldc2_w 417, 3) := dk_20 1 161 (dk_at dksJ15_multiply_2_9 13 rfl rfl)
theorem dJ15_multiply_2_228 : decode cJ15_multiply_2 228 = .ok (.lcmp, 1) := dk_148 (dk_at dksJ15_multiply_2_9 16 rfl rfl)
theorem dJ15_multiply_2_229 : decode cJ15_multiply_2 229 = .ok (.ifCond .le 6, 3) := dk_158 0 6 (dk_at dksJ15_multiply_2_9 17 rfl rfl)
theorem dJ15_multiply_2_232 : decode cJ15_multiply_2 232 = .ok (.invokestatic 101, 3) := dk_184 0 101 (dk_at dksJ15_multiply_2_9 20 rfl rfl)
theorem dJ15_multiply_2_235 : decode cJ15_multiply_2 235 = .ok (.aload_n 0, 1) := dk_42 (dk_at dksJ15_multiply_2_9 23 rfl rfl)
theorem dJ15_multiply_2_236 : decode cJ15_multiply_2 236 = .ok (.aload_n 1, 1) := dk_43 (dk_at dksJ15_multiply_2_10 0 rfl rfl)
theorem dJ15_multiply_2_237 : decode cJ15_multiply_2 237 = .ok (.iload_n 3, 1) := dk_29 (dk_at dksJ15_multiply_2_10 1 rfl rfl)
theorem dJ15_multiply_2_238 : decode cJ15_multiply_2 238 = .ok (.iload 4, 2) := dk_21 4 (dk_at dksJ15_multiply_2_10 2 rfl rfl)
theorem dJ15_multiply_2_240 : decode cJ15_multiply_2 240 = .ok (.invokestatic 419, 3) := dk_184 1 163 (dk_at dksJ15_multiply_2_10 4 rfl rfl)
theorem dJ15_multiply_2_243 : decode cJ15_multiply_2 243 = .ok (.areturn, 1) := dk_176 (dk_at dksJ15_multiply_2_10 7 rfl rfl)
abbrev cJ15_square : ByteArray := prog_27_method_55_code
def yJ15_square : MethodName := ⟨RJ15, "square", "(ZZI)Ljava/math/BigInteger;"⟩
def dkwJ15_square_4 : List UInt8 := [29, 182, 1, 244, 176]
abbrev dktJ15_square_4 : List UInt8 := dkwJ15_square_4 ++ []
def dkwJ15_square_3 : List UInt8 := [180, 0, 28, 42, 180, 0, 28, 190, 184, 1, 158, 133, 20, 1, 242, 148, 158, 0, 6, 184, 0, 101, 42, 28]
abbrev dktJ15_square_3 : List UInt8 := dkwJ15_square_3 ++ dktJ15_square_4
def dkwJ15_square_2 : List UInt8 := [4, 183, 0, 175, 176, 21, 4, 17, 0, 216, 162, 0, 8, 42, 182, 1, 239, 176, 27, 154, 0, 26, 42]
abbrev dktJ15_square_2 : List UInt8 := dkwJ15_square_2 ++ dktJ15_square_3
def dkwJ15_square_1 : List UInt8 := [162, 0, 29, 42, 180, 0, 28, 21, 4, 1, 184, 1, 235, 58, 5, 187, 0, 23, 89, 25, 5, 184, 0, 53]
abbrev dktJ15_square_1 : List UInt8 := dkwJ15_square_1 ++ dktJ15_square_2
def dkwJ15_square_0 : List UInt8 := [42, 180, 0, 32, 154, 0, 7, 178, 0, 22, 176, 42, 180, 0, 28, 190, 54, 4, 21, 4, 17, 0, 128]
abbrev dktJ15_square_0 : List UInt8 := dkwJ15_square_0 ++ dktJ15_square_1
theorem dksJ15_square_0 : cJ15_square.data.toList.drop 0 = dktJ15_square_0 := by decide +kernel
theorem dksJ15_square_1 : cJ15_square.data.toList.drop 23 = dktJ15_square_1 := dk_seg dksJ15_square_0 23 rfl rfl
theorem dksJ15_square_2 : cJ15_square.data.toList.drop 47 = dktJ15_square_2 := dk_seg dksJ15_square_1 24 rfl rfl
theorem dksJ15_square_3 : cJ15_square.data.toList.drop 70 = dktJ15_square_3 := dk_seg dksJ15_square_2 23 rfl rfl
theorem dksJ15_square_4 : cJ15_square.data.toList.drop 94 = dktJ15_square_4 := dk_seg dksJ15_square_3 24 rfl rfl
theorem dJ15_square_0 : decode cJ15_square 0 = .ok (.aload_n 0, 1) := dk_42 (dk_at dksJ15_square_0 0 rfl rfl)
theorem dJ15_square_1 : decode cJ15_square 1 = .ok (.getfield 32, 3) := dk_180 0 32 (dk_at dksJ15_square_0 1 rfl rfl)
theorem dJ15_square_4 : decode cJ15_square 4 = .ok (.ifCond .ne 7, 3) := dk_154 0 7 (dk_at dksJ15_square_0 4 rfl rfl)
theorem dJ15_square_7 : decode cJ15_square 7 = .ok (.getstatic 22, 3) := dk_178 0 22 (dk_at dksJ15_square_0 7 rfl rfl)
theorem dJ15_square_10 : decode cJ15_square 10 = .ok (.areturn, 1) := dk_176 (dk_at dksJ15_square_0 10 rfl rfl)
theorem dJ15_square_11 : decode cJ15_square 11 = .ok (.aload_n 0, 1) := dk_42 (dk_at dksJ15_square_0 11 rfl rfl)
theorem dJ15_square_12 : decode cJ15_square 12 = .ok (.getfield 28, 3) := dk_180 0 28 (dk_at dksJ15_square_0 12 rfl rfl)
theorem dJ15_square_15 : decode cJ15_square 15 = .ok (.arraylength, 1) := dk_190 (dk_at dksJ15_square_0 15 rfl rfl)
theorem dJ15_square_16 : decode cJ15_square 16 = .ok (.istore 4, 2) := dk_54 4 (dk_at dksJ15_square_0 16 rfl rfl)
theorem dJ15_square_18 : decode cJ15_square 18 = .ok (.iload 4, 2) := dk_21 4 (dk_at dksJ15_square_0 18 rfl rfl)
theorem dJ15_square_20 : decode cJ15_square 20 = .ok (.sipush 128, 3) := dk_17 0 128 (dk_at dksJ15_square_0 20 rfl rfl)
theorem dJ15_square_23 : decode cJ15_square 23 = .ok (.if_icmp .ge 29, 3) := dk_162 0 29 (dk_at dksJ15_square_1 0 rfl rfl)
theorem dJ15_square_26 : decode cJ15_square 26 = .ok (.aload_n 0, 1) := dk_42 (dk_at dksJ15_square_1 3 rfl rfl)
theorem dJ15_square_27 : decode cJ15_square 27 = .ok (.getfield 28, 3) := dk_180 0 28 (dk_at dksJ15_square_1 4 rfl rfl)
theorem dJ15_square_30 : decode cJ15_square 30 = .ok (.iload 4, 2) := dk_21 4 (dk_at dksJ15_square_1 7 rfl rfl)
theorem dJ15_square_32 : decode cJ15_square 32 = .ok (.aconst_null, 1) := dk_1 (dk_at dksJ15_square_1 9 rfl rfl)
theorem dJ15_square_33 : decode cJ15_square 33 = .ok (.invokestatic 491, 3) := dk_184 1 235 (dk_at dksJ15_square_1 10 rfl rfl)
theorem dJ15_square_36 : decode cJ15_square 36 = .ok (.astore 5, 2) := dk_58 5 (dk_at dksJ15_square_1 13 rfl rfl)
theorem dJ15_square_38 : decode cJ15_square 38 = .ok (.new 23, 3) := dk_187 0 23 (dk_at dksJ15_square_1 15 rfl rfl)
theorem dJ15_square_41 : decode cJ15_square 41 = .ok (.dup, 1) := dk_89 (dk_at dksJ15_square_1 18 rfl rfl)
theorem dJ15_square_42 : decode cJ15_square 42 = .ok (.aload 5, 2) := dk_25 5 (dk_at dksJ15_square_1 19 rfl rfl)
theorem dJ15_square_44 : decode cJ15_square 44 = .ok (.invokestatic 53, 3) := dk_184 0 53 (dk_at dksJ15_square_1 21 rfl rfl)
theorem dJ15_square_47 : decode cJ15_square 47 = .ok (.iconst 1, 1) := dk_4 (dk_at dksJ15_square_2 0 rfl rfl)
theorem dJ15_square_48 : decode cJ15_square 48 = .ok (.invokespecial 175, 3) := dk_183 0 175 (dk_at dksJ15_square_2 1 rfl rfl)
theorem dJ15_square_51 : decode cJ15_square 51 = .ok (.areturn, 1) := dk_176 (dk_at dksJ15_square_2 4 rfl rfl)
theorem dJ15_square_52 : decode cJ15_square 52 = .ok (.iload 4, 2) := dk_21 4 (dk_at dksJ15_square_2 5 rfl rfl)
theorem dJ15_square_54 : decode cJ15_square 54 = .ok (.sipush 216, 3) := dk_17 0 216 (dk_at dksJ15_square_2 7 rfl rfl)
theorem dJ15_square_57 : decode cJ15_square 57 = .ok (.if_icmp .ge 8, 3) := dk_162 0 8 (dk_at dksJ15_square_2 10 rfl rfl)
theorem dJ15_square_60 : decode cJ15_square 60 = .ok (.aload_n 0, 1) := dk_42 (dk_at dksJ15_square_2 13 rfl rfl)
theorem dJ15_square_61 : decode cJ15_square 61 = .ok (.invokevirtual 495, 3) := dk_182 1 239 (dk_at dksJ15_square_2 14 rfl rfl)
theorem dJ15_square_64 : decode cJ15_square 64 = .ok (.areturn, 1) := dk_176 (dk_at dksJ15_square_2 17 rfl rfl)
theorem dJ15_square_65 : decode cJ15_square 65 = .ok (.iload_n 1, 1) := dk_27 (dk_at dksJ15_square_2 18 rfl rfl)
theorem dJ15_square_66 : decode cJ15_square 66 = .ok (.ifCond .ne 26, 3) := dk_154 0 26 (dk_at dksJ15_square_2 19 rfl rfl)
theorem dJ15_square_69 : decode cJ15_square 69 = .ok (.aload_n 0, 1) := dk_42 (dk_at dksJ15_square_2 22 rfl rfl)
theorem dJ15_square_70 : decode cJ15_square 70 = .ok (.getfield 28, 3) := dk_180 0 28 (dk_at dksJ15_square_3 0 rfl rfl)
theorem dJ15_square_73 : decode cJ15_square 73 = .ok (.aload_n 0, 1) := dk_42 (dk_at dksJ15_square_3 3 rfl rfl)
theorem dJ15_square_74 : decode cJ15_square 74 = .ok (.getfield 28, 3) := dk_180 0 28 (dk_at dksJ15_square_3 4 rfl rfl)
theorem dJ15_square_77 : decode cJ15_square 77 = .ok (.arraylength, 1) := dk_190 (dk_at dksJ15_square_3 7 rfl rfl)
theorem dJ15_square_78 : decode cJ15_square 78 = .ok (.invokestatic 414, 3) := dk_184 1 158 (dk_at dksJ15_square_3 8 rfl rfl)
theorem dJ15_square_81 : decode cJ15_square 81 = .ok (.i2l, 1) := dk_133 (dk_at dksJ15_square_3 11 rfl rfl)
theorem dJ15_square_82 : decode cJ15_square 82 = .ok (.ldc2_w 498, 3) := dk_20 1 242 (dk_at dksJ15_square_3 12 rfl rfl)
theorem dJ15_square_85 : decode cJ15_square 85 = .ok (.lcmp, 1) := dk_148 (dk_at dksJ15_square_3 15 rfl rfl)
theorem dJ15_square_86 : decode cJ15_square 86 = .ok (.ifCond .le 6, 3) := dk_158 0 6 (dk_at dksJ15_square_3 16 rfl rfl)
theorem dJ15_square_89 : decode cJ15_square 89 = .ok (.invokestatic 101, 3) := dk_184 0 101 (dk_at dksJ15_square_3 19 rfl rfl)
theorem dJ15_square_92 : decode cJ15_square 92 = .ok (.aload_n 0, 1) := dk_42 (dk_at dksJ15_square_3 22 rfl rfl)
theorem dJ15_square_93 : decode cJ15_square 93 = .ok (.iload_n 2, 1) := dk_28 (dk_at dksJ15_square_3 23 rfl rfl)
theorem dJ15_square_94 : decode cJ15_square 94 = .ok (.iload_n 3, 1) := dk_29 (dk_at dksJ15_square_4 0 rfl rfl)
theorem dJ15_square_95 : decode cJ15_square 95 = .ok (.invokevirtual 500, 3) := dk_182 1 244 (dk_at dksJ15_square_4 1 rfl rfl)
theorem dJ15_square_98 : decode cJ15_square 98 = .ok (.areturn, 1) := dk_176 (dk_at dksJ15_square_4 4 rfl rfl)
abbrev cJ15_squareToLen : ByteArray := prog_27_method_56_code
def yJ15_squareToLen : MethodName := ⟨RJ15, "squareToLen", "([II[I)[I"⟩
def dkwJ15_squareToLen_1 : List UInt8 := [184, 1, 248, 42, 27, 44, 29, 184, 1, 252, 176]
abbrev dktJ15_squareToLen_1 : List UInt8 := dkwJ15_squareToLen_1 ++ []
def dkwJ15_squareToLen_0 : List UInt8 := [27, 4, 120, 62, 44, 198, 0, 9, 44, 190, 29, 162, 0, 7, 29, 188, 10, 77, 42, 27, 44, 29]
abbrev dktJ15_squareToLen_0 : List UInt8 := dkwJ15_squareToLen_0 ++ dktJ15_squareToLen_1
theorem dksJ15_squareToLen_0 : cJ15_squareToLen.data.toList.drop 0 = dktJ15_squareToLen_0 := by decide +kernel
theorem dksJ15_squareToLen_1 : cJ15_squareToLen.data.toList.drop 22 = dktJ15_squareToLen_1 := dk_seg dksJ15_squareToLen_0 22 rfl rfl
theorem dJ15_squareToLen_0 : decode cJ15_squareToLen 0 = .ok (.iload_n 1, 1) := dk_27 (dk_at dksJ15_squareToLen_0 0 rfl rfl)
theorem dJ15_squareToLen_1 : decode cJ15_squareToLen 1 = .ok (.iconst 1, 1) := dk_4 (dk_at dksJ15_squareToLen_0 1 rfl rfl)
theorem dJ15_squareToLen_2 : decode cJ15_squareToLen 2 = .ok (.ishl, 1) := dk_120 (dk_at dksJ15_squareToLen_0 2 rfl rfl)
theorem dJ15_squareToLen_3 : decode cJ15_squareToLen 3 = .ok (.istore_n 3, 1) := dk_62 (dk_at dksJ15_squareToLen_0 3 rfl rfl)
theorem dJ15_squareToLen_4 : decode cJ15_squareToLen 4 = .ok (.aload_n 2, 1) := dk_44 (dk_at dksJ15_squareToLen_0 4 rfl rfl)
theorem dJ15_squareToLen_5 : decode cJ15_squareToLen 5 = .ok (.ifnull 9, 3) := dk_198 0 9 (dk_at dksJ15_squareToLen_0 5 rfl rfl)
theorem dJ15_squareToLen_8 : decode cJ15_squareToLen 8 = .ok (.aload_n 2, 1) := dk_44 (dk_at dksJ15_squareToLen_0 8 rfl rfl)
theorem dJ15_squareToLen_9 : decode cJ15_squareToLen 9 = .ok (.arraylength, 1) := dk_190 (dk_at dksJ15_squareToLen_0 9 rfl rfl)
theorem dJ15_squareToLen_10 : decode cJ15_squareToLen 10 = .ok (.iload_n 3, 1) := dk_29 (dk_at dksJ15_squareToLen_0 10 rfl rfl)
theorem dJ15_squareToLen_11 : decode cJ15_squareToLen 11 = .ok (.if_icmp .ge 7, 3) := dk_162 0 7 (dk_at dksJ15_squareToLen_0 11 rfl rfl)
theorem dJ15_squareToLen_14 : decode cJ15_squareToLen 14 = .ok (.iload_n 3, 1) := dk_29 (dk_at dksJ15_squareToLen_0 14 rfl rfl)
theorem dJ15_squareToLen_15 : decode cJ15_squareToLen 15 = .ok (.newarray .int, 2) := dk_188_10 (dk_at dksJ15_squareToLen_0 15 rfl rfl)
theorem dJ15_squareToLen_17 : decode cJ15_squareToLen 17 = .ok (.astore_n 2, 1) := dk_77 (dk_at dksJ15_squareToLen_0 17 rfl rfl)
theorem dJ15_squareToLen_18 : decode cJ15_squareToLen 18 = .ok (.aload_n 0, 1) := dk_42 (dk_at dksJ15_squareToLen_0 18 rfl rfl)
theorem dJ15_squareToLen_19 : decode cJ15_squareToLen 19 = .ok (.iload_n 1, 1) := dk_27 (dk_at dksJ15_squareToLen_0 19 rfl rfl)
theorem dJ15_squareToLen_20 : decode cJ15_squareToLen 20 = .ok (.aload_n 2, 1) := dk_44 (dk_at dksJ15_squareToLen_0 20 rfl rfl)
theorem dJ15_squareToLen_21 : decode cJ15_squareToLen 21 = .ok (.iload_n 3, 1) := dk_29 (dk_at dksJ15_squareToLen_0 21 rfl rfl)
theorem dJ15_squareToLen_22 : decode cJ15_squareToLen 22 = .ok (.invokestatic 504, 3) := dk_184 1 248 (dk_at dksJ15_squareToLen_1 0 rfl rfl)
theorem dJ15_squareToLen_25 : decode cJ15_squareToLen 25 = .ok (.aload_n 0, 1) := dk_42 (dk_at dksJ15_squareToLen_1 3 rfl rfl)
theorem dJ15_squareToLen_26 : decode cJ15_squareToLen 26 = .ok (.iload_n 1, 1) := dk_27 (dk_at dksJ15_squareToLen_1 4 rfl rfl)
theorem dJ15_squareToLen_27 : decode cJ15_squareToLen 27 = .ok (.aload_n 2, 1) := dk_44 (dk_at dksJ15_squareToLen_1 5 rfl rfl)
theorem dJ15_squareToLen_28 : decode cJ15_squareToLen 28 = .ok (.iload_n 3, 1) := dk_29 (dk_at dksJ15_squareToLen_1 6 rfl rfl)
theorem dJ15_squareToLen_29 : decode cJ15_squareToLen 29 = .ok (.invokestatic 508, 3) := dk_184 1 252 (dk_at dksJ15_squareToLen_1 7 rfl rfl)
theorem dJ15_squareToLen_32 : decode cJ15_squareToLen 32 = .ok (.areturn, 1) := dk_176 (dk_at dksJ15_squareToLen_1 10 rfl rfl)
abbrev cJ15_implSquareToLenChecks : ByteArray := prog_27_method_57_code
def yJ15_implSquareToLenChecks : MethodName := ⟨RJ15, "implSquareToLenChecks", "([II[II)V"⟩
def dkwJ15_implSquareToLenChecks_8 : List UInt8 := [19, 2, 7, 182, 0, 247, 44, 190, 182, 2, 2, 182, 0, 254, 183, 0, 149, 191, 177]
abbrev dktJ15_implSquareToLenChecks_8 : List UInt8 := dkwJ15_implSquareToLenChecks_8 ++ []
def dkwJ15_implSquareToLenChecks_7 : List UInt8 := [164, 0, 42, 187, 0, 145, 89, 187, 0, 242, 89, 183, 0, 244, 19, 2, 5, 182, 0, 247, 27, 182, 2, 2]
abbrev dktJ15_implSquareToLenChecks_7 : List UInt8 := dkwJ15_implSquareToLenChecks_7 ++ dktJ15_implSquareToLenChecks_8
def dkwJ15_implSquareToLenChecks_6 : List UInt8 := [183, 0, 244, 19, 2, 0, 182, 0, 247, 29, 182, 2, 2, 182, 0, 254, 183, 0, 149, 191, 29, 44, 190]
abbrev dktJ15_implSquareToLenChecks_6 : List UInt8 := dkwJ15_implSquareToLenChecks_6 ++ dktJ15_implSquareToLenChecks_7
def dkwJ15_implSquareToLenChecks_5 : List UInt8 := [182, 2, 2, 182, 0, 254, 183, 0, 149, 191, 29, 4, 162, 0, 31, 187, 0, 145, 89, 187, 0, 242, 89]
abbrev dktJ15_implSquareToLenChecks_5 : List UInt8 := dkwJ15_implSquareToLenChecks_5 ++ dktJ15_implSquareToLenChecks_6
def dkwJ15_implSquareToLenChecks_4 : List UInt8 := [183, 0, 244, 19, 2, 5, 182, 0, 247, 27, 5, 104, 182, 2, 2, 19, 2, 7, 182, 0, 247, 44, 190]
abbrev dktJ15_implSquareToLenChecks_4 : List UInt8 := dkwJ15_implSquareToLenChecks_4 ++ dktJ15_implSquareToLenChecks_5
def dkwJ15_implSquareToLenChecks_3 : List UInt8 := [182, 0, 254, 183, 0, 149, 191, 27, 5, 104, 44, 190, 164, 0, 44, 187, 0, 145, 89, 187, 0, 242, 89]
abbrev dktJ15_implSquareToLenChecks_3 : List UInt8 := dkwJ15_implSquareToLenChecks_3 ++ dktJ15_implSquareToLenChecks_4
def dkwJ15_implSquareToLenChecks_2 : List UInt8 := [183, 0, 244, 19, 2, 5, 182, 0, 247, 27, 182, 2, 2, 19, 2, 7, 182, 0, 247, 42, 190, 182, 2, 2]
abbrev dktJ15_implSquareToLenChecks_2 : List UInt8 := dkwJ15_implSquareToLenChecks_2 ++ dktJ15_implSquareToLenChecks_3
def dkwJ15_implSquareToLenChecks_1 : List UInt8 := [182, 2, 2, 182, 0, 254, 183, 0, 149, 191, 27, 42, 190, 164, 0, 42, 187, 0, 145, 89, 187, 0, 242, 89]
abbrev dktJ15_implSquareToLenChecks_1 : List UInt8 := dkwJ15_implSquareToLenChecks_1 ++ dktJ15_implSquareToLenChecks_2
def dkwJ15_implSquareToLenChecks_0 : List UInt8 := [27, 4, 162, 0, 31, 187, 0, 145, 89, 187, 0, 242, 89, 183, 0, 244, 19, 2, 0, 182, 0, 247, 27]
abbrev dktJ15_implSquareToLenChecks_0 : List UInt8 := dkwJ15_implSquareToLenChecks_0 ++ dktJ15_implSquareToLenChecks_1
theorem dksJ15_implSquareToLenChecks_0 : cJ15_implSquareToLenChecks.data.toList.drop 0 = dktJ15_implSquareToLenChecks_0 := by decide +kernel
theorem dksJ15_implSquareToLenChecks_1 : cJ15_implSquareToLenChecks.data.toList.drop 23 = dktJ15_implSquareToLenChecks_1 := dk_seg dksJ15_implSquareToLenChecks_0 23 rfl rfl
theorem dksJ15_implSquareToLenChecks_2 : cJ15_implSquareToLenChecks.data.toList.drop 47 = dktJ15_implSquareToLenChecks_2 := dk_seg dksJ15_implSquareToLenChecks_1 24 rfl rfl
theorem dksJ15_implSquareToLenChecks_3 : cJ15_implSquareToLenChecks.data.toList.drop 71 = dktJ15_implSquareToLenChecks_3 := dk_seg dksJ15_implSquareToLenChecks_2 24 rfl rfl
theorem dksJ15_implSquareToLenChecks_4 : cJ15_implSquareToLenChecks.data.toList.drop 94 = dktJ15_implSquareToLenChecks_4 := dk_seg dksJ15_implSquareToLenChecks_3 23 rfl rfl
theorem dksJ15_implSquareToLenChecks_5 : cJ15_implSquareToLenChecks.data.toList.drop 117 = dktJ15_implSquareToLenChecks_5 := dk_seg dksJ15_implSquareToLenChecks_4 23 rfl rfl
theorem dksJ15_implSquareToLenChecks_6 : cJ15_implSquareToLenChecks.data.toList.drop 140 = dktJ15_implSquareToLenChecks_6 := dk_seg dksJ15_implSquareToLenChecks_5 23 rfl rfl
theorem dksJ15_implSquareToLenChecks_7 : cJ15_implSquareToLenChecks.data.toList.drop 163 = dktJ15_implSquareToLenChecks_7 := dk_seg dksJ15_implSquareToLenChecks_6 23 rfl rfl
theorem dksJ15_implSquareToLenChecks_8 : cJ15_implSquareToLenChecks.data.toList.drop 187 = dktJ15_implSquareToLenChecks_8 := dk_seg dksJ15_implSquareToLenChecks_7 24 rfl rfl
theorem dJ15_implSquareToLenChecks_0 : decode cJ15_implSquareToLenChecks 0 = .ok (.iload_n 1, 1) := dk_27 (dk_at dksJ15_implSquareToLenChecks_0 0 rfl rfl)
theorem dJ15_implSquareToLenChecks_1 : decode cJ15_implSquareToLenChecks 1 = .ok (.iconst 1, 1) := dk_4 (dk_at dksJ15_implSquareToLenChecks_0 1 rfl rfl)
theorem dJ15_implSquareToLenChecks_2 : decode cJ15_implSquareToLenChecks 2 = .ok (.if_icmp .ge 31, 3) := dk_162 0 31 (dk_at dksJ15_implSquareToLenChecks_0 2 rfl rfl)
theorem dJ15_implSquareToLenChecks_5 : decode cJ15_implSquareToLenChecks 5 = .ok (.new 145, 3) := dk_187 0 145 (dk_at dksJ15_implSquareToLenChecks_0 5 rfl rfl)
theorem dJ15_implSquareToLenChecks_8 : decode cJ15_implSquareToLenChecks 8 = .ok (.dup, 1) := dk_89 (dk_at dksJ15_implSquareToLenChecks_0 8 rfl rfl)
theorem dJ15_implSquareToLenChecks_9 : decode cJ15_implSquareToLenChecks 9 = .ok (.new 242, 3) := dk_187 0 242 (dk_at dksJ15_implSquareToLenChecks_0 9 rfl rfl)
theorem dJ15_implSquareToLenChecks_12 : decode cJ15_implSquareToLenChecks 12 = .ok (.dup, 1) := dk_89 (dk_at dksJ15_implSquareToLenChecks_0 12 rfl rfl)
theorem dJ15_implSquareToLenChecks_13 : decode cJ15_implSquareToLenChecks 13 = .ok (.invokespecial 244, 3) := dk_183 0 244 (dk_at dksJ15_implSquareToLenChecks_0 13 rfl rfl)
theorem dJ15_implSquareToLenChecks_16 : decode cJ15_implSquareToLenChecks 16 = .ok (.ldc_w 512, 3) := dk_19 2 0 (dk_at dksJ15_implSquareToLenChecks_0 16 rfl rfl)
theorem dJ15_implSquareToLenChecks_19 : decode cJ15_implSquareToLenChecks 19 = .ok (.invokevirtual 247, 3) := dk_182 0 247 (dk_at dksJ15_implSquareToLenChecks_0 19 rfl rfl)
theorem dJ15_implSquareToLenChecks_22 : decode cJ15_implSquareToLenChecks 22 = .ok (.iload_n 1, 1) := dk_27 (dk_at dksJ15_implSquareToLenChecks_0 22 rfl rfl)
theorem dJ15_implSquareToLenChecks_23 : decode cJ15_implSquareToLenChecks 23 = .ok (.invokevirtual 514, 3) := dk_182 2 2 (dk_at dksJ15_implSquareToLenChecks_1 0 rfl rfl)
theorem dJ15_implSquareToLenChecks_26 : decode cJ15_implSquareToLenChecks 26 = .ok (.invokevirtual 254, 3) := dk_182 0 254 (dk_at dksJ15_implSquareToLenChecks_1 3 rfl rfl)
theorem dJ15_implSquareToLenChecks_29 : decode cJ15_implSquareToLenChecks 29 = .ok (.invokespecial 149, 3) := dk_183 0 149 (dk_at dksJ15_implSquareToLenChecks_1 6 rfl rfl)
theorem dJ15_implSquareToLenChecks_32 : decode cJ15_implSquareToLenChecks 32 = .ok (.athrow, 1) := dk_191 (dk_at dksJ15_implSquareToLenChecks_1 9 rfl rfl)
theorem dJ15_implSquareToLenChecks_33 : decode cJ15_implSquareToLenChecks 33 = .ok (.iload_n 1, 1) := dk_27 (dk_at dksJ15_implSquareToLenChecks_1 10 rfl rfl)
theorem dJ15_implSquareToLenChecks_34 : decode cJ15_implSquareToLenChecks 34 = .ok (.aload_n 0, 1) := dk_42 (dk_at dksJ15_implSquareToLenChecks_1 11 rfl rfl)
theorem dJ15_implSquareToLenChecks_35 : decode cJ15_implSquareToLenChecks 35 = .ok (.arraylength, 1) := dk_190 (dk_at dksJ15_implSquareToLenChecks_1 12 rfl rfl)
theorem dJ15_implSquareToLenChecks_36 : decode cJ15_implSquareToLenChecks 36 = .ok (.if_icmp .le 42, 3) := dk_164 0 42 (dk_at dksJ15_implSquareToLenChecks_1 13 rfl rfl)
theorem dJ15_implSquareToLenChecks_39 : decode cJ15_implSquareToLenChecks 39 = .ok (.new 145, 3) := dk_187 0 145 (dk_at dksJ15_implSquareToLenChecks_1 16 rfl rfl)
theorem dJ15_implSquareToLenChecks_42 : decode cJ15_implSquareToLenChecks 42 = .ok (.dup, 1) := dk_89 (dk_at dksJ15_implSquareToLenChecks_1 19 rfl rfl)
theorem dJ15_implSquareToLenChecks_43 : decode cJ15_implSquareToLenChecks 43 = .ok (.new 242, 3) := dk_187 0 242 (dk_at dksJ15_implSquareToLenChecks_1 20 rfl rfl)
theorem dJ15_implSquareToLenChecks_46 : decode cJ15_implSquareToLenChecks 46 = .ok (.dup, 1) := dk_89 (dk_at dksJ15_implSquareToLenChecks_1 23 rfl rfl)
theorem dJ15_implSquareToLenChecks_47 : decode cJ15_implSquareToLenChecks 47 = .ok (.invokespecial 244, 3) := dk_183 0 244 (dk_at dksJ15_implSquareToLenChecks_2 0 rfl rfl)
theorem dJ15_implSquareToLenChecks_50 : decode cJ15_implSquareToLenChecks 50 = .ok (.ldc_w 517, 3) := dk_19 2 5 (dk_at dksJ15_implSquareToLenChecks_2 3 rfl rfl)
theorem dJ15_implSquareToLenChecks_53 : decode cJ15_implSquareToLenChecks 53 = .ok (.invokevirtual 247, 3) := dk_182 0 247 (dk_at dksJ15_implSquareToLenChecks_2 6 rfl rfl)
theorem dJ15_implSquareToLenChecks_56 : decode cJ15_implSquareToLenChecks 56 = .ok (.iload_n 1, 1) := dk_27 (dk_at dksJ15_implSquareToLenChecks_2 9 rfl rfl)
theorem dJ15_implSquareToLenChecks_57 : decode cJ15_implSquareToLenChecks 57 = .ok (.invokevirtual 514, 3) := dk_182 2 2 (dk_at dksJ15_implSquareToLenChecks_2 10 rfl rfl)
theorem dJ15_implSquareToLenChecks_60 : decode cJ15_implSquareToLenChecks 60 = .ok (.ldc_w 519, 3) := dk_19 2 7 (dk_at dksJ15_implSquareToLenChecks_2 13 rfl rfl)
theorem dJ15_implSquareToLenChecks_63 : decode cJ15_implSquareToLenChecks 63 = .ok (.invokevirtual 247, 3) := dk_182 0 247 (dk_at dksJ15_implSquareToLenChecks_2 16 rfl rfl)
theorem dJ15_implSquareToLenChecks_66 : decode cJ15_implSquareToLenChecks 66 = .ok (.aload_n 0, 1) := dk_42 (dk_at dksJ15_implSquareToLenChecks_2 19 rfl rfl)
theorem dJ15_implSquareToLenChecks_67 : decode cJ15_implSquareToLenChecks 67 = .ok (.arraylength, 1) := dk_190 (dk_at dksJ15_implSquareToLenChecks_2 20 rfl rfl)
theorem dJ15_implSquareToLenChecks_68 : decode cJ15_implSquareToLenChecks 68 = .ok (.invokevirtual 514, 3) := dk_182 2 2 (dk_at dksJ15_implSquareToLenChecks_2 21 rfl rfl)
theorem dJ15_implSquareToLenChecks_71 : decode cJ15_implSquareToLenChecks 71 = .ok (.invokevirtual 254, 3) := dk_182 0 254 (dk_at dksJ15_implSquareToLenChecks_3 0 rfl rfl)
theorem dJ15_implSquareToLenChecks_74 : decode cJ15_implSquareToLenChecks 74 = .ok (.invokespecial 149, 3) := dk_183 0 149 (dk_at dksJ15_implSquareToLenChecks_3 3 rfl rfl)
theorem dJ15_implSquareToLenChecks_77 : decode cJ15_implSquareToLenChecks 77 = .ok (.athrow, 1) := dk_191 (dk_at dksJ15_implSquareToLenChecks_3 6 rfl rfl)
theorem dJ15_implSquareToLenChecks_78 : decode cJ15_implSquareToLenChecks 78 = .ok (.iload_n 1, 1) := dk_27 (dk_at dksJ15_implSquareToLenChecks_3 7 rfl rfl)
theorem dJ15_implSquareToLenChecks_79 : decode cJ15_implSquareToLenChecks 79 = .ok (.iconst 2, 1) := dk_5 (dk_at dksJ15_implSquareToLenChecks_3 8 rfl rfl)
theorem dJ15_implSquareToLenChecks_80 : decode cJ15_implSquareToLenChecks 80 = .ok (.imul, 1) := dk_104 (dk_at dksJ15_implSquareToLenChecks_3 9 rfl rfl)
theorem dJ15_implSquareToLenChecks_81 : decode cJ15_implSquareToLenChecks 81 = .ok (.aload_n 2, 1) := dk_44 (dk_at dksJ15_implSquareToLenChecks_3 10 rfl rfl)
theorem dJ15_implSquareToLenChecks_82 : decode cJ15_implSquareToLenChecks 82 = .ok (.arraylength, 1) := dk_190 (dk_at dksJ15_implSquareToLenChecks_3 11 rfl rfl)
theorem dJ15_implSquareToLenChecks_83 : decode cJ15_implSquareToLenChecks 83 = .ok (.if_icmp .le 44, 3) := dk_164 0 44 (dk_at dksJ15_implSquareToLenChecks_3 12 rfl rfl)
theorem dJ15_implSquareToLenChecks_86 : decode cJ15_implSquareToLenChecks 86 = .ok (.new 145, 3) := dk_187 0 145 (dk_at dksJ15_implSquareToLenChecks_3 15 rfl rfl)
theorem dJ15_implSquareToLenChecks_89 : decode cJ15_implSquareToLenChecks 89 = .ok (.dup, 1) := dk_89 (dk_at dksJ15_implSquareToLenChecks_3 18 rfl rfl)
theorem dJ15_implSquareToLenChecks_90 : decode cJ15_implSquareToLenChecks 90 = .ok (.new 242, 3) := dk_187 0 242 (dk_at dksJ15_implSquareToLenChecks_3 19 rfl rfl)
theorem dJ15_implSquareToLenChecks_93 : decode cJ15_implSquareToLenChecks 93 = .ok (.dup, 1) := dk_89 (dk_at dksJ15_implSquareToLenChecks_3 22 rfl rfl)
theorem dJ15_implSquareToLenChecks_94 : decode cJ15_implSquareToLenChecks 94 = .ok (.invokespecial 244, 3) := dk_183 0 244 (dk_at dksJ15_implSquareToLenChecks_4 0 rfl rfl)
theorem dJ15_implSquareToLenChecks_97 : decode cJ15_implSquareToLenChecks 97 = .ok (.ldc_w 517, 3) := dk_19 2 5 (dk_at dksJ15_implSquareToLenChecks_4 3 rfl rfl)
theorem dJ15_implSquareToLenChecks_100 : decode cJ15_implSquareToLenChecks 100 = .ok (.invokevirtual 247, 3) := dk_182 0 247 (dk_at dksJ15_implSquareToLenChecks_4 6 rfl rfl)
theorem dJ15_implSquareToLenChecks_103 : decode cJ15_implSquareToLenChecks 103 = .ok (.iload_n 1, 1) := dk_27 (dk_at dksJ15_implSquareToLenChecks_4 9 rfl rfl)
theorem dJ15_implSquareToLenChecks_104 : decode cJ15_implSquareToLenChecks 104 = .ok (.iconst 2, 1) := dk_5 (dk_at dksJ15_implSquareToLenChecks_4 10 rfl rfl)
theorem dJ15_implSquareToLenChecks_105 : decode cJ15_implSquareToLenChecks 105 = .ok (.imul, 1) := dk_104 (dk_at dksJ15_implSquareToLenChecks_4 11 rfl rfl)
theorem dJ15_implSquareToLenChecks_106 : decode cJ15_implSquareToLenChecks 106 = .ok (.invokevirtual 514, 3) := dk_182 2 2 (dk_at dksJ15_implSquareToLenChecks_4 12 rfl rfl)
theorem dJ15_implSquareToLenChecks_109 : decode cJ15_implSquareToLenChecks 109 = .ok (.ldc_w 519, 3) := dk_19 2 7 (dk_at dksJ15_implSquareToLenChecks_4 15 rfl rfl)
theorem dJ15_implSquareToLenChecks_112 : decode cJ15_implSquareToLenChecks 112 = .ok (.invokevirtual 247, 3) := dk_182 0 247 (dk_at dksJ15_implSquareToLenChecks_4 18 rfl rfl)
theorem dJ15_implSquareToLenChecks_115 : decode cJ15_implSquareToLenChecks 115 = .ok (.aload_n 2, 1) := dk_44 (dk_at dksJ15_implSquareToLenChecks_4 21 rfl rfl)
theorem dJ15_implSquareToLenChecks_116 : decode cJ15_implSquareToLenChecks 116 = .ok (.arraylength, 1) := dk_190 (dk_at dksJ15_implSquareToLenChecks_4 22 rfl rfl)
theorem dJ15_implSquareToLenChecks_117 : decode cJ15_implSquareToLenChecks 117 = .ok (.invokevirtual 514, 3) := dk_182 2 2 (dk_at dksJ15_implSquareToLenChecks_5 0 rfl rfl)
theorem dJ15_implSquareToLenChecks_120 : decode cJ15_implSquareToLenChecks 120 = .ok (.invokevirtual 254, 3) := dk_182 0 254 (dk_at dksJ15_implSquareToLenChecks_5 3 rfl rfl)
theorem dJ15_implSquareToLenChecks_123 : decode cJ15_implSquareToLenChecks 123 = .ok (.invokespecial 149, 3) := dk_183 0 149 (dk_at dksJ15_implSquareToLenChecks_5 6 rfl rfl)
theorem dJ15_implSquareToLenChecks_126 : decode cJ15_implSquareToLenChecks 126 = .ok (.athrow, 1) := dk_191 (dk_at dksJ15_implSquareToLenChecks_5 9 rfl rfl)
theorem dJ15_implSquareToLenChecks_127 : decode cJ15_implSquareToLenChecks 127 = .ok (.iload_n 3, 1) := dk_29 (dk_at dksJ15_implSquareToLenChecks_5 10 rfl rfl)
theorem dJ15_implSquareToLenChecks_128 : decode cJ15_implSquareToLenChecks 128 = .ok (.iconst 1, 1) := dk_4 (dk_at dksJ15_implSquareToLenChecks_5 11 rfl rfl)
theorem dJ15_implSquareToLenChecks_129 : decode cJ15_implSquareToLenChecks 129 = .ok (.if_icmp .ge 31, 3) := dk_162 0 31 (dk_at dksJ15_implSquareToLenChecks_5 12 rfl rfl)
theorem dJ15_implSquareToLenChecks_132 : decode cJ15_implSquareToLenChecks 132 = .ok (.new 145, 3) := dk_187 0 145 (dk_at dksJ15_implSquareToLenChecks_5 15 rfl rfl)
theorem dJ15_implSquareToLenChecks_135 : decode cJ15_implSquareToLenChecks 135 = .ok (.dup, 1) := dk_89 (dk_at dksJ15_implSquareToLenChecks_5 18 rfl rfl)
theorem dJ15_implSquareToLenChecks_136 : decode cJ15_implSquareToLenChecks 136 = .ok (.new 242, 3) := dk_187 0 242 (dk_at dksJ15_implSquareToLenChecks_5 19 rfl rfl)
theorem dJ15_implSquareToLenChecks_139 : decode cJ15_implSquareToLenChecks 139 = .ok (.dup, 1) := dk_89 (dk_at dksJ15_implSquareToLenChecks_5 22 rfl rfl)
theorem dJ15_implSquareToLenChecks_140 : decode cJ15_implSquareToLenChecks 140 = .ok (.invokespecial 244, 3) := dk_183 0 244 (dk_at dksJ15_implSquareToLenChecks_6 0 rfl rfl)
theorem dJ15_implSquareToLenChecks_143 : decode cJ15_implSquareToLenChecks 143 = .ok (.ldc_w 512, 3) := dk_19 2 0 (dk_at dksJ15_implSquareToLenChecks_6 3 rfl rfl)
theorem dJ15_implSquareToLenChecks_146 : decode cJ15_implSquareToLenChecks 146 = .ok (.invokevirtual 247, 3) := dk_182 0 247 (dk_at dksJ15_implSquareToLenChecks_6 6 rfl rfl)
theorem dJ15_implSquareToLenChecks_149 : decode cJ15_implSquareToLenChecks 149 = .ok (.iload_n 3, 1) := dk_29 (dk_at dksJ15_implSquareToLenChecks_6 9 rfl rfl)
theorem dJ15_implSquareToLenChecks_150 : decode cJ15_implSquareToLenChecks 150 = .ok (.invokevirtual 514, 3) := dk_182 2 2 (dk_at dksJ15_implSquareToLenChecks_6 10 rfl rfl)
theorem dJ15_implSquareToLenChecks_153 : decode cJ15_implSquareToLenChecks 153 = .ok (.invokevirtual 254, 3) := dk_182 0 254 (dk_at dksJ15_implSquareToLenChecks_6 13 rfl rfl)
theorem dJ15_implSquareToLenChecks_156 : decode cJ15_implSquareToLenChecks 156 = .ok (.invokespecial 149, 3) := dk_183 0 149 (dk_at dksJ15_implSquareToLenChecks_6 16 rfl rfl)
theorem dJ15_implSquareToLenChecks_159 : decode cJ15_implSquareToLenChecks 159 = .ok (.athrow, 1) := dk_191 (dk_at dksJ15_implSquareToLenChecks_6 19 rfl rfl)
theorem dJ15_implSquareToLenChecks_160 : decode cJ15_implSquareToLenChecks 160 = .ok (.iload_n 3, 1) := dk_29 (dk_at dksJ15_implSquareToLenChecks_6 20 rfl rfl)
theorem dJ15_implSquareToLenChecks_161 : decode cJ15_implSquareToLenChecks 161 = .ok (.aload_n 2, 1) := dk_44 (dk_at dksJ15_implSquareToLenChecks_6 21 rfl rfl)
theorem dJ15_implSquareToLenChecks_162 : decode cJ15_implSquareToLenChecks 162 = .ok (.arraylength, 1) := dk_190 (dk_at dksJ15_implSquareToLenChecks_6 22 rfl rfl)
theorem dJ15_implSquareToLenChecks_163 : decode cJ15_implSquareToLenChecks 163 = .ok (.if_icmp .le 42, 3) := dk_164 0 42 (dk_at dksJ15_implSquareToLenChecks_7 0 rfl rfl)
theorem dJ15_implSquareToLenChecks_166 : decode cJ15_implSquareToLenChecks 166 = .ok (.new 145, 3) := dk_187 0 145 (dk_at dksJ15_implSquareToLenChecks_7 3 rfl rfl)
theorem dJ15_implSquareToLenChecks_169 : decode cJ15_implSquareToLenChecks 169 = .ok (.dup, 1) := dk_89 (dk_at dksJ15_implSquareToLenChecks_7 6 rfl rfl)
theorem dJ15_implSquareToLenChecks_170 : decode cJ15_implSquareToLenChecks 170 = .ok (.new 242, 3) := dk_187 0 242 (dk_at dksJ15_implSquareToLenChecks_7 7 rfl rfl)
theorem dJ15_implSquareToLenChecks_173 : decode cJ15_implSquareToLenChecks 173 = .ok (.dup, 1) := dk_89 (dk_at dksJ15_implSquareToLenChecks_7 10 rfl rfl)
theorem dJ15_implSquareToLenChecks_174 : decode cJ15_implSquareToLenChecks 174 = .ok (.invokespecial 244, 3) := dk_183 0 244 (dk_at dksJ15_implSquareToLenChecks_7 11 rfl rfl)
theorem dJ15_implSquareToLenChecks_177 : decode cJ15_implSquareToLenChecks 177 = .ok (.ldc_w 517, 3) := dk_19 2 5 (dk_at dksJ15_implSquareToLenChecks_7 14 rfl rfl)
theorem dJ15_implSquareToLenChecks_180 : decode cJ15_implSquareToLenChecks 180 = .ok (.invokevirtual 247, 3) := dk_182 0 247 (dk_at dksJ15_implSquareToLenChecks_7 17 rfl rfl)
theorem dJ15_implSquareToLenChecks_183 : decode cJ15_implSquareToLenChecks 183 = .ok (.iload_n 1, 1) := dk_27 (dk_at dksJ15_implSquareToLenChecks_7 20 rfl rfl)
theorem dJ15_implSquareToLenChecks_184 : decode cJ15_implSquareToLenChecks 184 = .ok (.invokevirtual 514, 3) := dk_182 2 2 (dk_at dksJ15_implSquareToLenChecks_7 21 rfl rfl)
theorem dJ15_implSquareToLenChecks_187 : decode cJ15_implSquareToLenChecks 187 = .ok (.ldc_w 519, 3) := dk_19 2 7 (dk_at dksJ15_implSquareToLenChecks_8 0 rfl rfl)
theorem dJ15_implSquareToLenChecks_190 : decode cJ15_implSquareToLenChecks 190 = .ok (.invokevirtual 247, 3) := dk_182 0 247 (dk_at dksJ15_implSquareToLenChecks_8 3 rfl rfl)
theorem dJ15_implSquareToLenChecks_193 : decode cJ15_implSquareToLenChecks 193 = .ok (.aload_n 2, 1) := dk_44 (dk_at dksJ15_implSquareToLenChecks_8 6 rfl rfl)
theorem dJ15_implSquareToLenChecks_194 : decode cJ15_implSquareToLenChecks 194 = .ok (.arraylength, 1) := dk_190 (dk_at dksJ15_implSquareToLenChecks_8 7 rfl rfl)
theorem dJ15_implSquareToLenChecks_195 : decode cJ15_implSquareToLenChecks 195 = .ok (.invokevirtual 514, 3) := dk_182 2 2 (dk_at dksJ15_implSquareToLenChecks_8 8 rfl rfl)
theorem dJ15_implSquareToLenChecks_198 : decode cJ15_implSquareToLenChecks 198 = .ok (.invokevirtual 254, 3) := dk_182 0 254 (dk_at dksJ15_implSquareToLenChecks_8 11 rfl rfl)
theorem dJ15_implSquareToLenChecks_201 : decode cJ15_implSquareToLenChecks 201 = .ok (.invokespecial 149, 3) := dk_183 0 149 (dk_at dksJ15_implSquareToLenChecks_8 14 rfl rfl)
theorem dJ15_implSquareToLenChecks_204 : decode cJ15_implSquareToLenChecks 204 = .ok (.athrow, 1) := dk_191 (dk_at dksJ15_implSquareToLenChecks_8 17 rfl rfl)
theorem dJ15_implSquareToLenChecks_205 : decode cJ15_implSquareToLenChecks 205 = .ok (.return_, 1) := dk_177 (dk_at dksJ15_implSquareToLenChecks_8 18 rfl rfl)
abbrev cJ15_implSquareToLen : ByteArray := prog_27_method_58_code
def yJ15_implSquareToLen : MethodName := ⟨RJ15, "implSquareToLen", "([II[II)[I"⟩
def dkwJ15_implSquareToLen_6 : List UInt8 := [46, 42, 27, 4, 100, 46, 4, 126, 128, 79, 44, 176]
abbrev dktJ15_implSquareToLen_6 : List UInt8 := dkwJ15_implSquareToLen_6 ++ []
def dkwJ15_implSquareToLen_5 : List UInt8 := [184, 2, 13, 87, 132, 5, 255, 132, 6, 2, 167, 255, 209, 44, 29, 4, 184, 2, 17, 44, 29, 4, 100, 92]
abbrev dktJ15_implSquareToLen_5 : List UInt8 := dkwJ15_implSquareToLen_5 ++ dktJ15_implSquareToLen_6
def dkwJ15_implSquareToLen_4 : List UInt8 := [21, 6, 21, 5, 4, 100, 21, 7, 184, 2, 9, 54, 7, 44, 21, 6, 4, 100, 21, 5, 21, 7]
abbrev dktJ15_implSquareToLen_4 : List UInt8 := dkwJ15_implSquareToLen_4 ++ dktJ15_implSquareToLen_5
def dkwJ15_implSquareToLen_3 : List UInt8 := [167, 255, 193, 27, 54, 5, 4, 54, 6, 21, 5, 158, 0, 48, 42, 21, 5, 4, 100, 46, 54, 7, 44, 42]
abbrev dktJ15_implSquareToLen_3 : List UInt8 := dkwJ15_implSquareToLen_3 ++ dktJ15_implSquareToLen_4
def dkwJ15_implSquareToLen_2 : List UInt8 := [125, 136, 128, 79, 44, 21, 6, 132, 6, 1, 22, 9, 4, 125, 136, 79, 22, 9, 136, 54, 4, 132, 5, 1]
abbrev dktJ15_implSquareToLen_2 : List UInt8 := dkwJ15_implSquareToLen_2 ++ dktJ15_implSquareToLen_3
def dkwJ15_implSquareToLen_1 : List UInt8 := [55, 7, 22, 7, 22, 7, 105, 55, 9, 44, 21, 6, 132, 6, 1, 21, 4, 16, 31, 120, 22, 9, 16, 33]
abbrev dktJ15_implSquareToLen_1 : List UInt8 := dkwJ15_implSquareToLen_1 ++ dktJ15_implSquareToLen_2
def dkwJ15_implSquareToLen_0 : List UInt8 := [3, 54, 4, 3, 54, 5, 3, 54, 6, 21, 5, 27, 162, 0, 63, 42, 21, 5, 46, 133, 20, 0, 130, 127]
abbrev dktJ15_implSquareToLen_0 : List UInt8 := dkwJ15_implSquareToLen_0 ++ dktJ15_implSquareToLen_1
theorem dksJ15_implSquareToLen_0 : cJ15_implSquareToLen.data.toList.drop 0 = dktJ15_implSquareToLen_0 := by decide +kernel
theorem dksJ15_implSquareToLen_1 : cJ15_implSquareToLen.data.toList.drop 24 = dktJ15_implSquareToLen_1 := dk_seg dksJ15_implSquareToLen_0 24 rfl rfl
theorem dksJ15_implSquareToLen_2 : cJ15_implSquareToLen.data.toList.drop 48 = dktJ15_implSquareToLen_2 := dk_seg dksJ15_implSquareToLen_1 24 rfl rfl
theorem dksJ15_implSquareToLen_3 : cJ15_implSquareToLen.data.toList.drop 72 = dktJ15_implSquareToLen_3 := dk_seg dksJ15_implSquareToLen_2 24 rfl rfl
theorem dksJ15_implSquareToLen_4 : cJ15_implSquareToLen.data.toList.drop 96 = dktJ15_implSquareToLen_4 := dk_seg dksJ15_implSquareToLen_3 24 rfl rfl
theorem dksJ15_implSquareToLen_5 : cJ15_implSquareToLen.data.toList.drop 118 = dktJ15_implSquareToLen_5 := dk_seg dksJ15_implSquareToLen_4 22 rfl rfl
theorem dksJ15_implSquareToLen_6 : cJ15_implSquareToLen.data.toList.drop 142 = dktJ15_implSquareToLen_6 := dk_seg dksJ15_implSquareToLen_5 24 rfl rfl
theorem dJ15_implSquareToLen_0 : decode cJ15_implSquareToLen 0 = .ok (.iconst 0, 1) := dk_3 (dk_at dksJ15_implSquareToLen_0 0 rfl rfl)
theorem dJ15_implSquareToLen_1 : decode cJ15_implSquareToLen 1 = .ok (.istore 4, 2) := dk_54 4 (dk_at dksJ15_implSquareToLen_0 1 rfl rfl)
theorem dJ15_implSquareToLen_3 : decode cJ15_implSquareToLen 3 = .ok (.iconst 0, 1) := dk_3 (dk_at dksJ15_implSquareToLen_0 3 rfl rfl)
theorem dJ15_implSquareToLen_4 : decode cJ15_implSquareToLen 4 = .ok (.istore 5, 2) := dk_54 5 (dk_at dksJ15_implSquareToLen_0 4 rfl rfl)
theorem dJ15_implSquareToLen_6 : decode cJ15_implSquareToLen 6 = .ok (.iconst 0, 1) := dk_3 (dk_at dksJ15_implSquareToLen_0 6 rfl rfl)
theorem dJ15_implSquareToLen_7 : decode cJ15_implSquareToLen 7 = .ok (.istore 6, 2) := dk_54 6 (dk_at dksJ15_implSquareToLen_0 7 rfl rfl)
theorem dJ15_implSquareToLen_9 : decode cJ15_implSquareToLen 9 = .ok (.iload 5, 2) := dk_21 5 (dk_at dksJ15_implSquareToLen_0 9 rfl rfl)
theorem dJ15_implSquareToLen_11 : decode cJ15_implSquareToLen 11 = .ok (.iload_n 1, 1) := dk_27 (dk_at dksJ15_implSquareToLen_0 11 rfl rfl)
theorem dJ15_implSquareToLen_12 : decode cJ15_implSquareToLen 12 = .ok (.if_icmp .ge 63, 3) := dk_162 0 63 (dk_at dksJ15_implSquareToLen_0 12 rfl rfl)
theorem dJ15_implSquareToLen_15 : decode cJ15_implSquareToLen 15 = .ok (.aload_n 0, 1) := dk_42 (dk_at dksJ15_implSquareToLen_0 15 rfl rfl)
theorem dJ15_implSquareToLen_16 : decode cJ15_implSquareToLen 16 = .ok (.iload 5, 2) := dk_21 5 (dk_at dksJ15_implSquareToLen_0 16 rfl rfl)
theorem dJ15_implSquareToLen_18 : decode cJ15_implSquareToLen 18 = .ok (.iaload, 1) := dk_46 (dk_at dksJ15_implSquareToLen_0 18 rfl rfl)
theorem dJ15_implSquareToLen_19 : decode cJ15_implSquareToLen 19 = .ok (.i2l, 1) := dk_133 (dk_at dksJ15_implSquareToLen_0 19 rfl rfl)
theorem dJ15_implSquareToLen_20 : decode cJ15_implSquareToLen 20 = .ok (.ldc2_w 130, 3) := dk_20 0 130 (dk_at dksJ15_implSquareToLen_0 20 rfl rfl)
theorem dJ15_implSquareToLen_23 : decode cJ15_implSquareToLen 23 = .ok (.land, 1) := dk_127 (dk_at dksJ15_implSquareToLen_0 23 rfl rfl)
theorem dJ15_implSquareToLen_24 : decode cJ15_implSquareToLen 24 = .ok (.lstore 7, 2) := dk_55 7 (dk_at dksJ15_implSquareToLen_1 0 rfl rfl)
theorem dJ15_implSquareToLen_26 : decode cJ15_implSquareToLen 26 = .ok (.lload 7, 2) := dk_22 7 (dk_at dksJ15_implSquareToLen_1 2 rfl rfl)
theorem dJ15_implSquareToLen_28 : decode cJ15_implSquareToLen 28 = .ok (.lload 7, 2) := dk_22 7 (dk_at dksJ15_implSquareToLen_1 4 rfl rfl)
theorem dJ15_implSquareToLen_30 : decode cJ15_implSquareToLen 30 = .ok (.lmul, 1) := dk_105 (dk_at dksJ15_implSquareToLen_1 6 rfl rfl)
theorem dJ15_implSquareToLen_31 : decode cJ15_implSquareToLen 31 = .ok (.lstore 9, 2) := dk_55 9 (dk_at dksJ15_implSquareToLen_1 7 rfl rfl)
theorem dJ15_implSquareToLen_33 : decode cJ15_implSquareToLen 33 = .ok (.aload_n 2, 1) := dk_44 (dk_at dksJ15_implSquareToLen_1 9 rfl rfl)
theorem dJ15_implSquareToLen_34 : decode cJ15_implSquareToLen 34 = .ok (.iload 6, 2) := dk_21 6 (dk_at dksJ15_implSquareToLen_1 10 rfl rfl)
theorem dJ15_implSquareToLen_36 : decode cJ15_implSquareToLen 36 = .ok (.iinc 6 1, 3) := dk_132 6 1 (dk_at dksJ15_implSquareToLen_1 12 rfl rfl)
theorem dJ15_implSquareToLen_39 : decode cJ15_implSquareToLen 39 = .ok (.iload 4, 2) := dk_21 4 (dk_at dksJ15_implSquareToLen_1 15 rfl rfl)
theorem dJ15_implSquareToLen_41 : decode cJ15_implSquareToLen 41 = .ok (.bipush 31, 2) := dk_16 31 (dk_at dksJ15_implSquareToLen_1 17 rfl rfl)
theorem dJ15_implSquareToLen_43 : decode cJ15_implSquareToLen 43 = .ok (.ishl, 1) := dk_120 (dk_at dksJ15_implSquareToLen_1 19 rfl rfl)
theorem dJ15_implSquareToLen_44 : decode cJ15_implSquareToLen 44 = .ok (.lload 9, 2) := dk_22 9 (dk_at dksJ15_implSquareToLen_1 20 rfl rfl)
theorem dJ15_implSquareToLen_46 : decode cJ15_implSquareToLen 46 = .ok (.bipush 33, 2) := dk_16 33 (dk_at dksJ15_implSquareToLen_1 22 rfl rfl)
theorem dJ15_implSquareToLen_48 : decode cJ15_implSquareToLen 48 = .ok (.lushr, 1) := dk_125 (dk_at dksJ15_implSquareToLen_2 0 rfl rfl)
theorem dJ15_implSquareToLen_49 : decode cJ15_implSquareToLen 49 = .ok (.l2i, 1) := dk_136 (dk_at dksJ15_implSquareToLen_2 1 rfl rfl)
theorem dJ15_implSquareToLen_50 : decode cJ15_implSquareToLen 50 = .ok (.ior, 1) := dk_128 (dk_at dksJ15_implSquareToLen_2 2 rfl rfl)
theorem dJ15_implSquareToLen_51 : decode cJ15_implSquareToLen 51 = .ok (.iastore, 1) := dk_79 (dk_at dksJ15_implSquareToLen_2 3 rfl rfl)
theorem dJ15_implSquareToLen_52 : decode cJ15_implSquareToLen 52 = .ok (.aload_n 2, 1) := dk_44 (dk_at dksJ15_implSquareToLen_2 4 rfl rfl)
theorem dJ15_implSquareToLen_53 : decode cJ15_implSquareToLen 53 = .ok (.iload 6, 2) := dk_21 6 (dk_at dksJ15_implSquareToLen_2 5 rfl rfl)
theorem dJ15_implSquareToLen_55 : decode cJ15_implSquareToLen 55 = .ok (.iinc 6 1, 3) := dk_132 6 1 (dk_at dksJ15_implSquareToLen_2 7 rfl rfl)
theorem dJ15_implSquareToLen_58 : decode cJ15_implSquareToLen 58 = .ok (.lload 9, 2) := dk_22 9 (dk_at dksJ15_implSquareToLen_2 10 rfl rfl)
theorem dJ15_implSquareToLen_60 : decode cJ15_implSquareToLen 60 = .ok (.iconst 1, 1) := dk_4 (dk_at dksJ15_implSquareToLen_2 12 rfl rfl)
theorem dJ15_implSquareToLen_61 : decode cJ15_implSquareToLen 61 = .ok (.lushr, 1) := dk_125 (dk_at dksJ15_implSquareToLen_2 13 rfl rfl)
theorem dJ15_implSquareToLen_62 : decode cJ15_implSquareToLen 62 = .ok (.l2i, 1) := dk_136 (dk_at dksJ15_implSquareToLen_2 14 rfl rfl)
theorem dJ15_implSquareToLen_63 : decode cJ15_implSquareToLen 63 = .ok (.iastore, 1) := dk_79 (dk_at dksJ15_implSquareToLen_2 15 rfl rfl)
theorem dJ15_implSquareToLen_64 : decode cJ15_implSquareToLen 64 = .ok (.lload 9, 2) := dk_22 9 (dk_at dksJ15_implSquareToLen_2 16 rfl rfl)
theorem dJ15_implSquareToLen_66 : decode cJ15_implSquareToLen 66 = .ok (.l2i, 1) := dk_136 (dk_at dksJ15_implSquareToLen_2 18 rfl rfl)
theorem dJ15_implSquareToLen_67 : decode cJ15_implSquareToLen 67 = .ok (.istore 4, 2) := dk_54 4 (dk_at dksJ15_implSquareToLen_2 19 rfl rfl)
theorem dJ15_implSquareToLen_69 : decode cJ15_implSquareToLen 69 = .ok (.iinc 5 1, 3) := dk_132 5 1 (dk_at dksJ15_implSquareToLen_2 21 rfl rfl)
theorem dJ15_implSquareToLen_72 : decode cJ15_implSquareToLen 72 = .ok (.goto (-63), 3) := dk_167 255 193 (dk_at dksJ15_implSquareToLen_3 0 rfl rfl)
theorem dJ15_implSquareToLen_75 : decode cJ15_implSquareToLen 75 = .ok (.iload_n 1, 1) := dk_27 (dk_at dksJ15_implSquareToLen_3 3 rfl rfl)
theorem dJ15_implSquareToLen_76 : decode cJ15_implSquareToLen 76 = .ok (.istore 5, 2) := dk_54 5 (dk_at dksJ15_implSquareToLen_3 4 rfl rfl)
theorem dJ15_implSquareToLen_78 : decode cJ15_implSquareToLen 78 = .ok (.iconst 1, 1) := dk_4 (dk_at dksJ15_implSquareToLen_3 6 rfl rfl)
theorem dJ15_implSquareToLen_79 : decode cJ15_implSquareToLen 79 = .ok (.istore 6, 2) := dk_54 6 (dk_at dksJ15_implSquareToLen_3 7 rfl rfl)
theorem dJ15_implSquareToLen_81 : decode cJ15_implSquareToLen 81 = .ok (.iload 5, 2) := dk_21 5 (dk_at dksJ15_implSquareToLen_3 9 rfl rfl)
theorem dJ15_implSquareToLen_83 : decode cJ15_implSquareToLen 83 = .ok (.ifCond .le 48, 3) := dk_158 0 48 (dk_at dksJ15_implSquareToLen_3 11 rfl rfl)
theorem dJ15_implSquareToLen_86 : decode cJ15_implSquareToLen 86 = .ok (.aload_n 0, 1) := dk_42 (dk_at dksJ15_implSquareToLen_3 14 rfl rfl)
theorem dJ15_implSquareToLen_87 : decode cJ15_implSquareToLen 87 = .ok (.iload 5, 2) := dk_21 5 (dk_at dksJ15_implSquareToLen_3 15 rfl rfl)
theorem dJ15_implSquareToLen_89 : decode cJ15_implSquareToLen 89 = .ok (.iconst 1, 1) := dk_4 (dk_at dksJ15_implSquareToLen_3 17 rfl rfl)
theorem dJ15_implSquareToLen_90 : decode cJ15_implSquareToLen 90 = .ok (.isub, 1) := dk_100 (dk_at dksJ15_implSquareToLen_3 18 rfl rfl)
theorem dJ15_implSquareToLen_91 : decode cJ15_implSquareToLen 91 = .ok (.iaload, 1) := dk_46 (dk_at dksJ15_implSquareToLen_3 19 rfl rfl)
theorem dJ15_implSquareToLen_92 : decode cJ15_implSquareToLen 92 = .ok (.istore 7, 2) := dk_54 7 (dk_at dksJ15_implSquareToLen_3 20 rfl rfl)
theorem dJ15_implSquareToLen_94 : decode cJ15_implSquareToLen 94 = .ok (.aload_n 2, 1) := dk_44 (dk_at dksJ15_implSquareToLen_3 22 rfl rfl)
theorem dJ15_implSquareToLen_95 : decode cJ15_implSquareToLen 95 = .ok (.aload_n 0, 1) := dk_42 (dk_at dksJ15_implSquareToLen_3 23 rfl rfl)
theorem dJ15_implSquareToLen_96 : decode cJ15_implSquareToLen 96 = .ok (.iload 6, 2) := dk_21 6 (dk_at dksJ15_implSquareToLen_4 0 rfl rfl)
theorem dJ15_implSquareToLen_98 : decode cJ15_implSquareToLen 98 = .ok (.iload 5, 2) := dk_21 5 (dk_at dksJ15_implSquareToLen_4 2 rfl rfl)
theorem dJ15_implSquareToLen_100 : decode cJ15_implSquareToLen 100 = .ok (.iconst 1, 1) := dk_4 (dk_at dksJ15_implSquareToLen_4 4 rfl rfl)
theorem dJ15_implSquareToLen_101 : decode cJ15_implSquareToLen 101 = .ok (.isub, 1) := dk_100 (dk_at dksJ15_implSquareToLen_4 5 rfl rfl)
theorem dJ15_implSquareToLen_102 : decode cJ15_implSquareToLen 102 = .ok (.iload 7, 2) := dk_21 7 (dk_at dksJ15_implSquareToLen_4 6 rfl rfl)
theorem dJ15_implSquareToLen_104 : decode cJ15_implSquareToLen 104 = .ok (.invokestatic 521, 3) := dk_184 2 9 (dk_at dksJ15_implSquareToLen_4 8 rfl rfl)
theorem dJ15_implSquareToLen_107 : decode cJ15_implSquareToLen 107 = .ok (.istore 7, 2) := dk_54 7 (dk_at dksJ15_implSquareToLen_4 11 rfl rfl)
theorem dJ15_implSquareToLen_109 : decode cJ15_implSquareToLen 109 = .ok (.aload_n 2, 1) := dk_44 (dk_at dksJ15_implSquareToLen_4 13 rfl rfl)
theorem dJ15_implSquareToLen_110 : decode cJ15_implSquareToLen 110 = .ok (.iload 6, 2) := dk_21 6 (dk_at dksJ15_implSquareToLen_4 14 rfl rfl)
theorem dJ15_implSquareToLen_112 : decode cJ15_implSquareToLen 112 = .ok (.iconst 1, 1) := dk_4 (dk_at dksJ15_implSquareToLen_4 16 rfl rfl)
theorem dJ15_implSquareToLen_113 : decode cJ15_implSquareToLen 113 = .ok (.isub, 1) := dk_100 (dk_at dksJ15_implSquareToLen_4 17 rfl rfl)
theorem dJ15_implSquareToLen_114 : decode cJ15_implSquareToLen 114 = .ok (.iload 5, 2) := dk_21 5 (dk_at dksJ15_implSquareToLen_4 18 rfl rfl)
theorem dJ15_implSquareToLen_116 : decode cJ15_implSquareToLen 116 = .ok (.iload 7, 2) := dk_21 7 (dk_at dksJ15_implSquareToLen_4 20 rfl rfl)
theorem dJ15_implSquareToLen_118 : decode cJ15_implSquareToLen 118 = .ok (.invokestatic 525, 3) := dk_184 2 13 (dk_at dksJ15_implSquareToLen_5 0 rfl rfl)
theorem dJ15_implSquareToLen_121 : decode cJ15_implSquareToLen 121 = .ok (.pop, 1) := dk_87 (dk_at dksJ15_implSquareToLen_5 3 rfl rfl)
theorem dJ15_implSquareToLen_122 : decode cJ15_implSquareToLen 122 = .ok (.iinc 5 (-1), 3) := dk_132 5 255 (dk_at dksJ15_implSquareToLen_5 4 rfl rfl)
theorem dJ15_implSquareToLen_125 : decode cJ15_implSquareToLen 125 = .ok (.iinc 6 2, 3) := dk_132 6 2 (dk_at dksJ15_implSquareToLen_5 7 rfl rfl)
theorem dJ15_implSquareToLen_128 : decode cJ15_implSquareToLen 128 = .ok (.goto (-47), 3) := dk_167 255 209 (dk_at dksJ15_implSquareToLen_5 10 rfl rfl)
theorem dJ15_implSquareToLen_131 : decode cJ15_implSquareToLen 131 = .ok (.aload_n 2, 1) := dk_44 (dk_at dksJ15_implSquareToLen_5 13 rfl rfl)
theorem dJ15_implSquareToLen_132 : decode cJ15_implSquareToLen 132 = .ok (.iload_n 3, 1) := dk_29 (dk_at dksJ15_implSquareToLen_5 14 rfl rfl)
theorem dJ15_implSquareToLen_133 : decode cJ15_implSquareToLen 133 = .ok (.iconst 1, 1) := dk_4 (dk_at dksJ15_implSquareToLen_5 15 rfl rfl)
theorem dJ15_implSquareToLen_134 : decode cJ15_implSquareToLen 134 = .ok (.invokestatic 529, 3) := dk_184 2 17 (dk_at dksJ15_implSquareToLen_5 16 rfl rfl)
theorem dJ15_implSquareToLen_137 : decode cJ15_implSquareToLen 137 = .ok (.aload_n 2, 1) := dk_44 (dk_at dksJ15_implSquareToLen_5 19 rfl rfl)
theorem dJ15_implSquareToLen_138 : decode cJ15_implSquareToLen 138 = .ok (.iload_n 3, 1) := dk_29 (dk_at dksJ15_implSquareToLen_5 20 rfl rfl)
theorem dJ15_implSquareToLen_139 : decode cJ15_implSquareToLen 139 = .ok (.iconst 1, 1) := dk_4 (dk_at dksJ15_implSquareToLen_5 21 rfl rfl)
theorem dJ15_implSquareToLen_140 : decode cJ15_implSquareToLen 140 = .ok (.isub, 1) := dk_100 (dk_at dksJ15_implSquareToLen_5 22 rfl rfl)
theorem dJ15_implSquareToLen_141 : decode cJ15_implSquareToLen 141 = .ok (.dup2, 1) := dk_92 (dk_at dksJ15_implSquareToLen_5 23 rfl rfl)
theorem dJ15_implSquareToLen_142 : decode cJ15_implSquareToLen 142 = .ok (.iaload, 1) := dk_46 (dk_at dksJ15_implSquareToLen_6 0 rfl rfl)
theorem dJ15_implSquareToLen_143 : decode cJ15_implSquareToLen 143 = .ok (.aload_n 0, 1) := dk_42 (dk_at dksJ15_implSquareToLen_6 1 rfl rfl)
theorem dJ15_implSquareToLen_144 : decode cJ15_implSquareToLen 144 = .ok (.iload_n 1, 1) := dk_27 (dk_at dksJ15_implSquareToLen_6 2 rfl rfl)
theorem dJ15_implSquareToLen_145 : decode cJ15_implSquareToLen 145 = .ok (.iconst 1, 1) := dk_4 (dk_at dksJ15_implSquareToLen_6 3 rfl rfl)
theorem dJ15_implSquareToLen_146 : decode cJ15_implSquareToLen 146 = .ok (.isub, 1) := dk_100 (dk_at dksJ15_implSquareToLen_6 4 rfl rfl)
theorem dJ15_implSquareToLen_147 : decode cJ15_implSquareToLen 147 = .ok (.iaload, 1) := dk_46 (dk_at dksJ15_implSquareToLen_6 5 rfl rfl)
theorem dJ15_implSquareToLen_148 : decode cJ15_implSquareToLen 148 = .ok (.iconst 1, 1) := dk_4 (dk_at dksJ15_implSquareToLen_6 6 rfl rfl)
theorem dJ15_implSquareToLen_149 : decode cJ15_implSquareToLen 149 = .ok (.iand, 1) := dk_126 (dk_at dksJ15_implSquareToLen_6 7 rfl rfl)
theorem dJ15_implSquareToLen_150 : decode cJ15_implSquareToLen 150 = .ok (.ior, 1) := dk_128 (dk_at dksJ15_implSquareToLen_6 8 rfl rfl)
theorem dJ15_implSquareToLen_151 : decode cJ15_implSquareToLen 151 = .ok (.iastore, 1) := dk_79 (dk_at dksJ15_implSquareToLen_6 9 rfl rfl)
theorem dJ15_implSquareToLen_152 : decode cJ15_implSquareToLen 152 = .ok (.aload_n 2, 1) := dk_44 (dk_at dksJ15_implSquareToLen_6 10 rfl rfl)
theorem dJ15_implSquareToLen_153 : decode cJ15_implSquareToLen 153 = .ok (.areturn, 1) := dk_176 (dk_at dksJ15_implSquareToLen_6 11 rfl rfl)
abbrev cJ15_mulAdd : ByteArray := prog_27_method_94_code
def yJ15_mulAdd : MethodName := ⟨RJ15, "mulAdd", "([I[IIII)I"⟩
def dkwJ15_mulAdd_0 : List UInt8 := [42, 43, 28, 29, 21, 4, 184, 2, 195, 42, 43, 28, 29, 21, 4, 184, 2, 198, 172]
abbrev dktJ15_mulAdd_0 : List UInt8 := dkwJ15_mulAdd_0 ++ []
theorem dksJ15_mulAdd_0 : cJ15_mulAdd.data.toList.drop 0 = dktJ15_mulAdd_0 := by decide +kernel
theorem dJ15_mulAdd_0 : decode cJ15_mulAdd 0 = .ok (.aload_n 0, 1) := dk_42 (dk_at dksJ15_mulAdd_0 0 rfl rfl)
theorem dJ15_mulAdd_1 : decode cJ15_mulAdd 1 = .ok (.aload_n 1, 1) := dk_43 (dk_at dksJ15_mulAdd_0 1 rfl rfl)
theorem dJ15_mulAdd_2 : decode cJ15_mulAdd 2 = .ok (.iload_n 2, 1) := dk_28 (dk_at dksJ15_mulAdd_0 2 rfl rfl)
theorem dJ15_mulAdd_3 : decode cJ15_mulAdd 3 = .ok (.iload_n 3, 1) := dk_29 (dk_at dksJ15_mulAdd_0 3 rfl rfl)
theorem dJ15_mulAdd_4 : decode cJ15_mulAdd 4 = .ok (.iload 4, 2) := dk_21 4 (dk_at dksJ15_mulAdd_0 4 rfl rfl)
theorem dJ15_mulAdd_6 : decode cJ15_mulAdd 6 = .ok (.invokestatic 707, 3) := dk_184 2 195 (dk_at dksJ15_mulAdd_0 6 rfl rfl)
theorem dJ15_mulAdd_9 : decode cJ15_mulAdd 9 = .ok (.aload_n 0, 1) := dk_42 (dk_at dksJ15_mulAdd_0 9 rfl rfl)
theorem dJ15_mulAdd_10 : decode cJ15_mulAdd 10 = .ok (.aload_n 1, 1) := dk_43 (dk_at dksJ15_mulAdd_0 10 rfl rfl)
theorem dJ15_mulAdd_11 : decode cJ15_mulAdd 11 = .ok (.iload_n 2, 1) := dk_28 (dk_at dksJ15_mulAdd_0 11 rfl rfl)
theorem dJ15_mulAdd_12 : decode cJ15_mulAdd 12 = .ok (.iload_n 3, 1) := dk_29 (dk_at dksJ15_mulAdd_0 12 rfl rfl)
theorem dJ15_mulAdd_13 : decode cJ15_mulAdd 13 = .ok (.iload 4, 2) := dk_21 4 (dk_at dksJ15_mulAdd_0 13 rfl rfl)
theorem dJ15_mulAdd_15 : decode cJ15_mulAdd 15 = .ok (.invokestatic 710, 3) := dk_184 2 198 (dk_at dksJ15_mulAdd_0 15 rfl rfl)
theorem dJ15_mulAdd_18 : decode cJ15_mulAdd 18 = .ok (.ireturn, 1) := dk_172 (dk_at dksJ15_mulAdd_0 18 rfl rfl)
abbrev cJ15_implMulAddCheck : ByteArray := prog_27_method_95_code
def yJ15_implMulAddCheck : MethodName := ⟨RJ15, "implMulAddCheck", "([I[IIII)V"⟩
def dkwJ15_implMulAddCheck_7 : List UInt8 := [190, 28, 100, 182, 2, 2, 182, 0, 254, 183, 0, 149, 191, 177]
abbrev dktJ15_implMulAddCheck_7 : List UInt8 := dkwJ15_implMulAddCheck_7 ++ []
def dkwJ15_implMulAddCheck_6 : List UInt8 := [187, 0, 242, 89, 183, 0, 244, 19, 2, 207, 182, 0, 247, 29, 182, 2, 2, 19, 2, 7, 182, 0, 247, 42]
abbrev dktJ15_implMulAddCheck_6 : List UInt8 := dkwJ15_implMulAddCheck_6 ++ dktJ15_implMulAddCheck_7
def dkwJ15_implMulAddCheck_5 : List UInt8 := [182, 2, 2, 182, 0, 254, 183, 0, 149, 191, 29, 42, 190, 28, 100, 164, 0, 44, 187, 0, 145, 89]
abbrev dktJ15_implMulAddCheck_5 : List UInt8 := dkwJ15_implMulAddCheck_5 ++ dktJ15_implMulAddCheck_6
def dkwJ15_implMulAddCheck_4 : List UInt8 := [183, 0, 244, 19, 2, 205, 182, 0, 247, 28, 182, 2, 2, 19, 2, 7, 182, 0, 247, 42, 190, 4, 100]
abbrev dktJ15_implMulAddCheck_4 : List UInt8 := dkwJ15_implMulAddCheck_4 ++ dktJ15_implMulAddCheck_5
def dkwJ15_implMulAddCheck_3 : List UInt8 := [182, 0, 254, 183, 0, 149, 191, 28, 42, 190, 4, 100, 164, 0, 44, 187, 0, 145, 89, 187, 0, 242, 89]
abbrev dktJ15_implMulAddCheck_3 : List UInt8 := dkwJ15_implMulAddCheck_3 ++ dktJ15_implMulAddCheck_4
def dkwJ15_implMulAddCheck_2 : List UInt8 := [156, 0, 31, 187, 0, 145, 89, 187, 0, 242, 89, 183, 0, 244, 19, 2, 203, 182, 0, 247, 28, 182, 2, 2]
abbrev dktJ15_implMulAddCheck_2 : List UInt8 := dkwJ15_implMulAddCheck_2 ++ dktJ15_implMulAddCheck_3
def dkwJ15_implMulAddCheck_1 : List UInt8 := [182, 2, 2, 19, 2, 7, 182, 0, 247, 43, 190, 182, 2, 2, 182, 0, 254, 183, 0, 149, 191, 28]
abbrev dktJ15_implMulAddCheck_1 : List UInt8 := dkwJ15_implMulAddCheck_1 ++ dktJ15_implMulAddCheck_2
def dkwJ15_implMulAddCheck_0 : List UInt8 := [29, 43, 190, 164, 0, 42, 187, 0, 145, 89, 187, 0, 242, 89, 183, 0, 244, 19, 2, 201, 182, 0, 247, 29]
abbrev dktJ15_implMulAddCheck_0 : List UInt8 := dkwJ15_implMulAddCheck_0 ++ dktJ15_implMulAddCheck_1
theorem dksJ15_implMulAddCheck_0 : cJ15_implMulAddCheck.data.toList.drop 0 = dktJ15_implMulAddCheck_0 := by decide +kernel
theorem dksJ15_implMulAddCheck_1 : cJ15_implMulAddCheck.data.toList.drop 24 = dktJ15_implMulAddCheck_1 := dk_seg dksJ15_implMulAddCheck_0 24 rfl rfl
theorem dksJ15_implMulAddCheck_2 : cJ15_implMulAddCheck.data.toList.drop 46 = dktJ15_implMulAddCheck_2 := dk_seg dksJ15_implMulAddCheck_1 22 rfl rfl
theorem dksJ15_implMulAddCheck_3 : cJ15_implMulAddCheck.data.toList.drop 70 = dktJ15_implMulAddCheck_3 := dk_seg dksJ15_implMulAddCheck_2 24 rfl rfl
theorem dksJ15_implMulAddCheck_4 : cJ15_implMulAddCheck.data.toList.drop 93 = dktJ15_implMulAddCheck_4 := dk_seg dksJ15_implMulAddCheck_3 23 rfl rfl
theorem dksJ15_implMulAddCheck_5 : cJ15_implMulAddCheck.data.toList.drop 116 = dktJ15_implMulAddCheck_5 := dk_seg dksJ15_implMulAddCheck_4 23 rfl rfl
theorem dksJ15_implMulAddCheck_6 : cJ15_implMulAddCheck.data.toList.drop 138 = dktJ15_implMulAddCheck_6 := dk_seg dksJ15_implMulAddCheck_5 22 rfl rfl
theorem dksJ15_implMulAddCheck_7 : cJ15_implMulAddCheck.data.toList.drop 162 = dktJ15_implMulAddCheck_7 := dk_seg dksJ15_implMulAddCheck_6 24 rfl rfl
theorem dJ15_implMulAddCheck_0 : decode cJ15_implMulAddCheck 0 = .ok (.iload_n 3, 1) := dk_29 (dk_at dksJ15_implMulAddCheck_0 0 rfl rfl)
theorem dJ15_implMulAddCheck_1 : decode cJ15_implMulAddCheck 1 = .ok (.aload_n 1, 1) := dk_43 (dk_at dksJ15_implMulAddCheck_0 1 rfl rfl)
theorem dJ15_implMulAddCheck_2 : decode cJ15_implMulAddCheck 2 = .ok (.arraylength, 1) := dk_190 (dk_at dksJ15_implMulAddCheck_0 2 rfl rfl)
theorem dJ15_implMulAddCheck_3 : decode cJ15_implMulAddCheck 3 = .ok (.if_icmp .le 42, 3) := dk_164 0 42 (dk_at dksJ15_implMulAddCheck_0 3 rfl rfl)
theorem dJ15_implMulAddCheck_6 : decode cJ15_implMulAddCheck 6 = .ok (.new 145, 3) := dk_187 0 145 (dk_at dksJ15_implMulAddCheck_0 6 rfl rfl)
theorem dJ15_implMulAddCheck_9 : decode cJ15_implMulAddCheck 9 = .ok (.dup, 1) := dk_89 (dk_at dksJ15_implMulAddCheck_0 9 rfl rfl)
theorem dJ15_implMulAddCheck_10 : decode cJ15_implMulAddCheck 10 = .ok (.new 242, 3) := dk_187 0 242 (dk_at dksJ15_implMulAddCheck_0 10 rfl rfl)
theorem dJ15_implMulAddCheck_13 : decode cJ15_implMulAddCheck 13 = .ok (.dup, 1) := dk_89 (dk_at dksJ15_implMulAddCheck_0 13 rfl rfl)
theorem dJ15_implMulAddCheck_14 : decode cJ15_implMulAddCheck 14 = .ok (.invokespecial 244, 3) := dk_183 0 244 (dk_at dksJ15_implMulAddCheck_0 14 rfl rfl)
theorem dJ15_implMulAddCheck_17 : decode cJ15_implMulAddCheck 17 = .ok (.ldc_w 713, 3) := dk_19 2 201 (dk_at dksJ15_implMulAddCheck_0 17 rfl rfl)
theorem dJ15_implMulAddCheck_20 : decode cJ15_implMulAddCheck 20 = .ok (.invokevirtual 247, 3) := dk_182 0 247 (dk_at dksJ15_implMulAddCheck_0 20 rfl rfl)
theorem dJ15_implMulAddCheck_23 : decode cJ15_implMulAddCheck 23 = .ok (.iload_n 3, 1) := dk_29 (dk_at dksJ15_implMulAddCheck_0 23 rfl rfl)
theorem dJ15_implMulAddCheck_24 : decode cJ15_implMulAddCheck 24 = .ok (.invokevirtual 514, 3) := dk_182 2 2 (dk_at dksJ15_implMulAddCheck_1 0 rfl rfl)
theorem dJ15_implMulAddCheck_27 : decode cJ15_implMulAddCheck 27 = .ok (.ldc_w 519, 3) := dk_19 2 7 (dk_at dksJ15_implMulAddCheck_1 3 rfl rfl)
theorem dJ15_implMulAddCheck_30 : decode cJ15_implMulAddCheck 30 = .ok (.invokevirtual 247, 3) := dk_182 0 247 (dk_at dksJ15_implMulAddCheck_1 6 rfl rfl)
theorem dJ15_implMulAddCheck_33 : decode cJ15_implMulAddCheck 33 = .ok (.aload_n 1, 1) := dk_43 (dk_at dksJ15_implMulAddCheck_1 9 rfl rfl)
theorem dJ15_implMulAddCheck_34 : decode cJ15_implMulAddCheck 34 = .ok (.arraylength, 1) := dk_190 (dk_at dksJ15_implMulAddCheck_1 10 rfl rfl)
theorem dJ15_implMulAddCheck_35 : decode cJ15_implMulAddCheck 35 = .ok (.invokevirtual 514, 3) := dk_182 2 2 (dk_at dksJ15_implMulAddCheck_1 11 rfl rfl)
theorem dJ15_implMulAddCheck_38 : decode cJ15_implMulAddCheck 38 = .ok (.invokevirtual 254, 3) := dk_182 0 254 (dk_at dksJ15_implMulAddCheck_1 14 rfl rfl)
theorem dJ15_implMulAddCheck_41 : decode cJ15_implMulAddCheck 41 = .ok (.invokespecial 149, 3) := dk_183 0 149 (dk_at dksJ15_implMulAddCheck_1 17 rfl rfl)
theorem dJ15_implMulAddCheck_44 : decode cJ15_implMulAddCheck 44 = .ok (.athrow, 1) := dk_191 (dk_at dksJ15_implMulAddCheck_1 20 rfl rfl)
theorem dJ15_implMulAddCheck_45 : decode cJ15_implMulAddCheck 45 = .ok (.iload_n 2, 1) := dk_28 (dk_at dksJ15_implMulAddCheck_1 21 rfl rfl)
theorem dJ15_implMulAddCheck_46 : decode cJ15_implMulAddCheck 46 = .ok (.ifCond .ge 31, 3) := dk_156 0 31 (dk_at dksJ15_implMulAddCheck_2 0 rfl rfl)
theorem dJ15_implMulAddCheck_49 : decode cJ15_implMulAddCheck 49 = .ok (.new 145, 3) := dk_187 0 145 (dk_at dksJ15_implMulAddCheck_2 3 rfl rfl)
theorem dJ15_implMulAddCheck_52 : decode cJ15_implMulAddCheck 52 = .ok (.dup, 1) := dk_89 (dk_at dksJ15_implMulAddCheck_2 6 rfl rfl)
theorem dJ15_implMulAddCheck_53 : decode cJ15_implMulAddCheck 53 = .ok (.new 242, 3) := dk_187 0 242 (dk_at dksJ15_implMulAddCheck_2 7 rfl rfl)
theorem dJ15_implMulAddCheck_56 : decode cJ15_implMulAddCheck 56 = .ok (.dup, 1) := dk_89 (dk_at dksJ15_implMulAddCheck_2 10 rfl rfl)
theorem dJ15_implMulAddCheck_57 : decode cJ15_implMulAddCheck 57 = .ok (.invokespecial 244, 3) := dk_183 0 244 (dk_at dksJ15_implMulAddCheck_2 11 rfl rfl)
theorem dJ15_implMulAddCheck_60 : decode cJ15_implMulAddCheck 60 = .ok (.ldc_w 715, 3) := dk_19 2 203 (dk_at dksJ15_implMulAddCheck_2 14 rfl rfl)
theorem dJ15_implMulAddCheck_63 : decode cJ15_implMulAddCheck 63 = .ok (.invokevirtual 247, 3) := dk_182 0 247 (dk_at dksJ15_implMulAddCheck_2 17 rfl rfl)
theorem dJ15_implMulAddCheck_66 : decode cJ15_implMulAddCheck 66 = .ok (.iload_n 2, 1) := dk_28 (dk_at dksJ15_implMulAddCheck_2 20 rfl rfl)
theorem dJ15_implMulAddCheck_67 : decode cJ15_implMulAddCheck 67 = .ok (.invokevirtual 514, 3) := dk_182 2 2 (dk_at dksJ15_implMulAddCheck_2 21 rfl rfl)
theorem dJ15_implMulAddCheck_70 : decode cJ15_implMulAddCheck 70 = .ok (.invokevirtual 254, 3) := dk_182 0 254 (dk_at dksJ15_implMulAddCheck_3 0 rfl rfl)
theorem dJ15_implMulAddCheck_73 : decode cJ15_implMulAddCheck 73 = .ok (.invokespecial 149, 3) := dk_183 0 149 (dk_at dksJ15_implMulAddCheck_3 3 rfl rfl)
theorem dJ15_implMulAddCheck_76 : decode cJ15_implMulAddCheck 76 = .ok (.athrow, 1) := dk_191 (dk_at dksJ15_implMulAddCheck_3 6 rfl rfl)
theorem dJ15_implMulAddCheck_77 : decode cJ15_implMulAddCheck 77 = .ok (.iload_n 2, 1) := dk_28 (dk_at dksJ15_implMulAddCheck_3 7 rfl rfl)
theorem dJ15_implMulAddCheck_78 : decode cJ15_implMulAddCheck 78 = .ok (.aload_n 0, 1) := dk_42 (dk_at dksJ15_implMulAddCheck_3 8 rfl rfl)
theorem dJ15_implMulAddCheck_79 : decode cJ15_implMulAddCheck 79 = .ok (.arraylength, 1) := dk_190 (dk_at dksJ15_implMulAddCheck_3 9 rfl rfl)
theorem dJ15_implMulAddCheck_80 : decode cJ15_implMulAddCheck 80 = .ok (.iconst 1, 1) := dk_4 (dk_at dksJ15_implMulAddCheck_3 10 rfl rfl)
theorem dJ15_implMulAddCheck_81 : decode cJ15_implMulAddCheck 81 = .ok (.isub, 1) := dk_100 (dk_at dksJ15_implMulAddCheck_3 11 rfl rfl)
theorem dJ15_implMulAddCheck_82 : decode cJ15_implMulAddCheck 82 = .ok (.if_icmp .le 44, 3) := dk_164 0 44 (dk_at dksJ15_implMulAddCheck_3 12 rfl rfl)
theorem dJ15_implMulAddCheck_85 : decode cJ15_implMulAddCheck 85 = .ok (.new 145, 3) := dk_187 0 145 (dk_at dksJ15_implMulAddCheck_3 15 rfl rfl)
theorem dJ15_implMulAddCheck_88 : decode cJ15_implMulAddCheck 88 = .ok (.dup, 1) := dk_89 (dk_at dksJ15_implMulAddCheck_3 18 rfl rfl)
theorem dJ15_implMulAddCheck_89 : decode cJ15_implMulAddCheck 89 = .ok (.new 242, 3) := dk_187 0 242 (dk_at dksJ15_implMulAddCheck_3 19 rfl rfl)
theorem dJ15_implMulAddCheck_92 : decode cJ15_implMulAddCheck 92 = .ok (.dup, 1) := dk_89 (dk_at dksJ15_implMulAddCheck_3 22 rfl rfl)
theorem dJ15_implMulAddCheck_93 : decode cJ15_implMulAddCheck 93 = .ok (.invokespecial 244, 3) := dk_183 0 244 (dk_at dksJ15_implMulAddCheck_4 0 rfl rfl)
theorem dJ15_implMulAddCheck_96 : decode cJ15_implMulAddCheck 96 = .ok (.ldc_w 717, 3) := dk_19 2 205 (dk_at dksJ15_implMulAddCheck_4 3 rfl rfl)
theorem dJ15_implMulAddCheck_99 : decode cJ15_implMulAddCheck 99 = .ok (.invokevirtual 247, 3) := dk_182 0 247 (dk_at dksJ15_implMulAddCheck_4 6 rfl rfl)
theorem dJ15_implMulAddCheck_102 : decode cJ15_implMulAddCheck 102 = .ok (.iload_n 2, 1) := dk_28 (dk_at dksJ15_implMulAddCheck_4 9 rfl rfl)
theorem dJ15_implMulAddCheck_103 : decode cJ15_implMulAddCheck 103 = .ok (.invokevirtual 514, 3) := dk_182 2 2 (dk_at dksJ15_implMulAddCheck_4 10 rfl rfl)
theorem dJ15_implMulAddCheck_106 : decode cJ15_implMulAddCheck 106 = .ok (.ldc_w 519, 3) := dk_19 2 7 (dk_at dksJ15_implMulAddCheck_4 13 rfl rfl)
theorem dJ15_implMulAddCheck_109 : decode cJ15_implMulAddCheck 109 = .ok (.invokevirtual 247, 3) := dk_182 0 247 (dk_at dksJ15_implMulAddCheck_4 16 rfl rfl)
theorem dJ15_implMulAddCheck_112 : decode cJ15_implMulAddCheck 112 = .ok (.aload_n 0, 1) := dk_42 (dk_at dksJ15_implMulAddCheck_4 19 rfl rfl)
theorem dJ15_implMulAddCheck_113 : decode cJ15_implMulAddCheck 113 = .ok (.arraylength, 1) := dk_190 (dk_at dksJ15_implMulAddCheck_4 20 rfl rfl)
theorem dJ15_implMulAddCheck_114 : decode cJ15_implMulAddCheck 114 = .ok (.iconst 1, 1) := dk_4 (dk_at dksJ15_implMulAddCheck_4 21 rfl rfl)
theorem dJ15_implMulAddCheck_115 : decode cJ15_implMulAddCheck 115 = .ok (.isub, 1) := dk_100 (dk_at dksJ15_implMulAddCheck_4 22 rfl rfl)
theorem dJ15_implMulAddCheck_116 : decode cJ15_implMulAddCheck 116 = .ok (.invokevirtual 514, 3) := dk_182 2 2 (dk_at dksJ15_implMulAddCheck_5 0 rfl rfl)
theorem dJ15_implMulAddCheck_119 : decode cJ15_implMulAddCheck 119 = .ok (.invokevirtual 254, 3) := dk_182 0 254 (dk_at dksJ15_implMulAddCheck_5 3 rfl rfl)
theorem dJ15_implMulAddCheck_122 : decode cJ15_implMulAddCheck 122 = .ok (.invokespecial 149, 3) := dk_183 0 149 (dk_at dksJ15_implMulAddCheck_5 6 rfl rfl)
theorem dJ15_implMulAddCheck_125 : decode cJ15_implMulAddCheck 125 = .ok (.athrow, 1) := dk_191 (dk_at dksJ15_implMulAddCheck_5 9 rfl rfl)
theorem dJ15_implMulAddCheck_126 : decode cJ15_implMulAddCheck 126 = .ok (.iload_n 3, 1) := dk_29 (dk_at dksJ15_implMulAddCheck_5 10 rfl rfl)
theorem dJ15_implMulAddCheck_127 : decode cJ15_implMulAddCheck 127 = .ok (.aload_n 0, 1) := dk_42 (dk_at dksJ15_implMulAddCheck_5 11 rfl rfl)
theorem dJ15_implMulAddCheck_128 : decode cJ15_implMulAddCheck 128 = .ok (.arraylength, 1) := dk_190 (dk_at dksJ15_implMulAddCheck_5 12 rfl rfl)
theorem dJ15_implMulAddCheck_129 : decode cJ15_implMulAddCheck 129 = .ok (.iload_n 2, 1) := dk_28 (dk_at dksJ15_implMulAddCheck_5 13 rfl rfl)
theorem dJ15_implMulAddCheck_130 : decode cJ15_implMulAddCheck 130 = .ok (.isub, 1) := dk_100 (dk_at dksJ15_implMulAddCheck_5 14 rfl rfl)
theorem dJ15_implMulAddCheck_131 : decode cJ15_implMulAddCheck 131 = .ok (.if_icmp .le 44, 3) := dk_164 0 44 (dk_at dksJ15_implMulAddCheck_5 15 rfl rfl)
theorem dJ15_implMulAddCheck_134 : decode cJ15_implMulAddCheck 134 = .ok (.new 145, 3) := dk_187 0 145 (dk_at dksJ15_implMulAddCheck_5 18 rfl rfl)
theorem dJ15_implMulAddCheck_137 : decode cJ15_implMulAddCheck 137 = .ok (.dup, 1) := dk_89 (dk_at dksJ15_implMulAddCheck_5 21 rfl rfl)
theorem dJ15_implMulAddCheck_138 : decode cJ15_implMulAddCheck 138 = .ok (.new 242, 3) := dk_187 0 242 (dk_at dksJ15_implMulAddCheck_6 0 rfl rfl)
theorem dJ15_implMulAddCheck_141 : decode cJ15_implMulAddCheck 141 = .ok (.dup, 1) := dk_89 (dk_at dksJ15_implMulAddCheck_6 3 rfl rfl)
theorem dJ15_implMulAddCheck_142 : decode cJ15_implMulAddCheck 142 = .ok (.invokespecial 244, 3) := dk_183 0 244 (dk_at dksJ15_implMulAddCheck_6 4 rfl rfl)
theorem dJ15_implMulAddCheck_145 : decode cJ15_implMulAddCheck 145 = .ok (.ldc_w 719, 3) := dk_19 2 207 (dk_at dksJ15_implMulAddCheck_6 7 rfl rfl)
theorem dJ15_implMulAddCheck_148 : decode cJ15_implMulAddCheck 148 = .ok (.invokevirtual 247, 3) := dk_182 0 247 (dk_at dksJ15_implMulAddCheck_6 10 rfl rfl)
theorem dJ15_implMulAddCheck_151 : decode cJ15_implMulAddCheck 151 = .ok (.iload_n 3, 1) := dk_29 (dk_at dksJ15_implMulAddCheck_6 13 rfl rfl)
theorem dJ15_implMulAddCheck_152 : decode cJ15_implMulAddCheck 152 = .ok (.invokevirtual 514, 3) := dk_182 2 2 (dk_at dksJ15_implMulAddCheck_6 14 rfl rfl)
theorem dJ15_implMulAddCheck_155 : decode cJ15_implMulAddCheck 155 = .ok (.ldc_w 519, 3) := dk_19 2 7 (dk_at dksJ15_implMulAddCheck_6 17 rfl rfl)
theorem dJ15_implMulAddCheck_158 : decode cJ15_implMulAddCheck 158 = .ok (.invokevirtual 247, 3) := dk_182 0 247 (dk_at dksJ15_implMulAddCheck_6 20 rfl rfl)
theorem dJ15_implMulAddCheck_161 : decode cJ15_implMulAddCheck 161 = .ok (.aload_n 0, 1) := dk_42 (dk_at dksJ15_implMulAddCheck_6 23 rfl rfl)
theorem dJ15_implMulAddCheck_162 : decode cJ15_implMulAddCheck 162 = .ok (.arraylength, 1) := dk_190 (dk_at dksJ15_implMulAddCheck_7 0 rfl rfl)
theorem dJ15_implMulAddCheck_163 : decode cJ15_implMulAddCheck 163 = .ok (.iload_n 2, 1) := dk_28 (dk_at dksJ15_implMulAddCheck_7 1 rfl rfl)
theorem dJ15_implMulAddCheck_164 : decode cJ15_implMulAddCheck 164 = .ok (.isub, 1) := dk_100 (dk_at dksJ15_implMulAddCheck_7 2 rfl rfl)
theorem dJ15_implMulAddCheck_165 : decode cJ15_implMulAddCheck 165 = .ok (.invokevirtual 514, 3) := dk_182 2 2 (dk_at dksJ15_implMulAddCheck_7 3 rfl rfl)
theorem dJ15_implMulAddCheck_168 : decode cJ15_implMulAddCheck 168 = .ok (.invokevirtual 254, 3) := dk_182 0 254 (dk_at dksJ15_implMulAddCheck_7 6 rfl rfl)
theorem dJ15_implMulAddCheck_171 : decode cJ15_implMulAddCheck 171 = .ok (.invokespecial 149, 3) := dk_183 0 149 (dk_at dksJ15_implMulAddCheck_7 9 rfl rfl)
theorem dJ15_implMulAddCheck_174 : decode cJ15_implMulAddCheck 174 = .ok (.athrow, 1) := dk_191 (dk_at dksJ15_implMulAddCheck_7 12 rfl rfl)
theorem dJ15_implMulAddCheck_175 : decode cJ15_implMulAddCheck 175 = .ok (.return_, 1) := dk_177 (dk_at dksJ15_implMulAddCheck_7 13 rfl rfl)
abbrev cJ15_implMulAdd : ByteArray := prog_27_method_96_code
def yJ15_implMulAdd : MethodName := ⟨RJ15, "implMulAdd", "([I[IIII)I"⟩
def dkwJ15_implMulAdd_3 : List UInt8 := [132, 9, 255, 167, 255, 206, 22, 7, 136, 172]
abbrev dktJ15_implMulAdd_3 : List UInt8 := dkwJ15_implMulAdd_3 ++ []
def dkwJ15_implMulAdd_2 : List UInt8 := [127, 97, 22, 7, 97, 55, 10, 42, 28, 132, 2, 255, 22, 10, 136, 79, 22, 10, 16, 32, 125, 55, 7]
abbrev dktJ15_implMulAdd_2 : List UInt8 := dkwJ15_implMulAdd_2 ++ dktJ15_implMulAdd_3
def dkwJ15_implMulAdd_1 : List UInt8 := [21, 9, 155, 0, 51, 43, 21, 9, 46, 133, 20, 0, 130, 127, 22, 5, 105, 42, 28, 46, 133, 20, 0, 130]
abbrev dktJ15_implMulAdd_1 : List UInt8 := dkwJ15_implMulAdd_1 ++ dktJ15_implMulAdd_2
def dkwJ15_implMulAdd_0 : List UInt8 := [21, 4, 133, 20, 0, 130, 127, 55, 5, 9, 55, 7, 42, 190, 28, 100, 4, 100, 61, 29, 4, 100, 54, 9]
abbrev dktJ15_implMulAdd_0 : List UInt8 := dkwJ15_implMulAdd_0 ++ dktJ15_implMulAdd_1
theorem dksJ15_implMulAdd_0 : cJ15_implMulAdd.data.toList.drop 0 = dktJ15_implMulAdd_0 := by decide +kernel
theorem dksJ15_implMulAdd_1 : cJ15_implMulAdd.data.toList.drop 24 = dktJ15_implMulAdd_1 := dk_seg dksJ15_implMulAdd_0 24 rfl rfl
theorem dksJ15_implMulAdd_2 : cJ15_implMulAdd.data.toList.drop 48 = dktJ15_implMulAdd_2 := dk_seg dksJ15_implMulAdd_1 24 rfl rfl
theorem dksJ15_implMulAdd_3 : cJ15_implMulAdd.data.toList.drop 71 = dktJ15_implMulAdd_3 := dk_seg dksJ15_implMulAdd_2 23 rfl rfl
theorem dJ15_implMulAdd_0 : decode cJ15_implMulAdd 0 = .ok (.iload 4, 2) := dk_21 4 (dk_at dksJ15_implMulAdd_0 0 rfl rfl)
theorem dJ15_implMulAdd_2 : decode cJ15_implMulAdd 2 = .ok (.i2l, 1) := dk_133 (dk_at dksJ15_implMulAdd_0 2 rfl rfl)
theorem dJ15_implMulAdd_3 : decode cJ15_implMulAdd 3 = .ok (.ldc2_w 130, 3) := dk_20 0 130 (dk_at dksJ15_implMulAdd_0 3 rfl rfl)
theorem dJ15_implMulAdd_6 : decode cJ15_implMulAdd 6 = .ok (.land, 1) := dk_127 (dk_at dksJ15_implMulAdd_0 6 rfl rfl)
theorem dJ15_implMulAdd_7 : decode cJ15_implMulAdd 7 = .ok (.lstore 5, 2) := dk_55 5 (dk_at dksJ15_implMulAdd_0 7 rfl rfl)
theorem dJ15_implMulAdd_9 : decode cJ15_implMulAdd 9 = .ok (.lconst 0, 1) := dk_9 (dk_at dksJ15_implMulAdd_0 9 rfl rfl)
theorem dJ15_implMulAdd_10 : decode cJ15_implMulAdd 10 = .ok (.lstore 7, 2) := dk_55 7 (dk_at dksJ15_implMulAdd_0 10 rfl rfl)
theorem dJ15_implMulAdd_12 : decode cJ15_implMulAdd 12 = .ok (.aload_n 0, 1) := dk_42 (dk_at dksJ15_implMulAdd_0 12 rfl rfl)
theorem dJ15_implMulAdd_13 : decode cJ15_implMulAdd 13 = .ok (.arraylength, 1) := dk_190 (dk_at dksJ15_implMulAdd_0 13 rfl rfl)
theorem dJ15_implMulAdd_14 : decode cJ15_implMulAdd 14 = .ok (.iload_n 2, 1) := dk_28 (dk_at dksJ15_implMulAdd_0 14 rfl rfl)
theorem dJ15_implMulAdd_15 : decode cJ15_implMulAdd 15 = .ok (.isub, 1) := dk_100 (dk_at dksJ15_implMulAdd_0 15 rfl rfl)
theorem dJ15_implMulAdd_16 : decode cJ15_implMulAdd 16 = .ok (.iconst 1, 1) := dk_4 (dk_at dksJ15_implMulAdd_0 16 rfl rfl)
theorem dJ15_implMulAdd_17 : decode cJ15_implMulAdd 17 = .ok (.isub, 1) := dk_100 (dk_at dksJ15_implMulAdd_0 17 rfl rfl)
theorem dJ15_implMulAdd_18 : decode cJ15_implMulAdd 18 = .ok (.istore_n 2, 1) := dk_61 (dk_at dksJ15_implMulAdd_0 18 rfl rfl)
theorem dJ15_implMulAdd_19 : decode cJ15_implMulAdd 19 = .ok (.iload_n 3, 1) := dk_29 (dk_at dksJ15_implMulAdd_0 19 rfl rfl)
theorem dJ15_implMulAdd_20 : decode cJ15_implMulAdd 20 = .ok (.iconst 1, 1) := dk_4 (dk_at dksJ15_implMulAdd_0 20 rfl rfl)
theorem dJ15_implMulAdd_21 : decode cJ15_implMulAdd 21 = .ok (.isub, 1) := dk_100 (dk_at dksJ15_implMulAdd_0 21 rfl rfl)
theorem dJ15_implMulAdd_22 : decode cJ15_implMulAdd 22 = .ok (.istore 9, 2) := dk_54 9 (dk_at dksJ15_implMulAdd_0 22 rfl rfl)
theorem dJ15_implMulAdd_24 : decode cJ15_implMulAdd 24 = .ok (.iload 9, 2) := dk_21 9 (dk_at dksJ15_implMulAdd_1 0 rfl rfl)
theorem dJ15_implMulAdd_26 : decode cJ15_implMulAdd 26 = .ok (.ifCond .lt 51, 3) := dk_155 0 51 (dk_at dksJ15_implMulAdd_1 2 rfl rfl)
theorem dJ15_implMulAdd_29 : decode cJ15_implMulAdd 29 = .ok (.aload_n 1, 1) := dk_43 (dk_at dksJ15_implMulAdd_1 5 rfl rfl)
theorem dJ15_implMulAdd_30 : decode cJ15_implMulAdd 30 = .ok (.iload 9, 2) := dk_21 9 (dk_at dksJ15_implMulAdd_1 6 rfl rfl)
theorem dJ15_implMulAdd_32 : decode cJ15_implMulAdd 32 = .ok (.iaload, 1) := dk_46 (dk_at dksJ15_implMulAdd_1 8 rfl rfl)
theorem dJ15_implMulAdd_33 : decode cJ15_implMulAdd 33 = .ok (.i2l, 1) := dk_133 (dk_at dksJ15_implMulAdd_1 9 rfl rfl)
theorem dJ15_implMulAdd_34 : decode cJ15_implMulAdd 34 = .ok (.ldc2_w 130, 3) := dk_20 0 130 (dk_at dksJ15_implMulAdd_1 10 rfl rfl)
theorem dJ15_implMulAdd_37 : decode cJ15_implMulAdd 37 = .ok (.land, 1) := dk_127 (dk_at dksJ15_implMulAdd_1 13 rfl rfl)
theorem dJ15_implMulAdd_38 : decode cJ15_implMulAdd 38 = .ok (.lload 5, 2) := dk_22 5 (dk_at dksJ15_implMulAdd_1 14 rfl rfl)
theorem dJ15_implMulAdd_40 : decode cJ15_implMulAdd 40 = .ok (.lmul, 1) := dk_105 (dk_at dksJ15_implMulAdd_1 16 rfl rfl)
theorem dJ15_implMulAdd_41 : decode cJ15_implMulAdd 41 = .ok (.aload_n 0, 1) := dk_42 (dk_at dksJ15_implMulAdd_1 17 rfl rfl)
theorem dJ15_implMulAdd_42 : decode cJ15_implMulAdd 42 = .ok (.iload_n 2, 1) := dk_28 (dk_at dksJ15_implMulAdd_1 18 rfl rfl)
theorem dJ15_implMulAdd_43 : decode cJ15_implMulAdd 43 = .ok (.iaload, 1) := dk_46 (dk_at dksJ15_implMulAdd_1 19 rfl rfl)
theorem dJ15_implMulAdd_44 : decode cJ15_implMulAdd 44 = .ok (.i2l, 1) := dk_133 (dk_at dksJ15_implMulAdd_1 20 rfl rfl)
theorem dJ15_implMulAdd_45 : decode cJ15_implMulAdd 45 = .ok (.ldc2_w 130, 3) := dk_20 0 130 (dk_at dksJ15_implMulAdd_1 21 rfl rfl)
theorem dJ15_implMulAdd_48 : decode cJ15_implMulAdd 48 = .ok (.land, 1) := dk_127 (dk_at dksJ15_implMulAdd_2 0 rfl rfl)
theorem dJ15_implMulAdd_49 : decode cJ15_implMulAdd 49 = .ok (.ladd, 1) := dk_97 (dk_at dksJ15_implMulAdd_2 1 rfl rfl)
theorem dJ15_implMulAdd_50 : decode cJ15_implMulAdd 50 = .ok (.lload 7, 2) := dk_22 7 (dk_at dksJ15_implMulAdd_2 2 rfl rfl)
theorem dJ15_implMulAdd_52 : decode cJ15_implMulAdd 52 = .ok (.ladd, 1) := dk_97 (dk_at dksJ15_implMulAdd_2 4 rfl rfl)
theorem dJ15_implMulAdd_53 : decode cJ15_implMulAdd 53 = .ok (.lstore 10, 2) := dk_55 10 (dk_at dksJ15_implMulAdd_2 5 rfl rfl)
theorem dJ15_implMulAdd_55 : decode cJ15_implMulAdd 55 = .ok (.aload_n 0, 1) := dk_42 (dk_at dksJ15_implMulAdd_2 7 rfl rfl)
theorem dJ15_implMulAdd_56 : decode cJ15_implMulAdd 56 = .ok (.iload_n 2, 1) := dk_28 (dk_at dksJ15_implMulAdd_2 8 rfl rfl)
theorem dJ15_implMulAdd_57 : decode cJ15_implMulAdd 57 = .ok (.iinc 2 (-1), 3) := dk_132 2 255 (dk_at dksJ15_implMulAdd_2 9 rfl rfl)
theorem dJ15_implMulAdd_60 : decode cJ15_implMulAdd 60 = .ok (.lload 10, 2) := dk_22 10 (dk_at dksJ15_implMulAdd_2 12 rfl rfl)
theorem dJ15_implMulAdd_62 : decode cJ15_implMulAdd 62 = .ok (.l2i, 1) := dk_136 (dk_at dksJ15_implMulAdd_2 14 rfl rfl)
theorem dJ15_implMulAdd_63 : decode cJ15_implMulAdd 63 = .ok (.iastore, 1) := dk_79 (dk_at dksJ15_implMulAdd_2 15 rfl rfl)
theorem dJ15_implMulAdd_64 : decode cJ15_implMulAdd 64 = .ok (.lload 10, 2) := dk_22 10 (dk_at dksJ15_implMulAdd_2 16 rfl rfl)
theorem dJ15_implMulAdd_66 : decode cJ15_implMulAdd 66 = .ok (.bipush 32, 2) := dk_16 32 (dk_at dksJ15_implMulAdd_2 18 rfl rfl)
theorem dJ15_implMulAdd_68 : decode cJ15_implMulAdd 68 = .ok (.lushr, 1) := dk_125 (dk_at dksJ15_implMulAdd_2 20 rfl rfl)
theorem dJ15_implMulAdd_69 : decode cJ15_implMulAdd 69 = .ok (.lstore 7, 2) := dk_55 7 (dk_at dksJ15_implMulAdd_2 21 rfl rfl)
theorem dJ15_implMulAdd_71 : decode cJ15_implMulAdd 71 = .ok (.iinc 9 (-1), 3) := dk_132 9 255 (dk_at dksJ15_implMulAdd_3 0 rfl rfl)
theorem dJ15_implMulAdd_74 : decode cJ15_implMulAdd 74 = .ok (.goto (-50), 3) := dk_167 255 206 (dk_at dksJ15_implMulAdd_3 3 rfl rfl)
theorem dJ15_implMulAdd_77 : decode cJ15_implMulAdd 77 = .ok (.lload 7, 2) := dk_22 7 (dk_at dksJ15_implMulAdd_3 6 rfl rfl)
theorem dJ15_implMulAdd_79 : decode cJ15_implMulAdd 79 = .ok (.l2i, 1) := dk_136 (dk_at dksJ15_implMulAdd_3 8 rfl rfl)
theorem dJ15_implMulAdd_80 : decode cJ15_implMulAdd 80 = .ok (.ireturn, 1) := dk_172 (dk_at dksJ15_implMulAdd_3 9 rfl rfl)
abbrev cJ15_addOne : ByteArray := prog_27_method_97_code
def yJ15_addOne : MethodName := ⟨RJ15, "addOne", "([IIII)I"⟩
def dkwJ15_addOne_3 : List UInt8 := [153, 255, 230, 3, 172, 4, 172]
abbrev dktJ15_addOne_3 : List UInt8 := dkwJ15_addOne_3 ++ []
def dkwJ15_addOne_2 : List UInt8 := [155, 0, 27, 132, 1, 255, 27, 156, 0, 5, 4, 172, 42, 27, 92, 46, 4, 96, 79, 42, 27, 46]
abbrev dktJ15_addOne_2 : List UInt8 := dkwJ15_addOne_2 ++ dktJ15_addOne_3
def dkwJ15_addOne_1 : List UInt8 := [55, 4, 42, 27, 22, 4, 136, 79, 22, 4, 16, 32, 125, 9, 148, 154, 0, 5, 3, 172, 132, 2, 255, 28]
abbrev dktJ15_addOne_1 : List UInt8 := dkwJ15_addOne_1 ++ dktJ15_addOne_2
def dkwJ15_addOne_0 : List UInt8 := [42, 190, 4, 100, 28, 100, 27, 100, 60, 42, 27, 46, 133, 20, 0, 130, 127, 29, 133, 20, 0, 130, 127, 97]
abbrev dktJ15_addOne_0 : List UInt8 := dkwJ15_addOne_0 ++ dktJ15_addOne_1
theorem dksJ15_addOne_0 : cJ15_addOne.data.toList.drop 0 = dktJ15_addOne_0 := by decide +kernel
theorem dksJ15_addOne_1 : cJ15_addOne.data.toList.drop 24 = dktJ15_addOne_1 := dk_seg dksJ15_addOne_0 24 rfl rfl
theorem dksJ15_addOne_2 : cJ15_addOne.data.toList.drop 48 = dktJ15_addOne_2 := dk_seg dksJ15_addOne_1 24 rfl rfl
theorem dksJ15_addOne_3 : cJ15_addOne.data.toList.drop 70 = dktJ15_addOne_3 := dk_seg dksJ15_addOne_2 22 rfl rfl
theorem dJ15_addOne_0 : decode cJ15_addOne 0 = .ok (.aload_n 0, 1) := dk_42 (dk_at dksJ15_addOne_0 0 rfl rfl)
theorem dJ15_addOne_1 : decode cJ15_addOne 1 = .ok (.arraylength, 1) := dk_190 (dk_at dksJ15_addOne_0 1 rfl rfl)
theorem dJ15_addOne_2 : decode cJ15_addOne 2 = .ok (.iconst 1, 1) := dk_4 (dk_at dksJ15_addOne_0 2 rfl rfl)
theorem dJ15_addOne_3 : decode cJ15_addOne 3 = .ok (.isub, 1) := dk_100 (dk_at dksJ15_addOne_0 3 rfl rfl)
theorem dJ15_addOne_4 : decode cJ15_addOne 4 = .ok (.iload_n 2, 1) := dk_28 (dk_at dksJ15_addOne_0 4 rfl rfl)
theorem dJ15_addOne_5 : decode cJ15_addOne 5 = .ok (.isub, 1) := dk_100 (dk_at dksJ15_addOne_0 5 rfl rfl)
theorem dJ15_addOne_6 : decode cJ15_addOne 6 = .ok (.iload_n 1, 1) := dk_27 (dk_at dksJ15_addOne_0 6 rfl rfl)
theorem dJ15_addOne_7 : decode cJ15_addOne 7 = .ok (.isub, 1) := dk_100 (dk_at dksJ15_addOne_0 7 rfl rfl)
theorem dJ15_addOne_8 : decode cJ15_addOne 8 = .ok (.istore_n 1, 1) := dk_60 (dk_at dksJ15_addOne_0 8 rfl rfl)
theorem dJ15_addOne_9 : decode cJ15_addOne 9 = .ok (.aload_n 0, 1) := dk_42 (dk_at dksJ15_addOne_0 9 rfl rfl)
theorem dJ15_addOne_10 : decode cJ15_addOne 10 = .ok (.iload_n 1, 1) := dk_27 (dk_at dksJ15_addOne_0 10 rfl rfl)
theorem dJ15_addOne_11 : decode cJ15_addOne 11 = .ok (.iaload, 1) := dk_46 (dk_at dksJ15_addOne_0 11 rfl rfl)
theorem dJ15_addOne_12 : decode cJ15_addOne 12 = .ok (.i2l, 1) := dk_133 (dk_at dksJ15_addOne_0 12 rfl rfl)
theorem dJ15_addOne_13 : decode cJ15_addOne 13 = .ok (.ldc2_w 130, 3) := dk_20 0 130 (dk_at dksJ15_addOne_0 13 rfl rfl)
theorem dJ15_addOne_16 : decode cJ15_addOne 16 = .ok (.land, 1) := dk_127 (dk_at dksJ15_addOne_0 16 rfl rfl)
theorem dJ15_addOne_17 : decode cJ15_addOne 17 = .ok (.iload_n 3, 1) := dk_29 (dk_at dksJ15_addOne_0 17 rfl rfl)
theorem dJ15_addOne_18 : decode cJ15_addOne 18 = .ok (.i2l, 1) := dk_133 (dk_at dksJ15_addOne_0 18 rfl rfl)
theorem dJ15_addOne_19 : decode cJ15_addOne 19 = .ok (.ldc2_w 130, 3) := dk_20 0 130 (dk_at dksJ15_addOne_0 19 rfl rfl)
theorem dJ15_addOne_22 : decode cJ15_addOne 22 = .ok (.land, 1) := dk_127 (dk_at dksJ15_addOne_0 22 rfl rfl)
theorem dJ15_addOne_23 : decode cJ15_addOne 23 = .ok (.ladd, 1) := dk_97 (dk_at dksJ15_addOne_0 23 rfl rfl)
theorem dJ15_addOne_24 : decode cJ15_addOne 24 = .ok (.lstore 4, 2) := dk_55 4 (dk_at dksJ15_addOne_1 0 rfl rfl)
theorem dJ15_addOne_26 : decode cJ15_addOne 26 = .ok (.aload_n 0, 1) := dk_42 (dk_at dksJ15_addOne_1 2 rfl rfl)
theorem dJ15_addOne_27 : decode cJ15_addOne 27 = .ok (.iload_n 1, 1) := dk_27 (dk_at dksJ15_addOne_1 3 rfl rfl)
theorem dJ15_addOne_28 : decode cJ15_addOne 28 = .ok (.lload 4, 2) := dk_22 4 (dk_at dksJ15_addOne_1 4 rfl rfl)
theorem dJ15_addOne_30 : decode cJ15_addOne 30 = .ok (.l2i, 1) := dk_136 (dk_at dksJ15_addOne_1 6 rfl rfl)
theorem dJ15_addOne_31 : decode cJ15_addOne 31 = .ok (.iastore, 1) := dk_79 (dk_at dksJ15_addOne_1 7 rfl rfl)
theorem dJ15_addOne_32 : decode cJ15_addOne 32 = .ok (.lload 4, 2) := dk_22 4 (dk_at dksJ15_addOne_1 8 rfl rfl)
theorem dJ15_addOne_34 : decode cJ15_addOne 34 = .ok (.bipush 32, 2) := dk_16 32 (dk_at dksJ15_addOne_1 10 rfl rfl)
theorem dJ15_addOne_36 : decode cJ15_addOne 36 = .ok (.lushr, 1) := dk_125 (dk_at dksJ15_addOne_1 12 rfl rfl)
theorem dJ15_addOne_37 : decode cJ15_addOne 37 = .ok (.lconst 0, 1) := dk_9 (dk_at dksJ15_addOne_1 13 rfl rfl)
theorem dJ15_addOne_38 : decode cJ15_addOne 38 = .ok (.lcmp, 1) := dk_148 (dk_at dksJ15_addOne_1 14 rfl rfl)
theorem dJ15_addOne_39 : decode cJ15_addOne 39 = .ok (.ifCond .ne 5, 3) := dk_154 0 5 (dk_at dksJ15_addOne_1 15 rfl rfl)
theorem dJ15_addOne_42 : decode cJ15_addOne 42 = .ok (.iconst 0, 1) := dk_3 (dk_at dksJ15_addOne_1 18 rfl rfl)
theorem dJ15_addOne_43 : decode cJ15_addOne 43 = .ok (.ireturn, 1) := dk_172 (dk_at dksJ15_addOne_1 19 rfl rfl)
theorem dJ15_addOne_44 : decode cJ15_addOne 44 = .ok (.iinc 2 (-1), 3) := dk_132 2 255 (dk_at dksJ15_addOne_1 20 rfl rfl)
theorem dJ15_addOne_47 : decode cJ15_addOne 47 = .ok (.iload_n 2, 1) := dk_28 (dk_at dksJ15_addOne_1 23 rfl rfl)
theorem dJ15_addOne_48 : decode cJ15_addOne 48 = .ok (.ifCond .lt 27, 3) := dk_155 0 27 (dk_at dksJ15_addOne_2 0 rfl rfl)
theorem dJ15_addOne_51 : decode cJ15_addOne 51 = .ok (.iinc 1 (-1), 3) := dk_132 1 255 (dk_at dksJ15_addOne_2 3 rfl rfl)
theorem dJ15_addOne_54 : decode cJ15_addOne 54 = .ok (.iload_n 1, 1) := dk_27 (dk_at dksJ15_addOne_2 6 rfl rfl)
theorem dJ15_addOne_55 : decode cJ15_addOne 55 = .ok (.ifCond .ge 5, 3) := dk_156 0 5 (dk_at dksJ15_addOne_2 7 rfl rfl)
theorem dJ15_addOne_58 : decode cJ15_addOne 58 = .ok (.iconst 1, 1) := dk_4 (dk_at dksJ15_addOne_2 10 rfl rfl)
theorem dJ15_addOne_59 : decode cJ15_addOne 59 = .ok (.ireturn, 1) := dk_172 (dk_at dksJ15_addOne_2 11 rfl rfl)
theorem dJ15_addOne_60 : decode cJ15_addOne 60 = .ok (.aload_n 0, 1) := dk_42 (dk_at dksJ15_addOne_2 12 rfl rfl)
theorem dJ15_addOne_61 : decode cJ15_addOne 61 = .ok (.iload_n 1, 1) := dk_27 (dk_at dksJ15_addOne_2 13 rfl rfl)
theorem dJ15_addOne_62 : decode cJ15_addOne 62 = .ok (.dup2, 1) := dk_92 (dk_at dksJ15_addOne_2 14 rfl rfl)
theorem dJ15_addOne_63 : decode cJ15_addOne 63 = .ok (.iaload, 1) := dk_46 (dk_at dksJ15_addOne_2 15 rfl rfl)
theorem dJ15_addOne_64 : decode cJ15_addOne 64 = .ok (.iconst 1, 1) := dk_4 (dk_at dksJ15_addOne_2 16 rfl rfl)
theorem dJ15_addOne_65 : decode cJ15_addOne 65 = .ok (.iadd, 1) := dk_96 (dk_at dksJ15_addOne_2 17 rfl rfl)
theorem dJ15_addOne_66 : decode cJ15_addOne 66 = .ok (.iastore, 1) := dk_79 (dk_at dksJ15_addOne_2 18 rfl rfl)
theorem dJ15_addOne_67 : decode cJ15_addOne 67 = .ok (.aload_n 0, 1) := dk_42 (dk_at dksJ15_addOne_2 19 rfl rfl)
theorem dJ15_addOne_68 : decode cJ15_addOne 68 = .ok (.iload_n 1, 1) := dk_27 (dk_at dksJ15_addOne_2 20 rfl rfl)
theorem dJ15_addOne_69 : decode cJ15_addOne 69 = .ok (.iaload, 1) := dk_46 (dk_at dksJ15_addOne_2 21 rfl rfl)
theorem dJ15_addOne_70 : decode cJ15_addOne 70 = .ok (.ifCond .eq (-26), 3) := dk_153 255 230 (dk_at dksJ15_addOne_3 0 rfl rfl)
theorem dJ15_addOne_73 : decode cJ15_addOne 73 = .ok (.iconst 0, 1) := dk_3 (dk_at dksJ15_addOne_3 3 rfl rfl)
theorem dJ15_addOne_74 : decode cJ15_addOne 74 = .ok (.ireturn, 1) := dk_172 (dk_at dksJ15_addOne_3 4 rfl rfl)
theorem dJ15_addOne_75 : decode cJ15_addOne 75 = .ok (.iconst 1, 1) := dk_4 (dk_at dksJ15_addOne_3 5 rfl rfl)
theorem dJ15_addOne_76 : decode cJ15_addOne 76 = .ok (.ireturn, 1) := dk_172 (dk_at dksJ15_addOne_3 6 rfl rfl)
abbrev cJ15_primitiveLeftShift : ByteArray := prog_27_method_77_code
def yJ15_primitiveLeftShift : MethodName := ⟨RJ15, "primitiveLeftShift", "([III)V"⟩
def dkwJ15_primitiveLeftShift_1 : List UInt8 := [184, 2, 106, 42, 27, 4, 100, 92, 46, 28, 120, 79, 177]
abbrev dktJ15_primitiveLeftShift_1 : List UInt8 := dkwJ15_primitiveLeftShift_1 ++ []
def dkwJ15_primitiveLeftShift_0 : List UInt8 := [27, 153, 0, 7, 28, 154, 0, 4, 177, 3, 27, 42, 190, 184, 2, 99, 87, 42, 42, 3, 28, 27, 4, 100]
abbrev dktJ15_primitiveLeftShift_0 : List UInt8 := dkwJ15_primitiveLeftShift_0 ++ dktJ15_primitiveLeftShift_1
theorem dksJ15_primitiveLeftShift_0 : cJ15_primitiveLeftShift.data.toList.drop 0 = dktJ15_primitiveLeftShift_0 := by decide +kernel
theorem dksJ15_primitiveLeftShift_1 : cJ15_primitiveLeftShift.data.toList.drop 24 = dktJ15_primitiveLeftShift_1 := dk_seg dksJ15_primitiveLeftShift_0 24 rfl rfl
theorem dJ15_primitiveLeftShift_0 : decode cJ15_primitiveLeftShift 0 = .ok (.iload_n 1, 1) := dk_27 (dk_at dksJ15_primitiveLeftShift_0 0 rfl rfl)
theorem dJ15_primitiveLeftShift_1 : decode cJ15_primitiveLeftShift 1 = .ok (.ifCond .eq 7, 3) := dk_153 0 7 (dk_at dksJ15_primitiveLeftShift_0 1 rfl rfl)
theorem dJ15_primitiveLeftShift_4 : decode cJ15_primitiveLeftShift 4 = .ok (.iload_n 2, 1) := dk_28 (dk_at dksJ15_primitiveLeftShift_0 4 rfl rfl)
theorem dJ15_primitiveLeftShift_5 : decode cJ15_primitiveLeftShift 5 = .ok (.ifCond .ne 4, 3) := dk_154 0 4 (dk_at dksJ15_primitiveLeftShift_0 5 rfl rfl)
theorem dJ15_primitiveLeftShift_8 : decode cJ15_primitiveLeftShift 8 = .ok (.return_, 1) := dk_177 (dk_at dksJ15_primitiveLeftShift_0 8 rfl rfl)
theorem dJ15_primitiveLeftShift_9 : decode cJ15_primitiveLeftShift 9 = .ok (.iconst 0, 1) := dk_3 (dk_at dksJ15_primitiveLeftShift_0 9 rfl rfl)
theorem dJ15_primitiveLeftShift_10 : decode cJ15_primitiveLeftShift 10 = .ok (.iload_n 1, 1) := dk_27 (dk_at dksJ15_primitiveLeftShift_0 10 rfl rfl)
theorem dJ15_primitiveLeftShift_11 : decode cJ15_primitiveLeftShift 11 = .ok (.aload_n 0, 1) := dk_42 (dk_at dksJ15_primitiveLeftShift_0 11 rfl rfl)
theorem dJ15_primitiveLeftShift_12 : decode cJ15_primitiveLeftShift 12 = .ok (.arraylength, 1) := dk_190 (dk_at dksJ15_primitiveLeftShift_0 12 rfl rfl)
theorem dJ15_primitiveLeftShift_13 : decode cJ15_primitiveLeftShift 13 = .ok (.invokestatic 611, 3) := dk_184 2 99 (dk_at dksJ15_primitiveLeftShift_0 13 rfl rfl)
theorem dJ15_primitiveLeftShift_16 : decode cJ15_primitiveLeftShift 16 = .ok (.pop, 1) := dk_87 (dk_at dksJ15_primitiveLeftShift_0 16 rfl rfl)
theorem dJ15_primitiveLeftShift_17 : decode cJ15_primitiveLeftShift 17 = .ok (.aload_n 0, 1) := dk_42 (dk_at dksJ15_primitiveLeftShift_0 17 rfl rfl)
theorem dJ15_primitiveLeftShift_18 : decode cJ15_primitiveLeftShift 18 = .ok (.aload_n 0, 1) := dk_42 (dk_at dksJ15_primitiveLeftShift_0 18 rfl rfl)
theorem dJ15_primitiveLeftShift_19 : decode cJ15_primitiveLeftShift 19 = .ok (.iconst 0, 1) := dk_3 (dk_at dksJ15_primitiveLeftShift_0 19 rfl rfl)
theorem dJ15_primitiveLeftShift_20 : decode cJ15_primitiveLeftShift 20 = .ok (.iload_n 2, 1) := dk_28 (dk_at dksJ15_primitiveLeftShift_0 20 rfl rfl)
theorem dJ15_primitiveLeftShift_21 : decode cJ15_primitiveLeftShift 21 = .ok (.iload_n 1, 1) := dk_27 (dk_at dksJ15_primitiveLeftShift_0 21 rfl rfl)
theorem dJ15_primitiveLeftShift_22 : decode cJ15_primitiveLeftShift 22 = .ok (.iconst 1, 1) := dk_4 (dk_at dksJ15_primitiveLeftShift_0 22 rfl rfl)
theorem dJ15_primitiveLeftShift_23 : decode cJ15_primitiveLeftShift 23 = .ok (.isub, 1) := dk_100 (dk_at dksJ15_primitiveLeftShift_0 23 rfl rfl)
theorem dJ15_primitiveLeftShift_24 : decode cJ15_primitiveLeftShift 24 = .ok (.invokestatic 618, 3) := dk_184 2 106 (dk_at dksJ15_primitiveLeftShift_1 0 rfl rfl)
theorem dJ15_primitiveLeftShift_27 : decode cJ15_primitiveLeftShift 27 = .ok (.aload_n 0, 1) := dk_42 (dk_at dksJ15_primitiveLeftShift_1 3 rfl rfl)
theorem dJ15_primitiveLeftShift_28 : decode cJ15_primitiveLeftShift 28 = .ok (.iload_n 1, 1) := dk_27 (dk_at dksJ15_primitiveLeftShift_1 4 rfl rfl)
theorem dJ15_primitiveLeftShift_29 : decode cJ15_primitiveLeftShift 29 = .ok (.iconst 1, 1) := dk_4 (dk_at dksJ15_primitiveLeftShift_1 5 rfl rfl)
theorem dJ15_primitiveLeftShift_30 : decode cJ15_primitiveLeftShift 30 = .ok (.isub, 1) := dk_100 (dk_at dksJ15_primitiveLeftShift_1 6 rfl rfl)
theorem dJ15_primitiveLeftShift_31 : decode cJ15_primitiveLeftShift 31 = .ok (.dup2, 1) := dk_92 (dk_at dksJ15_primitiveLeftShift_1 7 rfl rfl)
theorem dJ15_primitiveLeftShift_32 : decode cJ15_primitiveLeftShift 32 = .ok (.iaload, 1) := dk_46 (dk_at dksJ15_primitiveLeftShift_1 8 rfl rfl)
theorem dJ15_primitiveLeftShift_33 : decode cJ15_primitiveLeftShift 33 = .ok (.iload_n 2, 1) := dk_28 (dk_at dksJ15_primitiveLeftShift_1 9 rfl rfl)
theorem dJ15_primitiveLeftShift_34 : decode cJ15_primitiveLeftShift 34 = .ok (.ishl, 1) := dk_120 (dk_at dksJ15_primitiveLeftShift_1 10 rfl rfl)
theorem dJ15_primitiveLeftShift_35 : decode cJ15_primitiveLeftShift 35 = .ok (.iastore, 1) := dk_79 (dk_at dksJ15_primitiveLeftShift_1 11 rfl rfl)
theorem dJ15_primitiveLeftShift_36 : decode cJ15_primitiveLeftShift 36 = .ok (.return_, 1) := dk_177 (dk_at dksJ15_primitiveLeftShift_1 12 rfl rfl)
abbrev cJ15_trustedStripLeadingZeroInts : ByteArray := prog_27_method_140_code
def yJ15_trustedStripLeadingZeroInts : MethodName := ⟨RJ15, "trustedStripLeadingZeroInts", "([I)[I"⟩
def dkwJ15_trustedStripLeadingZeroInts_1 : List UInt8 := [154, 0, 7, 42, 167, 0, 9, 42, 28, 27, 184, 1, 177, 176]
abbrev dktJ15_trustedStripLeadingZeroInts_1 : List UInt8 := dkwJ15_trustedStripLeadingZeroInts_1 ++ []
def dkwJ15_trustedStripLeadingZeroInts_0 : List UInt8 := [42, 190, 60, 3, 61, 28, 27, 162, 0, 15, 42, 28, 46, 154, 0, 9, 132, 2, 1, 167, 255, 242, 28]
abbrev dktJ15_trustedStripLeadingZeroInts_0 : List UInt8 := dkwJ15_trustedStripLeadingZeroInts_0 ++ dktJ15_trustedStripLeadingZeroInts_1
theorem dksJ15_trustedStripLeadingZeroInts_0 : cJ15_trustedStripLeadingZeroInts.data.toList.drop 0 = dktJ15_trustedStripLeadingZeroInts_0 := by decide +kernel
theorem dksJ15_trustedStripLeadingZeroInts_1 : cJ15_trustedStripLeadingZeroInts.data.toList.drop 23 = dktJ15_trustedStripLeadingZeroInts_1 := dk_seg dksJ15_trustedStripLeadingZeroInts_0 23 rfl rfl
theorem dJ15_trustedStripLeadingZeroInts_0 : decode cJ15_trustedStripLeadingZeroInts 0 = .ok (.aload_n 0, 1) := dk_42 (dk_at dksJ15_trustedStripLeadingZeroInts_0 0 rfl rfl)
theorem dJ15_trustedStripLeadingZeroInts_1 : decode cJ15_trustedStripLeadingZeroInts 1 = .ok (.arraylength, 1) := dk_190 (dk_at dksJ15_trustedStripLeadingZeroInts_0 1 rfl rfl)
theorem dJ15_trustedStripLeadingZeroInts_2 : decode cJ15_trustedStripLeadingZeroInts 2 = .ok (.istore_n 1, 1) := dk_60 (dk_at dksJ15_trustedStripLeadingZeroInts_0 2 rfl rfl)
theorem dJ15_trustedStripLeadingZeroInts_3 : decode cJ15_trustedStripLeadingZeroInts 3 = .ok (.iconst 0, 1) := dk_3 (dk_at dksJ15_trustedStripLeadingZeroInts_0 3 rfl rfl)
theorem dJ15_trustedStripLeadingZeroInts_4 : decode cJ15_trustedStripLeadingZeroInts 4 = .ok (.istore_n 2, 1) := dk_61 (dk_at dksJ15_trustedStripLeadingZeroInts_0 4 rfl rfl)
theorem dJ15_trustedStripLeadingZeroInts_5 : decode cJ15_trustedStripLeadingZeroInts 5 = .ok (.iload_n 2, 1) := dk_28 (dk_at dksJ15_trustedStripLeadingZeroInts_0 5 rfl rfl)
theorem dJ15_trustedStripLeadingZeroInts_6 : decode cJ15_trustedStripLeadingZeroInts 6 = .ok (.iload_n 1, 1) := dk_27 (dk_at dksJ15_trustedStripLeadingZeroInts_0 6 rfl rfl)
theorem dJ15_trustedStripLeadingZeroInts_7 : decode cJ15_trustedStripLeadingZeroInts 7 = .ok (.if_icmp .ge 15, 3) := dk_162 0 15 (dk_at dksJ15_trustedStripLeadingZeroInts_0 7 rfl rfl)
theorem dJ15_trustedStripLeadingZeroInts_10 : decode cJ15_trustedStripLeadingZeroInts 10 = .ok (.aload_n 0, 1) := dk_42 (dk_at dksJ15_trustedStripLeadingZeroInts_0 10 rfl rfl)
theorem dJ15_trustedStripLeadingZeroInts_11 : decode cJ15_trustedStripLeadingZeroInts 11 = .ok (.iload_n 2, 1) := dk_28 (dk_at dksJ15_trustedStripLeadingZeroInts_0 11 rfl rfl)
theorem dJ15_trustedStripLeadingZeroInts_12 : decode cJ15_trustedStripLeadingZeroInts 12 = .ok (.iaload, 1) := dk_46 (dk_at dksJ15_trustedStripLeadingZeroInts_0 12 rfl rfl)
theorem dJ15_trustedStripLeadingZeroInts_13 : decode cJ15_trustedStripLeadingZeroInts 13 = .ok (.ifCond .ne 9, 3) := dk_154 0 9 (dk_at dksJ15_trustedStripLeadingZeroInts_0 13 rfl rfl)
theorem dJ15_trustedStripLeadingZeroInts_16 : decode cJ15_trustedStripLeadingZeroInts 16 = .ok (.iinc 2 1, 3) := dk_132 2 1 (dk_at dksJ15_trustedStripLeadingZeroInts_0 16 rfl rfl)
theorem dJ15_trustedStripLeadingZeroInts_19 : decode cJ15_trustedStripLeadingZeroInts 19 = .ok (.goto (-14), 3) := dk_167 255 242 (dk_at dksJ15_trustedStripLeadingZeroInts_0 19 rfl rfl)
theorem dJ15_trustedStripLeadingZeroInts_22 : decode cJ15_trustedStripLeadingZeroInts 22 = .ok (.iload_n 2, 1) := dk_28 (dk_at dksJ15_trustedStripLeadingZeroInts_0 22 rfl rfl)
theorem dJ15_trustedStripLeadingZeroInts_23 : decode cJ15_trustedStripLeadingZeroInts 23 = .ok (.ifCond .ne 7, 3) := dk_154 0 7 (dk_at dksJ15_trustedStripLeadingZeroInts_1 0 rfl rfl)
theorem dJ15_trustedStripLeadingZeroInts_26 : decode cJ15_trustedStripLeadingZeroInts 26 = .ok (.aload_n 0, 1) := dk_42 (dk_at dksJ15_trustedStripLeadingZeroInts_1 3 rfl rfl)
theorem dJ15_trustedStripLeadingZeroInts_27 : decode cJ15_trustedStripLeadingZeroInts 27 = .ok (.goto 9, 3) := dk_167 0 9 (dk_at dksJ15_trustedStripLeadingZeroInts_1 4 rfl rfl)
theorem dJ15_trustedStripLeadingZeroInts_30 : decode cJ15_trustedStripLeadingZeroInts 30 = .ok (.aload_n 0, 1) := dk_42 (dk_at dksJ15_trustedStripLeadingZeroInts_1 7 rfl rfl)
theorem dJ15_trustedStripLeadingZeroInts_31 : decode cJ15_trustedStripLeadingZeroInts 31 = .ok (.iload_n 2, 1) := dk_28 (dk_at dksJ15_trustedStripLeadingZeroInts_1 8 rfl rfl)
theorem dJ15_trustedStripLeadingZeroInts_32 : decode cJ15_trustedStripLeadingZeroInts 32 = .ok (.iload_n 1, 1) := dk_27 (dk_at dksJ15_trustedStripLeadingZeroInts_1 9 rfl rfl)
theorem dJ15_trustedStripLeadingZeroInts_33 : decode cJ15_trustedStripLeadingZeroInts 33 = .ok (.invokestatic 433, 3) := dk_184 1 177 (dk_at dksJ15_trustedStripLeadingZeroInts_1 10 rfl rfl)
theorem dJ15_trustedStripLeadingZeroInts_36 : decode cJ15_trustedStripLeadingZeroInts 36 = .ok (.areturn, 1) := dk_176 (dk_at dksJ15_trustedStripLeadingZeroInts_1 13 rfl rfl)
abbrev cJ15_squareKaratsuba : ByteArray := prog_27_method_59_code
def yJ15_squareKaratsuba : MethodName := ⟨RJ15, "squareKaratsuba", "()Ljava/math/BigInteger;"⟩
def dkwJ15_squareKaratsuba_3 : List UInt8 := [182, 1, 209, 25, 5, 182, 0, 239, 176]
abbrev dktJ15_squareKaratsuba_3 : List UInt8 := dkwJ15_squareKaratsuba_3 ++ []
def dkwJ15_squareKaratsuba_2 : List UInt8 := [182, 0, 239, 182, 1, 63, 25, 4, 25, 5, 182, 0, 239, 182, 1, 16, 182, 0, 239, 27, 16, 32, 104]
abbrev dktJ15_squareKaratsuba_2 : List UInt8 := dkwJ15_squareKaratsuba_2 ++ dktJ15_squareKaratsuba_3
def dkwJ15_squareKaratsuba_1 : List UInt8 := [182, 1, 63, 58, 4, 44, 182, 1, 63, 58, 5, 25, 4, 27, 16, 32, 104, 182, 1, 209, 44, 45]
abbrev dktJ15_squareKaratsuba_1 : List UInt8 := dkwJ15_squareKaratsuba_1 ++ dktJ15_squareKaratsuba_2
def dkwJ15_squareKaratsuba_0 : List UInt8 := [42, 180, 0, 28, 190, 4, 96, 5, 108, 60, 42, 27, 182, 1, 203, 77, 42, 27, 182, 1, 206, 78, 45]
abbrev dktJ15_squareKaratsuba_0 : List UInt8 := dkwJ15_squareKaratsuba_0 ++ dktJ15_squareKaratsuba_1
theorem dksJ15_squareKaratsuba_0 : cJ15_squareKaratsuba.data.toList.drop 0 = dktJ15_squareKaratsuba_0 := by decide +kernel
theorem dksJ15_squareKaratsuba_1 : cJ15_squareKaratsuba.data.toList.drop 23 = dktJ15_squareKaratsuba_1 := dk_seg dksJ15_squareKaratsuba_0 23 rfl rfl
theorem dksJ15_squareKaratsuba_2 : cJ15_squareKaratsuba.data.toList.drop 45 = dktJ15_squareKaratsuba_2 := dk_seg dksJ15_squareKaratsuba_1 22 rfl rfl
theorem dksJ15_squareKaratsuba_3 : cJ15_squareKaratsuba.data.toList.drop 68 = dktJ15_squareKaratsuba_3 := dk_seg dksJ15_squareKaratsuba_2 23 rfl rfl
theorem dJ15_squareKaratsuba_0 : decode cJ15_squareKaratsuba 0 = .ok (.aload_n 0, 1) := dk_42 (dk_at dksJ15_squareKaratsuba_0 0 rfl rfl)
theorem dJ15_squareKaratsuba_1 : decode cJ15_squareKaratsuba 1 = .ok (.getfield 28, 3) := dk_180 0 28 (dk_at dksJ15_squareKaratsuba_0 1 rfl rfl)
theorem dJ15_squareKaratsuba_4 : decode cJ15_squareKaratsuba 4 = .ok (.arraylength, 1) := dk_190 (dk_at dksJ15_squareKaratsuba_0 4 rfl rfl)
theorem dJ15_squareKaratsuba_5 : decode cJ15_squareKaratsuba 5 = .ok (.iconst 1, 1) := dk_4 (dk_at dksJ15_squareKaratsuba_0 5 rfl rfl)
theorem dJ15_squareKaratsuba_6 : decode cJ15_squareKaratsuba 6 = .ok (.iadd, 1) := dk_96 (dk_at dksJ15_squareKaratsuba_0 6 rfl rfl)
theorem dJ15_squareKaratsuba_7 : decode cJ15_squareKaratsuba 7 = .ok (.iconst 2, 1) := dk_5 (dk_at dksJ15_squareKaratsuba_0 7 rfl rfl)
theorem dJ15_squareKaratsuba_8 : decode cJ15_squareKaratsuba 8 = .ok (.idiv, 1) := dk_108 (dk_at dksJ15_squareKaratsuba_0 8 rfl rfl)
theorem dJ15_squareKaratsuba_9 : decode cJ15_squareKaratsuba 9 = .ok (.istore_n 1, 1) := dk_60 (dk_at dksJ15_squareKaratsuba_0 9 rfl rfl)
theorem dJ15_squareKaratsuba_10 : decode cJ15_squareKaratsuba 10 = .ok (.aload_n 0, 1) := dk_42 (dk_at dksJ15_squareKaratsuba_0 10 rfl rfl)
theorem dJ15_squareKaratsuba_11 : decode cJ15_squareKaratsuba 11 = .ok (.iload_n 1, 1) := dk_27 (dk_at dksJ15_squareKaratsuba_0 11 rfl rfl)
theorem dJ15_squareKaratsuba_12 : decode cJ15_squareKaratsuba 12 = .ok (.invokevirtual 459, 3) := dk_182 1 203 (dk_at dksJ15_squareKaratsuba_0 12 rfl rfl)
theorem dJ15_squareKaratsuba_15 : decode cJ15_squareKaratsuba 15 = .ok (.astore_n 2, 1) := dk_77 (dk_at dksJ15_squareKaratsuba_0 15 rfl rfl)
theorem dJ15_squareKaratsuba_16 : decode cJ15_squareKaratsuba 16 = .ok (.aload_n 0, 1) := dk_42 (dk_at dksJ15_squareKaratsuba_0 16 rfl rfl)
theorem dJ15_squareKaratsuba_17 : decode cJ15_squareKaratsuba 17 = .ok (.iload_n 1, 1) := dk_27 (dk_at dksJ15_squareKaratsuba_0 17 rfl rfl)
theorem dJ15_squareKaratsuba_18 : decode cJ15_squareKaratsuba 18 = .ok (.invokevirtual 462, 3) := dk_182 1 206 (dk_at dksJ15_squareKaratsuba_0 18 rfl rfl)
theorem dJ15_squareKaratsuba_21 : decode cJ15_squareKaratsuba 21 = .ok (.astore_n 3, 1) := dk_78 (dk_at dksJ15_squareKaratsuba_0 21 rfl rfl)
theorem dJ15_squareKaratsuba_22 : decode cJ15_squareKaratsuba 22 = .ok (.aload_n 3, 1) := dk_45 (dk_at dksJ15_squareKaratsuba_0 22 rfl rfl)
theorem dJ15_squareKaratsuba_23 : decode cJ15_squareKaratsuba 23 = .ok (.invokevirtual 319, 3) := dk_182 1 63 (dk_at dksJ15_squareKaratsuba_1 0 rfl rfl)
theorem dJ15_squareKaratsuba_26 : decode cJ15_squareKaratsuba 26 = .ok (.astore 4, 2) := dk_58 4 (dk_at dksJ15_squareKaratsuba_1 3 rfl rfl)
theorem dJ15_squareKaratsuba_28 : decode cJ15_squareKaratsuba 28 = .ok (.aload_n 2, 1) := dk_44 (dk_at dksJ15_squareKaratsuba_1 5 rfl rfl)
theorem dJ15_squareKaratsuba_29 : decode cJ15_squareKaratsuba 29 = .ok (.invokevirtual 319, 3) := dk_182 1 63 (dk_at dksJ15_squareKaratsuba_1 6 rfl rfl)
theorem dJ15_squareKaratsuba_32 : decode cJ15_squareKaratsuba 32 = .ok (.astore 5, 2) := dk_58 5 (dk_at dksJ15_squareKaratsuba_1 9 rfl rfl)
theorem dJ15_squareKaratsuba_34 : decode cJ15_squareKaratsuba 34 = .ok (.aload 4, 2) := dk_25 4 (dk_at dksJ15_squareKaratsuba_1 11 rfl rfl)
theorem dJ15_squareKaratsuba_36 : decode cJ15_squareKaratsuba 36 = .ok (.iload_n 1, 1) := dk_27 (dk_at dksJ15_squareKaratsuba_1 13 rfl rfl)
theorem dJ15_squareKaratsuba_37 : decode cJ15_squareKaratsuba 37 = .ok (.bipush 32, 2) := dk_16 32 (dk_at dksJ15_squareKaratsuba_1 14 rfl rfl)
theorem dJ15_squareKaratsuba_39 : decode cJ15_squareKaratsuba 39 = .ok (.imul, 1) := dk_104 (dk_at dksJ15_squareKaratsuba_1 16 rfl rfl)
theorem dJ15_squareKaratsuba_40 : decode cJ15_squareKaratsuba 40 = .ok (.invokevirtual 465, 3) := dk_182 1 209 (dk_at dksJ15_squareKaratsuba_1 17 rfl rfl)
theorem dJ15_squareKaratsuba_43 : decode cJ15_squareKaratsuba 43 = .ok (.aload_n 2, 1) := dk_44 (dk_at dksJ15_squareKaratsuba_1 20 rfl rfl)
theorem dJ15_squareKaratsuba_44 : decode cJ15_squareKaratsuba 44 = .ok (.aload_n 3, 1) := dk_45 (dk_at dksJ15_squareKaratsuba_1 21 rfl rfl)
theorem dJ15_squareKaratsuba_45 : decode cJ15_squareKaratsuba 45 = .ok (.invokevirtual 239, 3) := dk_182 0 239 (dk_at dksJ15_squareKaratsuba_2 0 rfl rfl)
theorem dJ15_squareKaratsuba_48 : decode cJ15_squareKaratsuba 48 = .ok (.invokevirtual 319, 3) := dk_182 1 63 (dk_at dksJ15_squareKaratsuba_2 3 rfl rfl)
theorem dJ15_squareKaratsuba_51 : decode cJ15_squareKaratsuba 51 = .ok (.aload 4, 2) := dk_25 4 (dk_at dksJ15_squareKaratsuba_2 6 rfl rfl)
theorem dJ15_squareKaratsuba_53 : decode cJ15_squareKaratsuba 53 = .ok (.aload 5, 2) := dk_25 5 (dk_at dksJ15_squareKaratsuba_2 8 rfl rfl)
theorem dJ15_squareKaratsuba_55 : decode cJ15_squareKaratsuba 55 = .ok (.invokevirtual 239, 3) := dk_182 0 239 (dk_at dksJ15_squareKaratsuba_2 10 rfl rfl)
theorem dJ15_squareKaratsuba_58 : decode cJ15_squareKaratsuba 58 = .ok (.invokevirtual 272, 3) := dk_182 1 16 (dk_at dksJ15_squareKaratsuba_2 13 rfl rfl)
theorem dJ15_squareKaratsuba_61 : decode cJ15_squareKaratsuba 61 = .ok (.invokevirtual 239, 3) := dk_182 0 239 (dk_at dksJ15_squareKaratsuba_2 16 rfl rfl)
theorem dJ15_squareKaratsuba_64 : decode cJ15_squareKaratsuba 64 = .ok (.iload_n 1, 1) := dk_27 (dk_at dksJ15_squareKaratsuba_2 19 rfl rfl)
theorem dJ15_squareKaratsuba_65 : decode cJ15_squareKaratsuba 65 = .ok (.bipush 32, 2) := dk_16 32 (dk_at dksJ15_squareKaratsuba_2 20 rfl rfl)
theorem dJ15_squareKaratsuba_67 : decode cJ15_squareKaratsuba 67 = .ok (.imul, 1) := dk_104 (dk_at dksJ15_squareKaratsuba_2 22 rfl rfl)
theorem dJ15_squareKaratsuba_68 : decode cJ15_squareKaratsuba 68 = .ok (.invokevirtual 465, 3) := dk_182 1 209 (dk_at dksJ15_squareKaratsuba_3 0 rfl rfl)
theorem dJ15_squareKaratsuba_71 : decode cJ15_squareKaratsuba 71 = .ok (.aload 5, 2) := dk_25 5 (dk_at dksJ15_squareKaratsuba_3 3 rfl rfl)
theorem dJ15_squareKaratsuba_73 : decode cJ15_squareKaratsuba 73 = .ok (.invokevirtual 239, 3) := dk_182 0 239 (dk_at dksJ15_squareKaratsuba_3 5 rfl rfl)
theorem dJ15_squareKaratsuba_76 : decode cJ15_squareKaratsuba 76 = .ok (.areturn, 1) := dk_176 (dk_at dksJ15_squareKaratsuba_3 8 rfl rfl)
abbrev cJ15_getLower : ByteArray := prog_27_method_52_code
def yJ15_getLower : MethodName := ⟨RJ15, "getLower", "(I)Ljava/math/BigInteger;"⟩
def dkwJ15_getLower_1 : List UInt8 := [28, 27, 100, 45, 3, 27, 184, 1, 132, 187, 0, 23, 89, 45, 184, 0, 53, 4, 183, 0, 175, 176]
abbrev dktJ15_getLower_1 : List UInt8 := dkwJ15_getLower_1 ++ []
def dkwJ15_getLower_0 : List UInt8 := [42, 180, 0, 28, 190, 61, 28, 27, 163, 0, 8, 42, 182, 1, 229, 176, 27, 188, 10, 78, 42, 180, 0, 28]
abbrev dktJ15_getLower_0 : List UInt8 := dkwJ15_getLower_0 ++ dktJ15_getLower_1
theorem dksJ15_getLower_0 : cJ15_getLower.data.toList.drop 0 = dktJ15_getLower_0 := by decide +kernel
theorem dksJ15_getLower_1 : cJ15_getLower.data.toList.drop 24 = dktJ15_getLower_1 := dk_seg dksJ15_getLower_0 24 rfl rfl
theorem dJ15_getLower_0 : decode cJ15_getLower 0 = .ok (.aload_n 0, 1) := dk_42 (dk_at dksJ15_getLower_0 0 rfl rfl)
theorem dJ15_getLower_1 : decode cJ15_getLower 1 = .ok (.getfield 28, 3) := dk_180 0 28 (dk_at dksJ15_getLower_0 1 rfl rfl)
theorem dJ15_getLower_4 : decode cJ15_getLower 4 = .ok (.arraylength, 1) := dk_190 (dk_at dksJ15_getLower_0 4 rfl rfl)
theorem dJ15_getLower_5 : decode cJ15_getLower 5 = .ok (.istore_n 2, 1) := dk_61 (dk_at dksJ15_getLower_0 5 rfl rfl)
theorem dJ15_getLower_6 : decode cJ15_getLower 6 = .ok (.iload_n 2, 1) := dk_28 (dk_at dksJ15_getLower_0 6 rfl rfl)
theorem dJ15_getLower_7 : decode cJ15_getLower 7 = .ok (.iload_n 1, 1) := dk_27 (dk_at dksJ15_getLower_0 7 rfl rfl)
theorem dJ15_getLower_8 : decode cJ15_getLower 8 = .ok (.if_icmp .gt 8, 3) := dk_163 0 8 (dk_at dksJ15_getLower_0 8 rfl rfl)
theorem dJ15_getLower_11 : decode cJ15_getLower 11 = .ok (.aload_n 0, 1) := dk_42 (dk_at dksJ15_getLower_0 11 rfl rfl)
theorem dJ15_getLower_12 : decode cJ15_getLower 12 = .ok (.invokevirtual 485, 3) := dk_182 1 229 (dk_at dksJ15_getLower_0 12 rfl rfl)
theorem dJ15_getLower_15 : decode cJ15_getLower 15 = .ok (.areturn, 1) := dk_176 (dk_at dksJ15_getLower_0 15 rfl rfl)
theorem dJ15_getLower_16 : decode cJ15_getLower 16 = .ok (.iload_n 1, 1) := dk_27 (dk_at dksJ15_getLower_0 16 rfl rfl)
theorem dJ15_getLower_17 : decode cJ15_getLower 17 = .ok (.newarray .int, 2) := dk_188_10 (dk_at dksJ15_getLower_0 17 rfl rfl)
theorem dJ15_getLower_19 : decode cJ15_getLower 19 = .ok (.astore_n 3, 1) := dk_78 (dk_at dksJ15_getLower_0 19 rfl rfl)
theorem dJ15_getLower_20 : decode cJ15_getLower 20 = .ok (.aload_n 0, 1) := dk_42 (dk_at dksJ15_getLower_0 20 rfl rfl)
theorem dJ15_getLower_21 : decode cJ15_getLower 21 = .ok (.getfield 28, 3) := dk_180 0 28 (dk_at dksJ15_getLower_0 21 rfl rfl)
theorem dJ15_getLower_24 : decode cJ15_getLower 24 = .ok (.iload_n 2, 1) := dk_28 (dk_at dksJ15_getLower_1 0 rfl rfl)
theorem dJ15_getLower_25 : decode cJ15_getLower 25 = .ok (.iload_n 1, 1) := dk_27 (dk_at dksJ15_getLower_1 1 rfl rfl)
theorem dJ15_getLower_26 : decode cJ15_getLower 26 = .ok (.isub, 1) := dk_100 (dk_at dksJ15_getLower_1 2 rfl rfl)
theorem dJ15_getLower_27 : decode cJ15_getLower 27 = .ok (.aload_n 3, 1) := dk_45 (dk_at dksJ15_getLower_1 3 rfl rfl)
theorem dJ15_getLower_28 : decode cJ15_getLower 28 = .ok (.iconst 0, 1) := dk_3 (dk_at dksJ15_getLower_1 4 rfl rfl)
theorem dJ15_getLower_29 : decode cJ15_getLower 29 = .ok (.iload_n 1, 1) := dk_27 (dk_at dksJ15_getLower_1 5 rfl rfl)
theorem dJ15_getLower_30 : decode cJ15_getLower 30 = .ok (.invokestatic 388, 3) := dk_184 1 132 (dk_at dksJ15_getLower_1 6 rfl rfl)
theorem dJ15_getLower_33 : decode cJ15_getLower 33 = .ok (.new 23, 3) := dk_187 0 23 (dk_at dksJ15_getLower_1 9 rfl rfl)
theorem dJ15_getLower_36 : decode cJ15_getLower 36 = .ok (.dup, 1) := dk_89 (dk_at dksJ15_getLower_1 12 rfl rfl)
theorem dJ15_getLower_37 : decode cJ15_getLower 37 = .ok (.aload_n 3, 1) := dk_45 (dk_at dksJ15_getLower_1 13 rfl rfl)
theorem dJ15_getLower_38 : decode cJ15_getLower 38 = .ok (.invokestatic 53, 3) := dk_184 0 53 (dk_at dksJ15_getLower_1 14 rfl rfl)
theorem dJ15_getLower_41 : decode cJ15_getLower 41 = .ok (.iconst 1, 1) := dk_4 (dk_at dksJ15_getLower_1 17 rfl rfl)
theorem dJ15_getLower_42 : decode cJ15_getLower 42 = .ok (.invokespecial 175, 3) := dk_183 0 175 (dk_at dksJ15_getLower_1 18 rfl rfl)
theorem dJ15_getLower_45 : decode cJ15_getLower 45 = .ok (.areturn, 1) := dk_176 (dk_at dksJ15_getLower_1 21 rfl rfl)
abbrev cJ15_abs : ByteArray := prog_27_method_79_code
def yJ15_abs : MethodName := ⟨RJ15, "abs", "()Ljava/math/BigInteger;"⟩
def dkwJ15_abs_0 : List UInt8 := [42, 180, 0, 32, 155, 0, 7, 42, 167, 0, 7, 42, 182, 1, 138, 176]
abbrev dktJ15_abs_0 : List UInt8 := dkwJ15_abs_0 ++ []
theorem dksJ15_abs_0 : cJ15_abs.data.toList.drop 0 = dktJ15_abs_0 := by decide +kernel
theorem dJ15_abs_0 : decode cJ15_abs 0 = .ok (.aload_n 0, 1) := dk_42 (dk_at dksJ15_abs_0 0 rfl rfl)
theorem dJ15_abs_1 : decode cJ15_abs 1 = .ok (.getfield 32, 3) := dk_180 0 32 (dk_at dksJ15_abs_0 1 rfl rfl)
theorem dJ15_abs_4 : decode cJ15_abs 4 = .ok (.ifCond .lt 7, 3) := dk_155 0 7 (dk_at dksJ15_abs_0 4 rfl rfl)
theorem dJ15_abs_7 : decode cJ15_abs 7 = .ok (.aload_n 0, 1) := dk_42 (dk_at dksJ15_abs_0 7 rfl rfl)
theorem dJ15_abs_8 : decode cJ15_abs 8 = .ok (.goto 7, 3) := dk_167 0 7 (dk_at dksJ15_abs_0 8 rfl rfl)
theorem dJ15_abs_11 : decode cJ15_abs 11 = .ok (.aload_n 0, 1) := dk_42 (dk_at dksJ15_abs_0 11 rfl rfl)
theorem dJ15_abs_12 : decode cJ15_abs 12 = .ok (.invokevirtual 394, 3) := dk_182 1 138 (dk_at dksJ15_abs_0 12 rfl rfl)
theorem dJ15_abs_15 : decode cJ15_abs 15 = .ok (.areturn, 1) := dk_176 (dk_at dksJ15_abs_0 15 rfl rfl)
abbrev cJ15_negate : ByteArray := prog_27_method_80_code
def yJ15_negate : MethodName := ⟨RJ15, "negate", "()Ljava/math/BigInteger;"⟩
def dkwJ15_negate_0 : List UInt8 := [187, 0, 23, 89, 42, 180, 0, 28, 42, 180, 0, 32, 116, 183, 0, 175, 176]
abbrev dktJ15_negate_0 : List UInt8 := dkwJ15_negate_0 ++ []
theorem dksJ15_negate_0 : cJ15_negate.data.toList.drop 0 = dktJ15_negate_0 := by decide +kernel
theorem dJ15_negate_0 : decode cJ15_negate 0 = .ok (.new 23, 3) := dk_187 0 23 (dk_at dksJ15_negate_0 0 rfl rfl)
theorem dJ15_negate_3 : decode cJ15_negate 3 = .ok (.dup, 1) := dk_89 (dk_at dksJ15_negate_0 3 rfl rfl)
theorem dJ15_negate_4 : decode cJ15_negate 4 = .ok (.aload_n 0, 1) := dk_42 (dk_at dksJ15_negate_0 4 rfl rfl)
theorem dJ15_negate_5 : decode cJ15_negate 5 = .ok (.getfield 28, 3) := dk_180 0 28 (dk_at dksJ15_negate_0 5 rfl rfl)
theorem dJ15_negate_8 : decode cJ15_negate 8 = .ok (.aload_n 0, 1) := dk_42 (dk_at dksJ15_negate_0 8 rfl rfl)
theorem dJ15_negate_9 : decode cJ15_negate 9 = .ok (.getfield 32, 3) := dk_180 0 32 (dk_at dksJ15_negate_0 9 rfl rfl)
theorem dJ15_negate_12 : decode cJ15_negate 12 = .ok (.ineg, 1) := dk_116 (dk_at dksJ15_negate_0 12 rfl rfl)
theorem dJ15_negate_13 : decode cJ15_negate 13 = .ok (.invokespecial 175, 3) := dk_183 0 175 (dk_at dksJ15_negate_0 13 rfl rfl)
theorem dJ15_negate_16 : decode cJ15_negate 16 = .ok (.areturn, 1) := dk_176 (dk_at dksJ15_negate_0 16 rfl rfl)
abbrev cJ15_getUpper : ByteArray := prog_27_method_53_code
def yJ15_getUpper : MethodName := ⟨RJ15, "getUpper", "(I)Ljava/math/BigInteger;"⟩
def dkwJ15_getUpper_2 : List UInt8 := [183, 0, 175, 176]
abbrev dktJ15_getUpper_2 : List UInt8 := dkwJ15_getUpper_2 ++ []
def dkwJ15_getUpper_1 : List UInt8 := [42, 180, 0, 28, 3, 25, 4, 3, 29, 184, 1, 132, 187, 0, 23, 89, 25, 4, 184, 0, 53, 4]
abbrev dktJ15_getUpper_1 : List UInt8 := dkwJ15_getUpper_1 ++ dktJ15_getUpper_2
def dkwJ15_getUpper_0 : List UInt8 := [42, 180, 0, 28, 190, 61, 28, 27, 163, 0, 7, 178, 0, 22, 176, 28, 27, 100, 62, 29, 188, 10, 58, 4]
abbrev dktJ15_getUpper_0 : List UInt8 := dkwJ15_getUpper_0 ++ dktJ15_getUpper_1
theorem dksJ15_getUpper_0 : cJ15_getUpper.data.toList.drop 0 = dktJ15_getUpper_0 := by decide +kernel
theorem dksJ15_getUpper_1 : cJ15_getUpper.data.toList.drop 24 = dktJ15_getUpper_1 := dk_seg dksJ15_getUpper_0 24 rfl rfl
theorem dksJ15_getUpper_2 : cJ15_getUpper.data.toList.drop 46 = dktJ15_getUpper_2 := dk_seg dksJ15_getUpper_1 22 rfl rfl
theorem dJ15_getUpper_0 : decode cJ15_getUpper 0 = .ok (.aload_n 0, 1) := dk_42 (dk_at dksJ15_getUpper_0 0 rfl rfl)
theorem dJ15_getUpper_1 : decode cJ15_getUpper 1 = .ok (.getfield 28, 3) := dk_180 0 28 (dk_at dksJ15_getUpper_0 1 rfl rfl)
theorem dJ15_getUpper_4 : decode cJ15_getUpper 4 = .ok (.arraylength, 1) := dk_190 (dk_at dksJ15_getUpper_0 4 rfl rfl)
theorem dJ15_getUpper_5 : decode cJ15_getUpper 5 = .ok (.istore_n 2, 1) := dk_61 (dk_at dksJ15_getUpper_0 5 rfl rfl)
theorem dJ15_getUpper_6 : decode cJ15_getUpper 6 = .ok (.iload_n 2, 1) := dk_28 (dk_at dksJ15_getUpper_0 6 rfl rfl)
theorem dJ15_getUpper_7 : decode cJ15_getUpper 7 = .ok (.iload_n 1, 1) := dk_27 (dk_at dksJ15_getUpper_0 7 rfl rfl)
theorem dJ15_getUpper_8 : decode cJ15_getUpper 8 = .ok (.if_icmp .gt 7, 3) := dk_163 0 7 (dk_at dksJ15_getUpper_0 8 rfl rfl)
theorem dJ15_getUpper_11 : decode cJ15_getUpper 11 = .ok (.getstatic 22, 3) := dk_178 0 22 (dk_at dksJ15_getUpper_0 11 rfl rfl)
theorem dJ15_getUpper_14 : decode cJ15_getUpper 14 = .ok (.areturn, 1) := dk_176 (dk_at dksJ15_getUpper_0 14 rfl rfl)
theorem dJ15_getUpper_15 : decode cJ15_getUpper 15 = .ok (.iload_n 2, 1) := dk_28 (dk_at dksJ15_getUpper_0 15 rfl rfl)
theorem dJ15_getUpper_16 : decode cJ15_getUpper 16 = .ok (.iload_n 1, 1) := dk_27 (dk_at dksJ15_getUpper_0 16 rfl rfl)
theorem dJ15_getUpper_17 : decode cJ15_getUpper 17 = .ok (.isub, 1) := dk_100 (dk_at dksJ15_getUpper_0 17 rfl rfl)
theorem dJ15_getUpper_18 : decode cJ15_getUpper 18 = .ok (.istore_n 3, 1) := dk_62 (dk_at dksJ15_getUpper_0 18 rfl rfl)
theorem dJ15_getUpper_19 : decode cJ15_getUpper 19 = .ok (.iload_n 3, 1) := dk_29 (dk_at dksJ15_getUpper_0 19 rfl rfl)
theorem dJ15_getUpper_20 : decode cJ15_getUpper 20 = .ok (.newarray .int, 2) := dk_188_10 (dk_at dksJ15_getUpper_0 20 rfl rfl)
theorem dJ15_getUpper_22 : decode cJ15_getUpper 22 = .ok (.astore 4, 2) := dk_58 4 (dk_at dksJ15_getUpper_0 22 rfl rfl)
theorem dJ15_getUpper_24 : decode cJ15_getUpper 24 = .ok (.aload_n 0, 1) := dk_42 (dk_at dksJ15_getUpper_1 0 rfl rfl)
theorem dJ15_getUpper_25 : decode cJ15_getUpper 25 = .ok (.getfield 28, 3) := dk_180 0 28 (dk_at dksJ15_getUpper_1 1 rfl rfl)
theorem dJ15_getUpper_28 : decode cJ15_getUpper 28 = .ok (.iconst 0, 1) := dk_3 (dk_at dksJ15_getUpper_1 4 rfl rfl)
theorem dJ15_getUpper_29 : decode cJ15_getUpper 29 = .ok (.aload 4, 2) := dk_25 4 (dk_at dksJ15_getUpper_1 5 rfl rfl)
theorem dJ15_getUpper_31 : decode cJ15_getUpper 31 = .ok (.iconst 0, 1) := dk_3 (dk_at dksJ15_getUpper_1 7 rfl rfl)
theorem dJ15_getUpper_32 : decode cJ15_getUpper 32 = .ok (.iload_n 3, 1) := dk_29 (dk_at dksJ15_getUpper_1 8 rfl rfl)
theorem dJ15_getUpper_33 : decode cJ15_getUpper 33 = .ok (.invokestatic 388, 3) := dk_184 1 132 (dk_at dksJ15_getUpper_1 9 rfl rfl)
theorem dJ15_getUpper_36 : decode cJ15_getUpper 36 = .ok (.new 23, 3) := dk_187 0 23 (dk_at dksJ15_getUpper_1 12 rfl rfl)
theorem dJ15_getUpper_39 : decode cJ15_getUpper 39 = .ok (.dup, 1) := dk_89 (dk_at dksJ15_getUpper_1 15 rfl rfl)
theorem dJ15_getUpper_40 : decode cJ15_getUpper 40 = .ok (.aload 4, 2) := dk_25 4 (dk_at dksJ15_getUpper_1 16 rfl rfl)
theorem dJ15_getUpper_42 : decode cJ15_getUpper 42 = .ok (.invokestatic 53, 3) := dk_184 0 53 (dk_at dksJ15_getUpper_1 18 rfl rfl)
theorem dJ15_getUpper_45 : decode cJ15_getUpper 45 = .ok (.iconst 1, 1) := dk_4 (dk_at dksJ15_getUpper_1 21 rfl rfl)
theorem dJ15_getUpper_46 : decode cJ15_getUpper 46 = .ok (.invokespecial 175, 3) := dk_183 0 175 (dk_at dksJ15_getUpper_2 0 rfl rfl)
theorem dJ15_getUpper_49 : decode cJ15_getUpper 49 = .ok (.areturn, 1) := dk_176 (dk_at dksJ15_getUpper_2 3 rfl rfl)
abbrev cJ15_square_2 : ByteArray := prog_27_method_54_code
def yJ15_square_2 : MethodName := ⟨RJ15, "square", "()Ljava/math/BigInteger;"⟩
def dkwJ15_square_2_0 : List UInt8 := [42, 3, 3, 3, 182, 1, 144, 176]
abbrev dktJ15_square_2_0 : List UInt8 := dkwJ15_square_2_0 ++ []
theorem dksJ15_square_2_0 : cJ15_square_2.data.toList.drop 0 = dktJ15_square_2_0 := by decide +kernel
theorem dJ15_square_2_0 : decode cJ15_square_2 0 = .ok (.aload_n 0, 1) := dk_42 (dk_at dksJ15_square_2_0 0 rfl rfl)
theorem dJ15_square_2_1 : decode cJ15_square_2 1 = .ok (.iconst 0, 1) := dk_3 (dk_at dksJ15_square_2_0 1 rfl rfl)
theorem dJ15_square_2_2 : decode cJ15_square_2 2 = .ok (.iconst 0, 1) := dk_3 (dk_at dksJ15_square_2_0 2 rfl rfl)
theorem dJ15_square_2_3 : decode cJ15_square_2 3 = .ok (.iconst 0, 1) := dk_3 (dk_at dksJ15_square_2_0 3 rfl rfl)
theorem dJ15_square_2_4 : decode cJ15_square_2 4 = .ok (.invokevirtual 400, 3) := dk_182 1 144 (dk_at dksJ15_square_2_0 4 rfl rfl)
theorem dJ15_square_2_7 : decode cJ15_square_2 7 = .ok (.areturn, 1) := dk_176 (dk_at dksJ15_square_2_0 7 rfl rfl)
abbrev cJ15_add : ByteArray := prog_27_method_32_code
def yJ15_add : MethodName := ⟨RJ15, "add", "(Ljava/math/BigInteger;)Ljava/math/BigInteger;"⟩
def dkwJ15_add_5 : List UInt8 := [160, 0, 7, 4, 167, 0, 4, 2, 183, 0, 175, 176]
abbrev dktJ15_add_5 : List UInt8 := dkwJ15_add_5 ++ []
def dkwJ15_add_4 : List UInt8 := [180, 0, 28, 184, 1, 112, 78, 45, 184, 0, 53, 78, 187, 0, 23, 89, 45, 28, 42, 180, 0, 32]
abbrev dktJ15_add_4 : List UInt8 := dkwJ15_add_4 ++ dktJ15_add_5
def dkwJ15_add_3 : List UInt8 := [158, 0, 17, 42, 180, 0, 28, 43, 180, 0, 28, 184, 1, 112, 167, 0, 14, 43, 180, 0, 28, 42]
abbrev dktJ15_add_3 : List UInt8 := dkwJ15_add_3 ++ dktJ15_add_4
def dkwJ15_add_2 : List UInt8 := [180, 0, 32, 183, 0, 175, 176, 42, 43, 182, 1, 109, 61, 28, 154, 0, 7, 178, 0, 22, 176, 28]
abbrev dktJ15_add_2 : List UInt8 := dkwJ15_add_2 ++ dktJ15_add_3
def dkwJ15_add_1 : List UInt8 := [180, 0, 32, 160, 0, 26, 187, 0, 23, 89, 42, 180, 0, 28, 43, 180, 0, 28, 184, 1, 106, 42]
abbrev dktJ15_add_1 : List UInt8 := dkwJ15_add_1 ++ dktJ15_add_2
def dkwJ15_add_0 : List UInt8 := [43, 180, 0, 32, 154, 0, 5, 42, 176, 42, 180, 0, 32, 154, 0, 5, 43, 176, 43, 180, 0, 32, 42]
abbrev dktJ15_add_0 : List UInt8 := dkwJ15_add_0 ++ dktJ15_add_1
theorem dksJ15_add_0 : cJ15_add.data.toList.drop 0 = dktJ15_add_0 := by decide +kernel
theorem dksJ15_add_1 : cJ15_add.data.toList.drop 23 = dktJ15_add_1 := dk_seg dksJ15_add_0 23 rfl rfl
theorem dksJ15_add_2 : cJ15_add.data.toList.drop 45 = dktJ15_add_2 := dk_seg dksJ15_add_1 22 rfl rfl
theorem dksJ15_add_3 : cJ15_add.data.toList.drop 67 = dktJ15_add_3 := dk_seg dksJ15_add_2 22 rfl rfl
theorem dksJ15_add_4 : cJ15_add.data.toList.drop 89 = dktJ15_add_4 := dk_seg dksJ15_add_3 22 rfl rfl
theorem dksJ15_add_5 : cJ15_add.data.toList.drop 111 = dktJ15_add_5 := dk_seg dksJ15_add_4 22 rfl rfl
theorem dJ15_add_0 : decode cJ15_add 0 = .ok (.aload_n 1, 1) := dk_43 (dk_at dksJ15_add_0 0 rfl rfl)
theorem dJ15_add_1 : decode cJ15_add 1 = .ok (.getfield 32, 3) := dk_180 0 32 (dk_at dksJ15_add_0 1 rfl rfl)
theorem dJ15_add_4 : decode cJ15_add 4 = .ok (.ifCond .ne 5, 3) := dk_154 0 5 (dk_at dksJ15_add_0 4 rfl rfl)
theorem dJ15_add_7 : decode cJ15_add 7 = .ok (.aload_n 0, 1) := dk_42 (dk_at dksJ15_add_0 7 rfl rfl)
theorem dJ15_add_8 : decode cJ15_add 8 = .ok (.areturn, 1) := dk_176 (dk_at dksJ15_add_0 8 rfl rfl)
theorem dJ15_add_9 : decode cJ15_add 9 = .ok (.aload_n 0, 1) := dk_42 (dk_at dksJ15_add_0 9 rfl rfl)
theorem dJ15_add_10 : decode cJ15_add 10 = .ok (.getfield 32, 3) := dk_180 0 32 (dk_at dksJ15_add_0 10 rfl rfl)
theorem dJ15_add_13 : decode cJ15_add 13 = .ok (.ifCond .ne 5, 3) := dk_154 0 5 (dk_at dksJ15_add_0 13 rfl rfl)
theorem dJ15_add_16 : decode cJ15_add 16 = .ok (.aload_n 1, 1) := dk_43 (dk_at dksJ15_add_0 16 rfl rfl)
theorem dJ15_add_17 : decode cJ15_add 17 = .ok (.areturn, 1) := dk_176 (dk_at dksJ15_add_0 17 rfl rfl)
theorem dJ15_add_18 : decode cJ15_add 18 = .ok (.aload_n 1, 1) := dk_43 (dk_at dksJ15_add_0 18 rfl rfl)
theorem dJ15_add_19 : decode cJ15_add 19 = .ok (.getfield 32, 3) := dk_180 0 32 (dk_at dksJ15_add_0 19 rfl rfl)
theorem dJ15_add_22 : decode cJ15_add 22 = .ok (.aload_n 0, 1) := dk_42 (dk_at dksJ15_add_0 22 rfl rfl)
theorem dJ15_add_23 : decode cJ15_add 23 = .ok (.getfield 32, 3) := dk_180 0 32 (dk_at dksJ15_add_1 0 rfl rfl)
theorem dJ15_add_26 : decode cJ15_add 26 = .ok (.if_icmp .ne 26, 3) := dk_160 0 26 (dk_at dksJ15_add_1 3 rfl rfl)
theorem dJ15_add_29 : decode cJ15_add 29 = .ok (.new 23, 3) := dk_187 0 23 (dk_at dksJ15_add_1 6 rfl rfl)
theorem dJ15_add_32 : decode cJ15_add 32 = .ok (.dup, 1) := dk_89 (dk_at dksJ15_add_1 9 rfl rfl)
theorem dJ15_add_33 : decode cJ15_add 33 = .ok (.aload_n 0, 1) := dk_42 (dk_at dksJ15_add_1 10 rfl rfl)
theorem dJ15_add_34 : decode cJ15_add 34 = .ok (.getfield 28, 3) := dk_180 0 28 (dk_at dksJ15_add_1 11 rfl rfl)
theorem dJ15_add_37 : decode cJ15_add 37 = .ok (.aload_n 1, 1) := dk_43 (dk_at dksJ15_add_1 14 rfl rfl)
theorem dJ15_add_38 : decode cJ15_add 38 = .ok (.getfield 28, 3) := dk_180 0 28 (dk_at dksJ15_add_1 15 rfl rfl)
theorem dJ15_add_41 : decode cJ15_add 41 = .ok (.invokestatic 362, 3) := dk_184 1 106 (dk_at dksJ15_add_1 18 rfl rfl)
theorem dJ15_add_44 : decode cJ15_add 44 = .ok (.aload_n 0, 1) := dk_42 (dk_at dksJ15_add_1 21 rfl rfl)
theorem dJ15_add_45 : decode cJ15_add 45 = .ok (.getfield 32, 3) := dk_180 0 32 (dk_at dksJ15_add_2 0 rfl rfl)
theorem dJ15_add_48 : decode cJ15_add 48 = .ok (.invokespecial 175, 3) := dk_183 0 175 (dk_at dksJ15_add_2 3 rfl rfl)
theorem dJ15_add_51 : decode cJ15_add 51 = .ok (.areturn, 1) := dk_176 (dk_at dksJ15_add_2 6 rfl rfl)
theorem dJ15_add_52 : decode cJ15_add 52 = .ok (.aload_n 0, 1) := dk_42 (dk_at dksJ15_add_2 7 rfl rfl)
theorem dJ15_add_53 : decode cJ15_add 53 = .ok (.aload_n 1, 1) := dk_43 (dk_at dksJ15_add_2 8 rfl rfl)
theorem dJ15_add_54 : decode cJ15_add 54 = .ok (.invokevirtual 365, 3) := dk_182 1 109 (dk_at dksJ15_add_2 9 rfl rfl)
theorem dJ15_add_57 : decode cJ15_add 57 = .ok (.istore_n 2, 1) := dk_61 (dk_at dksJ15_add_2 12 rfl rfl)
theorem dJ15_add_58 : decode cJ15_add 58 = .ok (.iload_n 2, 1) := dk_28 (dk_at dksJ15_add_2 13 rfl rfl)
theorem dJ15_add_59 : decode cJ15_add 59 = .ok (.ifCond .ne 7, 3) := dk_154 0 7 (dk_at dksJ15_add_2 14 rfl rfl)
theorem dJ15_add_62 : decode cJ15_add 62 = .ok (.getstatic 22, 3) := dk_178 0 22 (dk_at dksJ15_add_2 17 rfl rfl)
theorem dJ15_add_65 : decode cJ15_add 65 = .ok (.areturn, 1) := dk_176 (dk_at dksJ15_add_2 20 rfl rfl)
theorem dJ15_add_66 : decode cJ15_add 66 = .ok (.iload_n 2, 1) := dk_28 (dk_at dksJ15_add_2 21 rfl rfl)
theorem dJ15_add_67 : decode cJ15_add 67 = .ok (.ifCond .le 17, 3) := dk_158 0 17 (dk_at dksJ15_add_3 0 rfl rfl)
theorem dJ15_add_70 : decode cJ15_add 70 = .ok (.aload_n 0, 1) := dk_42 (dk_at dksJ15_add_3 3 rfl rfl)
theorem dJ15_add_71 : decode cJ15_add 71 = .ok (.getfield 28, 3) := dk_180 0 28 (dk_at dksJ15_add_3 4 rfl rfl)
theorem dJ15_add_74 : decode cJ15_add 74 = .ok (.aload_n 1, 1) := dk_43 (dk_at dksJ15_add_3 7 rfl rfl)
theorem dJ15_add_75 : decode cJ15_add 75 = .ok (.getfield 28, 3) := dk_180 0 28 (dk_at dksJ15_add_3 8 rfl rfl)
theorem dJ15_add_78 : decode cJ15_add 78 = .ok (.invokestatic 368, 3) := dk_184 1 112 (dk_at dksJ15_add_3 11 rfl rfl)
theorem dJ15_add_81 : decode cJ15_add 81 = .ok (.goto 14, 3) := dk_167 0 14 (dk_at dksJ15_add_3 14 rfl rfl)
theorem dJ15_add_84 : decode cJ15_add 84 = .ok (.aload_n 1, 1) := dk_43 (dk_at dksJ15_add_3 17 rfl rfl)
theorem dJ15_add_85 : decode cJ15_add 85 = .ok (.getfield 28, 3) := dk_180 0 28 (dk_at dksJ15_add_3 18 rfl rfl)
theorem dJ15_add_88 : decode cJ15_add 88 = .ok (.aload_n 0, 1) := dk_42 (dk_at dksJ15_add_3 21 rfl rfl)
theorem dJ15_add_89 : decode cJ15_add 89 = .ok (.getfield 28, 3) := dk_180 0 28 (dk_at dksJ15_add_4 0 rfl rfl)
theorem dJ15_add_92 : decode cJ15_add 92 = .ok (.invokestatic 368, 3) := dk_184 1 112 (dk_at dksJ15_add_4 3 rfl rfl)
theorem dJ15_add_95 : decode cJ15_add 95 = .ok (.astore_n 3, 1) := dk_78 (dk_at dksJ15_add_4 6 rfl rfl)
theorem dJ15_add_96 : decode cJ15_add 96 = .ok (.aload_n 3, 1) := dk_45 (dk_at dksJ15_add_4 7 rfl rfl)
theorem dJ15_add_97 : decode cJ15_add 97 = .ok (.invokestatic 53, 3) := dk_184 0 53 (dk_at dksJ15_add_4 8 rfl rfl)
theorem dJ15_add_100 : decode cJ15_add 100 = .ok (.astore_n 3, 1) := dk_78 (dk_at dksJ15_add_4 11 rfl rfl)
theorem dJ15_add_101 : decode cJ15_add 101 = .ok (.new 23, 3) := dk_187 0 23 (dk_at dksJ15_add_4 12 rfl rfl)
theorem dJ15_add_104 : decode cJ15_add 104 = .ok (.dup, 1) := dk_89 (dk_at dksJ15_add_4 15 rfl rfl)
theorem dJ15_add_105 : decode cJ15_add 105 = .ok (.aload_n 3, 1) := dk_45 (dk_at dksJ15_add_4 16 rfl rfl)
theorem dJ15_add_106 : decode cJ15_add 106 = .ok (.iload_n 2, 1) := dk_28 (dk_at dksJ15_add_4 17 rfl rfl)
theorem dJ15_add_107 : decode cJ15_add 107 = .ok (.aload_n 0, 1) := dk_42 (dk_at dksJ15_add_4 18 rfl rfl)
theorem dJ15_add_108 : decode cJ15_add 108 = .ok (.getfield 32, 3) := dk_180 0 32 (dk_at dksJ15_add_4 19 rfl rfl)
theorem dJ15_add_111 : decode cJ15_add 111 = .ok (.if_icmp .ne 7, 3) := dk_160 0 7 (dk_at dksJ15_add_5 0 rfl rfl)
theorem dJ15_add_114 : decode cJ15_add 114 = .ok (.iconst 1, 1) := dk_4 (dk_at dksJ15_add_5 3 rfl rfl)
theorem dJ15_add_115 : decode cJ15_add 115 = .ok (.goto 4, 3) := dk_167 0 4 (dk_at dksJ15_add_5 4 rfl rfl)
theorem dJ15_add_118 : decode cJ15_add 118 = .ok (.iconst (-1), 1) := dk_2 (dk_at dksJ15_add_5 7 rfl rfl)
theorem dJ15_add_119 : decode cJ15_add 119 = .ok (.invokespecial 175, 3) := dk_183 0 175 (dk_at dksJ15_add_5 8 rfl rfl)
theorem dJ15_add_122 : decode cJ15_add 122 = .ok (.areturn, 1) := dk_176 (dk_at dksJ15_add_5 11 rfl rfl)
abbrev cJ15_add_2 : ByteArray := prog_27_method_35_code
def yJ15_add_2 : MethodName := ⟨RJ15, "add", "([I[I)[I"⟩
def dkwJ15_add_2_9 : List UInt8 := [25, 8, 176, 25, 4, 176]
abbrev dktJ15_add_2_9 : List UInt8 := dkwJ15_add_2_9 ++ []
def dkwJ15_add_2_8 : List UInt8 := [4, 96, 188, 10, 58, 8, 25, 4, 3, 25, 8, 4, 25, 4, 190, 184, 1, 132, 25, 8, 3, 4, 79]
abbrev dktJ15_add_2_8 : List UInt8 := dkwJ15_add_2_8 ++ dktJ15_add_2_9
def dkwJ15_add_2_7 : List UInt8 := [158, 0, 16, 25, 4, 132, 2, 255, 28, 42, 28, 46, 79, 167, 255, 242, 21, 7, 153, 0, 32, 25, 4, 190]
abbrev dktJ15_add_2_7 : List UInt8 := dkwJ15_add_2_7 ++ dktJ15_add_2_8
def dkwJ15_add_2_6 : List UInt8 := [28, 42, 28, 46, 4, 96, 91, 79, 154, 0, 7, 4, 167, 0, 4, 3, 54, 7, 167, 255, 224, 28]
abbrev dktJ15_add_2_6 : List UInt8 := dkwJ15_add_2_6 ++ dktJ15_add_2_7
def dkwJ15_add_2_5 : List UInt8 := [153, 0, 7, 4, 167, 0, 4, 3, 54, 7, 28, 158, 0, 34, 21, 7, 153, 0, 29, 25, 4, 132, 2, 255]
abbrev dktJ15_add_2_5 : List UInt8 := dkwJ15_add_2_5 ++ dktJ15_add_2_6
def dkwJ15_add_2_4 : List UInt8 := [16, 32, 125, 97, 55, 5, 25, 4, 28, 22, 5, 136, 79, 167, 255, 214, 22, 5, 16, 32, 125, 9, 148]
abbrev dktJ15_add_2_4 : List UInt8 := dkwJ15_add_2_4 ++ dktJ15_add_2_5
def dkwJ15_add_2_3 : List UInt8 := [132, 2, 255, 28, 46, 133, 20, 0, 130, 127, 43, 132, 3, 255, 29, 46, 133, 20, 0, 130, 127, 97, 22, 5]
abbrev dktJ15_add_2_3 : List UInt8 := dkwJ15_add_2_3 ++ dktJ15_add_2_4
def dkwJ15_add_2_2 : List UInt8 := [20, 0, 130, 127, 97, 55, 5, 25, 4, 28, 22, 5, 136, 79, 167, 0, 48, 29, 158, 0, 44, 42]
abbrev dktJ15_add_2_2 : List UInt8 := dkwJ15_add_2_2 ++ dktJ15_add_2_3
def dkwJ15_add_2_1 : List UInt8 := [9, 55, 5, 29, 4, 160, 0, 35, 42, 132, 2, 255, 28, 46, 133, 20, 0, 130, 127, 43, 3, 46, 133]
abbrev dktJ15_add_2_1 : List UInt8 := dkwJ15_add_2_1 ++ dktJ15_add_2_2
def dkwJ15_add_2_0 : List UInt8 := [42, 190, 43, 190, 162, 0, 9, 42, 77, 43, 75, 44, 76, 42, 190, 61, 43, 190, 62, 28, 188, 10, 58, 4]
abbrev dktJ15_add_2_0 : List UInt8 := dkwJ15_add_2_0 ++ dktJ15_add_2_1
theorem dksJ15_add_2_0 : cJ15_add_2.data.toList.drop 0 = dktJ15_add_2_0 := by decide +kernel
theorem dksJ15_add_2_1 : cJ15_add_2.data.toList.drop 24 = dktJ15_add_2_1 := dk_seg dksJ15_add_2_0 24 rfl rfl
theorem dksJ15_add_2_2 : cJ15_add_2.data.toList.drop 47 = dktJ15_add_2_2 := dk_seg dksJ15_add_2_1 23 rfl rfl
theorem dksJ15_add_2_3 : cJ15_add_2.data.toList.drop 69 = dktJ15_add_2_3 := dk_seg dksJ15_add_2_2 22 rfl rfl
theorem dksJ15_add_2_4 : cJ15_add_2.data.toList.drop 93 = dktJ15_add_2_4 := dk_seg dksJ15_add_2_3 24 rfl rfl
theorem dksJ15_add_2_5 : cJ15_add_2.data.toList.drop 116 = dktJ15_add_2_5 := dk_seg dksJ15_add_2_4 23 rfl rfl
theorem dksJ15_add_2_6 : cJ15_add_2.data.toList.drop 140 = dktJ15_add_2_6 := dk_seg dksJ15_add_2_5 24 rfl rfl
theorem dksJ15_add_2_7 : cJ15_add_2.data.toList.drop 162 = dktJ15_add_2_7 := dk_seg dksJ15_add_2_6 22 rfl rfl
theorem dksJ15_add_2_8 : cJ15_add_2.data.toList.drop 186 = dktJ15_add_2_8 := dk_seg dksJ15_add_2_7 24 rfl rfl
theorem dksJ15_add_2_9 : cJ15_add_2.data.toList.drop 209 = dktJ15_add_2_9 := dk_seg dksJ15_add_2_8 23 rfl rfl
theorem dJ15_add_2_0 : decode cJ15_add_2 0 = .ok (.aload_n 0, 1) := dk_42 (dk_at dksJ15_add_2_0 0 rfl rfl)
theorem dJ15_add_2_1 : decode cJ15_add_2 1 = .ok (.arraylength, 1) := dk_190 (dk_at dksJ15_add_2_0 1 rfl rfl)
theorem dJ15_add_2_2 : decode cJ15_add_2 2 = .ok (.aload_n 1, 1) := dk_43 (dk_at dksJ15_add_2_0 2 rfl rfl)
theorem dJ15_add_2_3 : decode cJ15_add_2 3 = .ok (.arraylength, 1) := dk_190 (dk_at dksJ15_add_2_0 3 rfl rfl)
theorem dJ15_add_2_4 : decode cJ15_add_2 4 = .ok (.if_icmp .ge 9, 3) := dk_162 0 9 (dk_at dksJ15_add_2_0 4 rfl rfl)
theorem dJ15_add_2_7 : decode cJ15_add_2 7 = .ok (.aload_n 0, 1) := dk_42 (dk_at dksJ15_add_2_0 7 rfl rfl)
theorem dJ15_add_2_8 : decode cJ15_add_2 8 = .ok (.astore_n 2, 1) := dk_77 (dk_at dksJ15_add_2_0 8 rfl rfl)
theorem dJ15_add_2_9 : decode cJ15_add_2 9 = .ok (.aload_n 1, 1) := dk_43 (dk_at dksJ15_add_2_0 9 rfl rfl)
theorem dJ15_add_2_10 : decode cJ15_add_2 10 = .ok (.astore_n 0, 1) := dk_75 (dk_at dksJ15_add_2_0 10 rfl rfl)
theorem dJ15_add_2_11 : decode cJ15_add_2 11 = .ok (.aload_n 2, 1) := dk_44 (dk_at dksJ15_add_2_0 11 rfl rfl)
theorem dJ15_add_2_12 : decode cJ15_add_2 12 = .ok (.astore_n 1, 1) := dk_76 (dk_at dksJ15_add_2_0 12 rfl rfl)
theorem dJ15_add_2_13 : decode cJ15_add_2 13 = .ok (.aload_n 0, 1) := dk_42 (dk_at dksJ15_add_2_0 13 rfl rfl)
theorem dJ15_add_2_14 : decode cJ15_add_2 14 = .ok (.arraylength, 1) := dk_190 (dk_at dksJ15_add_2_0 14 rfl rfl)
theorem dJ15_add_2_15 : decode cJ15_add_2 15 = .ok (.istore_n 2, 1) := dk_61 (dk_at dksJ15_add_2_0 15 rfl rfl)
theorem dJ15_add_2_16 : decode cJ15_add_2 16 = .ok (.aload_n 1, 1) := dk_43 (dk_at dksJ15_add_2_0 16 rfl rfl)
theorem dJ15_add_2_17 : decode cJ15_add_2 17 = .ok (.arraylength, 1) := dk_190 (dk_at dksJ15_add_2_0 17 rfl rfl)
theorem dJ15_add_2_18 : decode cJ15_add_2 18 = .ok (.istore_n 3, 1) := dk_62 (dk_at dksJ15_add_2_0 18 rfl rfl)
theorem dJ15_add_2_19 : decode cJ15_add_2 19 = .ok (.iload_n 2, 1) := dk_28 (dk_at dksJ15_add_2_0 19 rfl rfl)
theorem dJ15_add_2_20 : decode cJ15_add_2 20 = .ok (.newarray .int, 2) := dk_188_10 (dk_at dksJ15_add_2_0 20 rfl rfl)
theorem dJ15_add_2_22 : decode cJ15_add_2 22 = .ok (.astore 4, 2) := dk_58 4 (dk_at dksJ15_add_2_0 22 rfl rfl)
theorem dJ15_add_2_24 : decode cJ15_add_2 24 = .ok (.lconst 0, 1) := dk_9 (dk_at dksJ15_add_2_1 0 rfl rfl)
theorem dJ15_add_2_25 : decode cJ15_add_2 25 = .ok (.lstore 5, 2) := dk_55 5 (dk_at dksJ15_add_2_1 1 rfl rfl)
theorem dJ15_add_2_27 : decode cJ15_add_2 27 = .ok (.iload_n 3, 1) := dk_29 (dk_at dksJ15_add_2_1 3 rfl rfl)
theorem dJ15_add_2_28 : decode cJ15_add_2 28 = .ok (.iconst 1, 1) := dk_4 (dk_at dksJ15_add_2_1 4 rfl rfl)
theorem dJ15_add_2_29 : decode cJ15_add_2 29 = .ok (.if_icmp .ne 35, 3) := dk_160 0 35 (dk_at dksJ15_add_2_1 5 rfl rfl)
theorem dJ15_add_2_32 : decode cJ15_add_2 32 = .ok (.aload_n 0, 1) := dk_42 (dk_at dksJ15_add_2_1 8 rfl rfl)
theorem dJ15_add_2_33 : decode cJ15_add_2 33 = .ok (.iinc 2 (-1), 3) := dk_132 2 255 (dk_at dksJ15_add_2_1 9 rfl rfl)
theorem dJ15_add_2_36 : decode cJ15_add_2 36 = .ok (.iload_n 2, 1) := dk_28 (dk_at dksJ15_add_2_1 12 rfl rfl)
theorem dJ15_add_2_37 : decode cJ15_add_2 37 = .ok (.iaload, 1) := dk_46 (dk_at dksJ15_add_2_1 13 rfl rfl)
theorem dJ15_add_2_38 : decode cJ15_add_2 38 = .ok (.i2l, 1) := dk_133 (dk_at dksJ15_add_2_1 14 rfl rfl)
theorem dJ15_add_2_39 : decode cJ15_add_2 39 = .ok (.ldc2_w 130, 3) := dk_20 0 130 (dk_at dksJ15_add_2_1 15 rfl rfl)
theorem dJ15_add_2_42 : decode cJ15_add_2 42 = .ok (.land, 1) := dk_127 (dk_at dksJ15_add_2_1 18 rfl rfl)
theorem dJ15_add_2_43 : decode cJ15_add_2 43 = .ok (.aload_n 1, 1) := dk_43 (dk_at dksJ15_add_2_1 19 rfl rfl)
theorem dJ15_add_2_44 : decode cJ15_add_2 44 = .ok (.iconst 0, 1) := dk_3 (dk_at dksJ15_add_2_1 20 rfl rfl)
theorem dJ15_add_2_45 : decode cJ15_add_2 45 = .ok (.iaload, 1) := dk_46 (dk_at dksJ15_add_2_1 21 rfl rfl)
theorem dJ15_add_2_46 : decode cJ15_add_2 46 = .ok (.i2l, 1) := dk_133 (dk_at dksJ15_add_2_1 22 rfl rfl)
theorem dJ15_add_2_47 : decode cJ15_add_2 47 = .ok (.ldc2_w 130, 3) := dk_20 0 130 (dk_at dksJ15_add_2_2 0 rfl rfl)
theorem dJ15_add_2_50 : decode cJ15_add_2 50 = .ok (.land, 1) := dk_127 (dk_at dksJ15_add_2_2 3 rfl rfl)
theorem dJ15_add_2_51 : decode cJ15_add_2 51 = .ok (.ladd, 1) := dk_97 (dk_at dksJ15_add_2_2 4 rfl rfl)
theorem dJ15_add_2_52 : decode cJ15_add_2 52 = .ok (.lstore 5, 2) := dk_55 5 (dk_at dksJ15_add_2_2 5 rfl rfl)
theorem dJ15_add_2_54 : decode cJ15_add_2 54 = .ok (.aload 4, 2) := dk_25 4 (dk_at dksJ15_add_2_2 7 rfl rfl)
theorem dJ15_add_2_56 : decode cJ15_add_2 56 = .ok (.iload_n 2, 1) := dk_28 (dk_at dksJ15_add_2_2 9 rfl rfl)
theorem dJ15_add_2_57 : decode cJ15_add_2 57 = .ok (.lload 5, 2) := dk_22 5 (dk_at dksJ15_add_2_2 10 rfl rfl)
theorem dJ15_add_2_59 : decode cJ15_add_2 59 = .ok (.l2i, 1) := dk_136 (dk_at dksJ15_add_2_2 12 rfl rfl)
theorem dJ15_add_2_60 : decode cJ15_add_2 60 = .ok (.iastore, 1) := dk_79 (dk_at dksJ15_add_2_2 13 rfl rfl)
theorem dJ15_add_2_61 : decode cJ15_add_2 61 = .ok (.goto 48, 3) := dk_167 0 48 (dk_at dksJ15_add_2_2 14 rfl rfl)
theorem dJ15_add_2_64 : decode cJ15_add_2 64 = .ok (.iload_n 3, 1) := dk_29 (dk_at dksJ15_add_2_2 17 rfl rfl)
theorem dJ15_add_2_65 : decode cJ15_add_2 65 = .ok (.ifCond .le 44, 3) := dk_158 0 44 (dk_at dksJ15_add_2_2 18 rfl rfl)
theorem dJ15_add_2_68 : decode cJ15_add_2 68 = .ok (.aload_n 0, 1) := dk_42 (dk_at dksJ15_add_2_2 21 rfl rfl)
theorem dJ15_add_2_69 : decode cJ15_add_2 69 = .ok (.iinc 2 (-1), 3) := dk_132 2 255 (dk_at dksJ15_add_2_3 0 rfl rfl)
theorem dJ15_add_2_72 : decode cJ15_add_2 72 = .ok (.iload_n 2, 1) := dk_28 (dk_at dksJ15_add_2_3 3 rfl rfl)
theorem dJ15_add_2_73 : decode cJ15_add_2 73 = .ok (.iaload, 1) := dk_46 (dk_at dksJ15_add_2_3 4 rfl rfl)
theorem dJ15_add_2_74 : decode cJ15_add_2 74 = .ok (.i2l, 1) := dk_133 (dk_at dksJ15_add_2_3 5 rfl rfl)
theorem dJ15_add_2_75 : decode cJ15_add_2 75 = .ok (.ldc2_w 130, 3) := dk_20 0 130 (dk_at dksJ15_add_2_3 6 rfl rfl)
theorem dJ15_add_2_78 : decode cJ15_add_2 78 = .ok (.land, 1) := dk_127 (dk_at dksJ15_add_2_3 9 rfl rfl)
theorem dJ15_add_2_79 : decode cJ15_add_2 79 = .ok (.aload_n 1, 1) := dk_43 (dk_at dksJ15_add_2_3 10 rfl rfl)
theorem dJ15_add_2_80 : decode cJ15_add_2 80 = .ok (.iinc 3 (-1), 3) := dk_132 3 255 (dk_at dksJ15_add_2_3 11 rfl rfl)
theorem dJ15_add_2_83 : decode cJ15_add_2 83 = .ok (.iload_n 3, 1) := dk_29 (dk_at dksJ15_add_2_3 14 rfl rfl)
theorem dJ15_add_2_84 : decode cJ15_add_2 84 = .ok (.iaload, 1) := dk_46 (dk_at dksJ15_add_2_3 15 rfl rfl)
theorem dJ15_add_2_85 : decode cJ15_add_2 85 = .ok (.i2l, 1) := dk_133 (dk_at dksJ15_add_2_3 16 rfl rfl)
theorem dJ15_add_2_86 : decode cJ15_add_2 86 = .ok (.ldc2_w 130, 3) := dk_20 0 130 (dk_at dksJ15_add_2_3 17 rfl rfl)
theorem dJ15_add_2_89 : decode cJ15_add_2 89 = .ok (.land, 1) := dk_127 (dk_at dksJ15_add_2_3 20 rfl rfl)
theorem dJ15_add_2_90 : decode cJ15_add_2 90 = .ok (.ladd, 1) := dk_97 (dk_at dksJ15_add_2_3 21 rfl rfl)
theorem dJ15_add_2_91 : decode cJ15_add_2 91 = .ok (.lload 5, 2) := dk_22 5 (dk_at dksJ15_add_2_3 22 rfl rfl)
theorem dJ15_add_2_93 : decode cJ15_add_2 93 = .ok (.bipush 32, 2) := dk_16 32 (dk_at dksJ15_add_2_4 0 rfl rfl)
theorem dJ15_add_2_95 : decode cJ15_add_2 95 = .ok (.lushr, 1) := dk_125 (dk_at dksJ15_add_2_4 2 rfl rfl)
theorem dJ15_add_2_96 : decode cJ15_add_2 96 = .ok (.ladd, 1) := dk_97 (dk_at dksJ15_add_2_4 3 rfl rfl)
theorem dJ15_add_2_97 : decode cJ15_add_2 97 = .ok (.lstore 5, 2) := dk_55 5 (dk_at dksJ15_add_2_4 4 rfl rfl)
theorem dJ15_add_2_99 : decode cJ15_add_2 99 = .ok (.aload 4, 2) := dk_25 4 (dk_at dksJ15_add_2_4 6 rfl rfl)
theorem dJ15_add_2_101 : decode cJ15_add_2 101 = .ok (.iload_n 2, 1) := dk_28 (dk_at dksJ15_add_2_4 8 rfl rfl)
theorem dJ15_add_2_102 : decode cJ15_add_2 102 = .ok (.lload 5, 2) := dk_22 5 (dk_at dksJ15_add_2_4 9 rfl rfl)
theorem dJ15_add_2_104 : decode cJ15_add_2 104 = .ok (.l2i, 1) := dk_136 (dk_at dksJ15_add_2_4 11 rfl rfl)
theorem dJ15_add_2_105 : decode cJ15_add_2 105 = .ok (.iastore, 1) := dk_79 (dk_at dksJ15_add_2_4 12 rfl rfl)
theorem dJ15_add_2_106 : decode cJ15_add_2 106 = .ok (.goto (-42), 3) := dk_167 255 214 (dk_at dksJ15_add_2_4 13 rfl rfl)
theorem dJ15_add_2_109 : decode cJ15_add_2 109 = .ok (.lload 5, 2) := dk_22 5 (dk_at dksJ15_add_2_4 16 rfl rfl)
theorem dJ15_add_2_111 : decode cJ15_add_2 111 = .ok (.bipush 32, 2) := dk_16 32 (dk_at dksJ15_add_2_4 18 rfl rfl)
theorem dJ15_add_2_113 : decode cJ15_add_2 113 = .ok (.lushr, 1) := dk_125 (dk_at dksJ15_add_2_4 20 rfl rfl)
theorem dJ15_add_2_114 : decode cJ15_add_2 114 = .ok (.lconst 0, 1) := dk_9 (dk_at dksJ15_add_2_4 21 rfl rfl)
theorem dJ15_add_2_115 : decode cJ15_add_2 115 = .ok (.lcmp, 1) := dk_148 (dk_at dksJ15_add_2_4 22 rfl rfl)
theorem dJ15_add_2_116 : decode cJ15_add_2 116 = .ok (.ifCond .eq 7, 3) := dk_153 0 7 (dk_at dksJ15_add_2_5 0 rfl rfl)
theorem dJ15_add_2_119 : decode cJ15_add_2 119 = .ok (.iconst 1, 1) := dk_4 (dk_at dksJ15_add_2_5 3 rfl rfl)
theorem dJ15_add_2_120 : decode cJ15_add_2 120 = .ok (.goto 4, 3) := dk_167 0 4 (dk_at dksJ15_add_2_5 4 rfl rfl)
theorem dJ15_add_2_123 : decode cJ15_add_2 123 = .ok (.iconst 0, 1) := dk_3 (dk_at dksJ15_add_2_5 7 rfl rfl)
theorem dJ15_add_2_124 : decode cJ15_add_2 124 = .ok (.istore 7, 2) := dk_54 7 (dk_at dksJ15_add_2_5 8 rfl rfl)
theorem dJ15_add_2_126 : decode cJ15_add_2 126 = .ok (.iload_n 2, 1) := dk_28 (dk_at dksJ15_add_2_5 10 rfl rfl)
theorem dJ15_add_2_127 : decode cJ15_add_2 127 = .ok (.ifCond .le 34, 3) := dk_158 0 34 (dk_at dksJ15_add_2_5 11 rfl rfl)
theorem dJ15_add_2_130 : decode cJ15_add_2 130 = .ok (.iload 7, 2) := dk_21 7 (dk_at dksJ15_add_2_5 14 rfl rfl)
theorem dJ15_add_2_132 : decode cJ15_add_2 132 = .ok (.ifCond .eq 29, 3) := dk_153 0 29 (dk_at dksJ15_add_2_5 16 rfl rfl)
theorem dJ15_add_2_135 : decode cJ15_add_2 135 = .ok (.aload 4, 2) := dk_25 4 (dk_at dksJ15_add_2_5 19 rfl rfl)
theorem dJ15_add_2_137 : decode cJ15_add_2 137 = .ok (.iinc 2 (-1), 3) := dk_132 2 255 (dk_at dksJ15_add_2_5 21 rfl rfl)
theorem dJ15_add_2_140 : decode cJ15_add_2 140 = .ok (.iload_n 2, 1) := dk_28 (dk_at dksJ15_add_2_6 0 rfl rfl)
theorem dJ15_add_2_141 : decode cJ15_add_2 141 = .ok (.aload_n 0, 1) := dk_42 (dk_at dksJ15_add_2_6 1 rfl rfl)
theorem dJ15_add_2_142 : decode cJ15_add_2 142 = .ok (.iload_n 2, 1) := dk_28 (dk_at dksJ15_add_2_6 2 rfl rfl)
theorem dJ15_add_2_143 : decode cJ15_add_2 143 = .ok (.iaload, 1) := dk_46 (dk_at dksJ15_add_2_6 3 rfl rfl)
theorem dJ15_add_2_144 : decode cJ15_add_2 144 = .ok (.iconst 1, 1) := dk_4 (dk_at dksJ15_add_2_6 4 rfl rfl)
theorem dJ15_add_2_145 : decode cJ15_add_2 145 = .ok (.iadd, 1) := dk_96 (dk_at dksJ15_add_2_6 5 rfl rfl)
theorem dJ15_add_2_146 : decode cJ15_add_2 146 = .ok (.dup_x2, 1) := dk_91 (dk_at dksJ15_add_2_6 6 rfl rfl)
theorem dJ15_add_2_147 : decode cJ15_add_2 147 = .ok (.iastore, 1) := dk_79 (dk_at dksJ15_add_2_6 7 rfl rfl)
theorem dJ15_add_2_148 : decode cJ15_add_2 148 = .ok (.ifCond .ne 7, 3) := dk_154 0 7 (dk_at dksJ15_add_2_6 8 rfl rfl)
theorem dJ15_add_2_151 : decode cJ15_add_2 151 = .ok (.iconst 1, 1) := dk_4 (dk_at dksJ15_add_2_6 11 rfl rfl)
theorem dJ15_add_2_152 : decode cJ15_add_2 152 = .ok (.goto 4, 3) := dk_167 0 4 (dk_at dksJ15_add_2_6 12 rfl rfl)
theorem dJ15_add_2_155 : decode cJ15_add_2 155 = .ok (.iconst 0, 1) := dk_3 (dk_at dksJ15_add_2_6 15 rfl rfl)
theorem dJ15_add_2_156 : decode cJ15_add_2 156 = .ok (.istore 7, 2) := dk_54 7 (dk_at dksJ15_add_2_6 16 rfl rfl)
theorem dJ15_add_2_158 : decode cJ15_add_2 158 = .ok (.goto (-32), 3) := dk_167 255 224 (dk_at dksJ15_add_2_6 18 rfl rfl)
theorem dJ15_add_2_161 : decode cJ15_add_2 161 = .ok (.iload_n 2, 1) := dk_28 (dk_at dksJ15_add_2_6 21 rfl rfl)
theorem dJ15_add_2_162 : decode cJ15_add_2 162 = .ok (.ifCond .le 16, 3) := dk_158 0 16 (dk_at dksJ15_add_2_7 0 rfl rfl)
theorem dJ15_add_2_165 : decode cJ15_add_2 165 = .ok (.aload 4, 2) := dk_25 4 (dk_at dksJ15_add_2_7 3 rfl rfl)
theorem dJ15_add_2_167 : decode cJ15_add_2 167 = .ok (.iinc 2 (-1), 3) := dk_132 2 255 (dk_at dksJ15_add_2_7 5 rfl rfl)
theorem dJ15_add_2_170 : decode cJ15_add_2 170 = .ok (.iload_n 2, 1) := dk_28 (dk_at dksJ15_add_2_7 8 rfl rfl)
theorem dJ15_add_2_171 : decode cJ15_add_2 171 = .ok (.aload_n 0, 1) := dk_42 (dk_at dksJ15_add_2_7 9 rfl rfl)
theorem dJ15_add_2_172 : decode cJ15_add_2 172 = .ok (.iload_n 2, 1) := dk_28 (dk_at dksJ15_add_2_7 10 rfl rfl)
theorem dJ15_add_2_173 : decode cJ15_add_2 173 = .ok (.iaload, 1) := dk_46 (dk_at dksJ15_add_2_7 11 rfl rfl)
theorem dJ15_add_2_174 : decode cJ15_add_2 174 = .ok (.iastore, 1) := dk_79 (dk_at dksJ15_add_2_7 12 rfl rfl)
theorem dJ15_add_2_175 : decode cJ15_add_2 175 = .ok (.goto (-14), 3) := dk_167 255 242 (dk_at dksJ15_add_2_7 13 rfl rfl)
theorem dJ15_add_2_178 : decode cJ15_add_2 178 = .ok (.iload 7, 2) := dk_21 7 (dk_at dksJ15_add_2_7 16 rfl rfl)
theorem dJ15_add_2_180 : decode cJ15_add_2 180 = .ok (.ifCond .eq 32, 3) := dk_153 0 32 (dk_at dksJ15_add_2_7 18 rfl rfl)
theorem dJ15_add_2_183 : decode cJ15_add_2 183 = .ok (.aload 4, 2) := dk_25 4 (dk_at dksJ15_add_2_7 21 rfl rfl)
theorem dJ15_add_2_185 : decode cJ15_add_2 185 = .ok (.arraylength, 1) := dk_190 (dk_at dksJ15_add_2_7 23 rfl rfl)
theorem dJ15_add_2_186 : decode cJ15_add_2 186 = .ok (.iconst 1, 1) := dk_4 (dk_at dksJ15_add_2_8 0 rfl rfl)
theorem dJ15_add_2_187 : decode cJ15_add_2 187 = .ok (.iadd, 1) := dk_96 (dk_at dksJ15_add_2_8 1 rfl rfl)
theorem dJ15_add_2_188 : decode cJ15_add_2 188 = .ok (.newarray .int, 2) := dk_188_10 (dk_at dksJ15_add_2_8 2 rfl rfl)
theorem dJ15_add_2_190 : decode cJ15_add_2 190 = .ok (.astore 8, 2) := dk_58 8 (dk_at dksJ15_add_2_8 4 rfl rfl)
theorem dJ15_add_2_192 : decode cJ15_add_2 192 = .ok (.aload 4, 2) := dk_25 4 (dk_at dksJ15_add_2_8 6 rfl rfl)
theorem dJ15_add_2_194 : decode cJ15_add_2 194 = .ok (.iconst 0, 1) := dk_3 (dk_at dksJ15_add_2_8 8 rfl rfl)
theorem dJ15_add_2_195 : decode cJ15_add_2 195 = .ok (.aload 8, 2) := dk_25 8 (dk_at dksJ15_add_2_8 9 rfl rfl)
theorem dJ15_add_2_197 : decode cJ15_add_2 197 = .ok (.iconst 1, 1) := dk_4 (dk_at dksJ15_add_2_8 11 rfl rfl)
theorem dJ15_add_2_198 : decode cJ15_add_2 198 = .ok (.aload 4, 2) := dk_25 4 (dk_at dksJ15_add_2_8 12 rfl rfl)
theorem dJ15_add_2_200 : decode cJ15_add_2 200 = .ok (.arraylength, 1) := dk_190 (dk_at dksJ15_add_2_8 14 rfl rfl)
theorem dJ15_add_2_201 : decode cJ15_add_2 201 = .ok (.invokestatic 388, 3) := dk_184 1 132 (dk_at dksJ15_add_2_8 15 rfl rfl)
theorem dJ15_add_2_204 : decode cJ15_add_2 204 = .ok (.aload 8, 2) := dk_25 8 (dk_at dksJ15_add_2_8 18 rfl rfl)
theorem dJ15_add_2_206 : decode cJ15_add_2 206 = .ok (.iconst 0, 1) := dk_3 (dk_at dksJ15_add_2_8 20 rfl rfl)
theorem dJ15_add_2_207 : decode cJ15_add_2 207 = .ok (.iconst 1, 1) := dk_4 (dk_at dksJ15_add_2_8 21 rfl rfl)
theorem dJ15_add_2_208 : decode cJ15_add_2 208 = .ok (.iastore, 1) := dk_79 (dk_at dksJ15_add_2_8 22 rfl rfl)
theorem dJ15_add_2_209 : decode cJ15_add_2 209 = .ok (.aload 8, 2) := dk_25 8 (dk_at dksJ15_add_2_9 0 rfl rfl)
theorem dJ15_add_2_211 : decode cJ15_add_2 211 = .ok (.areturn, 1) := dk_176 (dk_at dksJ15_add_2_9 2 rfl rfl)
theorem dJ15_add_2_212 : decode cJ15_add_2 212 = .ok (.aload 4, 2) := dk_25 4 (dk_at dksJ15_add_2_9 3 rfl rfl)
theorem dJ15_add_2_214 : decode cJ15_add_2 214 = .ok (.areturn, 1) := dk_176 (dk_at dksJ15_add_2_9 5 rfl rfl)
abbrev cJ15_compareMagnitude : ByteArray := prog_27_method_122_code
def yJ15_compareMagnitude : MethodName := ⟨RJ15, "compareMagnitude", "(Ljava/math/BigInteger;)I"⟩
def dkwJ15_compareMagnitude_4 : List UInt8 := [167, 255, 203, 3, 172]
abbrev dktJ15_compareMagnitude_4 : List UInt8 := dkwJ15_compareMagnitude_4 ++ []
def dkwJ15_compareMagnitude_3 : List UInt8 := [20, 0, 130, 127, 21, 8, 133, 20, 0, 130, 127, 148, 156, 0, 7, 2, 167, 0, 4, 4, 172, 132, 6, 1]
abbrev dktJ15_compareMagnitude_3 : List UInt8 := dkwJ15_compareMagnitude_3 ++ dktJ15_compareMagnitude_4
def dkwJ15_compareMagnitude_2 : List UInt8 := [21, 6, 46, 54, 7, 25, 4, 21, 6, 46, 54, 8, 21, 7, 21, 8, 159, 0, 27, 21, 7, 133]
abbrev dktJ15_compareMagnitude_2 : List UInt8 := dkwJ15_compareMagnitude_2 ++ dktJ15_compareMagnitude_3
def dkwJ15_compareMagnitude_1 : List UInt8 := [162, 0, 5, 2, 172, 29, 21, 5, 164, 0, 5, 4, 172, 3, 54, 6, 21, 6, 29, 162, 0, 53, 44]
abbrev dktJ15_compareMagnitude_1 : List UInt8 := dkwJ15_compareMagnitude_1 ++ dktJ15_compareMagnitude_2
def dkwJ15_compareMagnitude_0 : List UInt8 := [42, 180, 0, 28, 77, 44, 190, 62, 43, 180, 0, 28, 58, 4, 25, 4, 190, 54, 5, 29, 21, 5]
abbrev dktJ15_compareMagnitude_0 : List UInt8 := dkwJ15_compareMagnitude_0 ++ dktJ15_compareMagnitude_1
theorem dksJ15_compareMagnitude_0 : cJ15_compareMagnitude.data.toList.drop 0 = dktJ15_compareMagnitude_0 := by decide +kernel
theorem dksJ15_compareMagnitude_1 : cJ15_compareMagnitude.data.toList.drop 22 = dktJ15_compareMagnitude_1 := dk_seg dksJ15_compareMagnitude_0 22 rfl rfl
theorem dksJ15_compareMagnitude_2 : cJ15_compareMagnitude.data.toList.drop 45 = dktJ15_compareMagnitude_2 := dk_seg dksJ15_compareMagnitude_1 23 rfl rfl
theorem dksJ15_compareMagnitude_3 : cJ15_compareMagnitude.data.toList.drop 67 = dktJ15_compareMagnitude_3 := dk_seg dksJ15_compareMagnitude_2 22 rfl rfl
theorem dksJ15_compareMagnitude_4 : cJ15_compareMagnitude.data.toList.drop 91 = dktJ15_compareMagnitude_4 := dk_seg dksJ15_compareMagnitude_3 24 rfl rfl
theorem dJ15_compareMagnitude_0 : decode cJ15_compareMagnitude 0 = .ok (.aload_n 0, 1) := dk_42 (dk_at dksJ15_compareMagnitude_0 0 rfl rfl)
theorem dJ15_compareMagnitude_1 : decode cJ15_compareMagnitude 1 = .ok (.getfield 28, 3) := dk_180 0 28 (dk_at dksJ15_compareMagnitude_0 1 rfl rfl)
theorem dJ15_compareMagnitude_4 : decode cJ15_compareMagnitude 4 = .ok (.astore_n 2, 1) := dk_77 (dk_at dksJ15_compareMagnitude_0 4 rfl rfl)
theorem dJ15_compareMagnitude_5 : decode cJ15_compareMagnitude 5 = .ok (.aload_n 2, 1) := dk_44 (dk_at dksJ15_compareMagnitude_0 5 rfl rfl)
theorem dJ15_compareMagnitude_6 : decode cJ15_compareMagnitude 6 = .ok (.arraylength, 1) := dk_190 (dk_at dksJ15_compareMagnitude_0 6 rfl rfl)
theorem dJ15_compareMagnitude_7 : decode cJ15_compareMagnitude 7 = .ok (.istore_n 3, 1) := dk_62 (dk_at dksJ15_compareMagnitude_0 7 rfl rfl)
theorem dJ15_compareMagnitude_8 : decode cJ15_compareMagnitude 8 = .ok (.aload_n 1, 1) := dk_43 (dk_at dksJ15_compareMagnitude_0 8 rfl rfl)
theorem dJ15_compareMagnitude_9 : decode cJ15_compareMagnitude 9 = .ok (.getfield 28, 3) := dk_180 0 28 (dk_at dksJ15_compareMagnitude_0 9 rfl rfl)
theorem dJ15_compareMagnitude_12 : decode cJ15_compareMagnitude 12 = .ok (.astore 4, 2) := dk_58 4 (dk_at dksJ15_compareMagnitude_0 12 rfl rfl)
theorem dJ15_compareMagnitude_14 : decode cJ15_compareMagnitude 14 = .ok (.aload 4, 2) := dk_25 4 (dk_at dksJ15_compareMagnitude_0 14 rfl rfl)
theorem dJ15_compareMagnitude_16 : decode cJ15_compareMagnitude 16 = .ok (.arraylength, 1) := dk_190 (dk_at dksJ15_compareMagnitude_0 16 rfl rfl)
theorem dJ15_compareMagnitude_17 : decode cJ15_compareMagnitude 17 = .ok (.istore 5, 2) := dk_54 5 (dk_at dksJ15_compareMagnitude_0 17 rfl rfl)
theorem dJ15_compareMagnitude_19 : decode cJ15_compareMagnitude 19 = .ok (.iload_n 3, 1) := dk_29 (dk_at dksJ15_compareMagnitude_0 19 rfl rfl)
theorem dJ15_compareMagnitude_20 : decode cJ15_compareMagnitude 20 = .ok (.iload 5, 2) := dk_21 5 (dk_at dksJ15_compareMagnitude_0 20 rfl rfl)
theorem dJ15_compareMagnitude_22 : decode cJ15_compareMagnitude 22 = .ok (.if_icmp .ge 5, 3) := dk_162 0 5 (dk_at dksJ15_compareMagnitude_1 0 rfl rfl)
theorem dJ15_compareMagnitude_25 : decode cJ15_compareMagnitude 25 = .ok (.iconst (-1), 1) := dk_2 (dk_at dksJ15_compareMagnitude_1 3 rfl rfl)
theorem dJ15_compareMagnitude_26 : decode cJ15_compareMagnitude 26 = .ok (.ireturn, 1) := dk_172 (dk_at dksJ15_compareMagnitude_1 4 rfl rfl)
theorem dJ15_compareMagnitude_27 : decode cJ15_compareMagnitude 27 = .ok (.iload_n 3, 1) := dk_29 (dk_at dksJ15_compareMagnitude_1 5 rfl rfl)
theorem dJ15_compareMagnitude_28 : decode cJ15_compareMagnitude 28 = .ok (.iload 5, 2) := dk_21 5 (dk_at dksJ15_compareMagnitude_1 6 rfl rfl)
theorem dJ15_compareMagnitude_30 : decode cJ15_compareMagnitude 30 = .ok (.if_icmp .le 5, 3) := dk_164 0 5 (dk_at dksJ15_compareMagnitude_1 8 rfl rfl)
theorem dJ15_compareMagnitude_33 : decode cJ15_compareMagnitude 33 = .ok (.iconst 1, 1) := dk_4 (dk_at dksJ15_compareMagnitude_1 11 rfl rfl)
theorem dJ15_compareMagnitude_34 : decode cJ15_compareMagnitude 34 = .ok (.ireturn, 1) := dk_172 (dk_at dksJ15_compareMagnitude_1 12 rfl rfl)
theorem dJ15_compareMagnitude_35 : decode cJ15_compareMagnitude 35 = .ok (.iconst 0, 1) := dk_3 (dk_at dksJ15_compareMagnitude_1 13 rfl rfl)
theorem dJ15_compareMagnitude_36 : decode cJ15_compareMagnitude 36 = .ok (.istore 6, 2) := dk_54 6 (dk_at dksJ15_compareMagnitude_1 14 rfl rfl)
theorem dJ15_compareMagnitude_38 : decode cJ15_compareMagnitude 38 = .ok (.iload 6, 2) := dk_21 6 (dk_at dksJ15_compareMagnitude_1 16 rfl rfl)
theorem dJ15_compareMagnitude_40 : decode cJ15_compareMagnitude 40 = .ok (.iload_n 3, 1) := dk_29 (dk_at dksJ15_compareMagnitude_1 18 rfl rfl)
theorem dJ15_compareMagnitude_41 : decode cJ15_compareMagnitude 41 = .ok (.if_icmp .ge 53, 3) := dk_162 0 53 (dk_at dksJ15_compareMagnitude_1 19 rfl rfl)
theorem dJ15_compareMagnitude_44 : decode cJ15_compareMagnitude 44 = .ok (.aload_n 2, 1) := dk_44 (dk_at dksJ15_compareMagnitude_1 22 rfl rfl)
theorem dJ15_compareMagnitude_45 : decode cJ15_compareMagnitude 45 = .ok (.iload 6, 2) := dk_21 6 (dk_at dksJ15_compareMagnitude_2 0 rfl rfl)
theorem dJ15_compareMagnitude_47 : decode cJ15_compareMagnitude 47 = .ok (.iaload, 1) := dk_46 (dk_at dksJ15_compareMagnitude_2 2 rfl rfl)
theorem dJ15_compareMagnitude_48 : decode cJ15_compareMagnitude 48 = .ok (.istore 7, 2) := dk_54 7 (dk_at dksJ15_compareMagnitude_2 3 rfl rfl)
theorem dJ15_compareMagnitude_50 : decode cJ15_compareMagnitude 50 = .ok (.aload 4, 2) := dk_25 4 (dk_at dksJ15_compareMagnitude_2 5 rfl rfl)
theorem dJ15_compareMagnitude_52 : decode cJ15_compareMagnitude 52 = .ok (.iload 6, 2) := dk_21 6 (dk_at dksJ15_compareMagnitude_2 7 rfl rfl)
theorem dJ15_compareMagnitude_54 : decode cJ15_compareMagnitude 54 = .ok (.iaload, 1) := dk_46 (dk_at dksJ15_compareMagnitude_2 9 rfl rfl)
theorem dJ15_compareMagnitude_55 : decode cJ15_compareMagnitude 55 = .ok (.istore 8, 2) := dk_54 8 (dk_at dksJ15_compareMagnitude_2 10 rfl rfl)
theorem dJ15_compareMagnitude_57 : decode cJ15_compareMagnitude 57 = .ok (.iload 7, 2) := dk_21 7 (dk_at dksJ15_compareMagnitude_2 12 rfl rfl)
theorem dJ15_compareMagnitude_59 : decode cJ15_compareMagnitude 59 = .ok (.iload 8, 2) := dk_21 8 (dk_at dksJ15_compareMagnitude_2 14 rfl rfl)
theorem dJ15_compareMagnitude_61 : decode cJ15_compareMagnitude 61 = .ok (.if_icmp .eq 27, 3) := dk_159 0 27 (dk_at dksJ15_compareMagnitude_2 16 rfl rfl)
theorem dJ15_compareMagnitude_64 : decode cJ15_compareMagnitude 64 = .ok (.iload 7, 2) := dk_21 7 (dk_at dksJ15_compareMagnitude_2 19 rfl rfl)
theorem dJ15_compareMagnitude_66 : decode cJ15_compareMagnitude 66 = .ok (.i2l, 1) := dk_133 (dk_at dksJ15_compareMagnitude_2 21 rfl rfl)
theorem dJ15_compareMagnitude_67 : decode cJ15_compareMagnitude 67 = .ok (.ldc2_w 130, 3) := dk_20 0 130 (dk_at dksJ15_compareMagnitude_3 0 rfl rfl)
theorem dJ15_compareMagnitude_70 : decode cJ15_compareMagnitude 70 = .ok (.land, 1) := dk_127 (dk_at dksJ15_compareMagnitude_3 3 rfl rfl)
theorem dJ15_compareMagnitude_71 : decode cJ15_compareMagnitude 71 = .ok (.iload 8, 2) := dk_21 8 (dk_at dksJ15_compareMagnitude_3 4 rfl rfl)
theorem dJ15_compareMagnitude_73 : decode cJ15_compareMagnitude 73 = .ok (.i2l, 1) := dk_133 (dk_at dksJ15_compareMagnitude_3 6 rfl rfl)
theorem dJ15_compareMagnitude_74 : decode cJ15_compareMagnitude 74 = .ok (.ldc2_w 130, 3) := dk_20 0 130 (dk_at dksJ15_compareMagnitude_3 7 rfl rfl)
theorem dJ15_compareMagnitude_77 : decode cJ15_compareMagnitude 77 = .ok (.land, 1) := dk_127 (dk_at dksJ15_compareMagnitude_3 10 rfl rfl)
theorem dJ15_compareMagnitude_78 : decode cJ15_compareMagnitude 78 = .ok (.lcmp, 1) := dk_148 (dk_at dksJ15_compareMagnitude_3 11 rfl rfl)
theorem dJ15_compareMagnitude_79 : decode cJ15_compareMagnitude 79 = .ok (.ifCond .ge 7, 3) := dk_156 0 7 (dk_at dksJ15_compareMagnitude_3 12 rfl rfl)
theorem dJ15_compareMagnitude_82 : decode cJ15_compareMagnitude 82 = .ok (.iconst (-1), 1) := dk_2 (dk_at dksJ15_compareMagnitude_3 15 rfl rfl)
theorem dJ15_compareMagnitude_83 : decode cJ15_compareMagnitude 83 = .ok (.goto 4, 3) := dk_167 0 4 (dk_at dksJ15_compareMagnitude_3 16 rfl rfl)
theorem dJ15_compareMagnitude_86 : decode cJ15_compareMagnitude 86 = .ok (.iconst 1, 1) := dk_4 (dk_at dksJ15_compareMagnitude_3 19 rfl rfl)
theorem dJ15_compareMagnitude_87 : decode cJ15_compareMagnitude 87 = .ok (.ireturn, 1) := dk_172 (dk_at dksJ15_compareMagnitude_3 20 rfl rfl)
theorem dJ15_compareMagnitude_88 : decode cJ15_compareMagnitude 88 = .ok (.iinc 6 1, 3) := dk_132 6 1 (dk_at dksJ15_compareMagnitude_3 21 rfl rfl)
theorem dJ15_compareMagnitude_91 : decode cJ15_compareMagnitude 91 = .ok (.goto (-53), 3) := dk_167 255 203 (dk_at dksJ15_compareMagnitude_4 0 rfl rfl)
theorem dJ15_compareMagnitude_94 : decode cJ15_compareMagnitude 94 = .ok (.iconst 0, 1) := dk_3 (dk_at dksJ15_compareMagnitude_4 3 rfl rfl)
theorem dJ15_compareMagnitude_95 : decode cJ15_compareMagnitude 95 = .ok (.ireturn, 1) := dk_172 (dk_at dksJ15_compareMagnitude_4 4 rfl rfl)
abbrev cJ15_subtract : ByteArray := prog_27_method_39_code
def yJ15_subtract : MethodName := ⟨RJ15, "subtract", "([I[I)[I"⟩
def dkwJ15_subtract_5 : List UInt8 := [132, 2, 255, 28, 42, 28, 46, 79, 167, 255, 243, 45, 176]
abbrev dktJ15_subtract_5 : List UInt8 := dkwJ15_subtract_5 ++ []
def dkwJ15_subtract_4 : List UInt8 := [100, 91, 79, 2, 160, 0, 7, 4, 167, 0, 4, 3, 54, 7, 167, 255, 224, 28, 158, 0, 15, 45]
abbrev dktJ15_subtract_4 : List UInt8 := dkwJ15_subtract_4 ++ dktJ15_subtract_5
def dkwJ15_subtract_3 : List UInt8 := [167, 0, 4, 3, 54, 7, 28, 158, 0, 34, 21, 7, 153, 0, 29, 45, 132, 2, 255, 28, 42, 28, 46, 4]
abbrev dktJ15_subtract_3 : List UInt8 := dkwJ15_subtract_3 ++ dktJ15_subtract_4
def dkwJ15_subtract_2 : List UInt8 := [97, 55, 5, 45, 28, 22, 5, 136, 79, 167, 255, 213, 22, 5, 16, 32, 123, 9, 148, 153, 0, 7, 4]
abbrev dktJ15_subtract_2 : List UInt8 := dkwJ15_subtract_2 ++ dktJ15_subtract_3
def dkwJ15_subtract_1 : List UInt8 := [46, 133, 20, 0, 130, 127, 43, 132, 4, 255, 21, 4, 46, 133, 20, 0, 130, 127, 101, 22, 5, 16, 32, 123]
abbrev dktJ15_subtract_1 : List UInt8 := dkwJ15_subtract_1 ++ dktJ15_subtract_2
def dkwJ15_subtract_0 : List UInt8 := [42, 190, 61, 28, 188, 10, 78, 43, 190, 54, 4, 9, 55, 5, 21, 4, 158, 0, 44, 42, 132, 2, 255, 28]
abbrev dktJ15_subtract_0 : List UInt8 := dkwJ15_subtract_0 ++ dktJ15_subtract_1
theorem dksJ15_subtract_0 : cJ15_subtract.data.toList.drop 0 = dktJ15_subtract_0 := by decide +kernel
theorem dksJ15_subtract_1 : cJ15_subtract.data.toList.drop 24 = dktJ15_subtract_1 := dk_seg dksJ15_subtract_0 24 rfl rfl
theorem dksJ15_subtract_2 : cJ15_subtract.data.toList.drop 48 = dktJ15_subtract_2 := dk_seg dksJ15_subtract_1 24 rfl rfl
theorem dksJ15_subtract_3 : cJ15_subtract.data.toList.drop 71 = dktJ15_subtract_3 := dk_seg dksJ15_subtract_2 23 rfl rfl
theorem dksJ15_subtract_4 : cJ15_subtract.data.toList.drop 95 = dktJ15_subtract_4 := dk_seg dksJ15_subtract_3 24 rfl rfl
theorem dksJ15_subtract_5 : cJ15_subtract.data.toList.drop 117 = dktJ15_subtract_5 := dk_seg dksJ15_subtract_4 22 rfl rfl
theorem dJ15_subtract_0 : decode cJ15_subtract 0 = .ok (.aload_n 0, 1) := dk_42 (dk_at dksJ15_subtract_0 0 rfl rfl)
theorem dJ15_subtract_1 : decode cJ15_subtract 1 = .ok (.arraylength, 1) := dk_190 (dk_at dksJ15_subtract_0 1 rfl rfl)
theorem dJ15_subtract_2 : decode cJ15_subtract 2 = .ok (.istore_n 2, 1) := dk_61 (dk_at dksJ15_subtract_0 2 rfl rfl)
theorem dJ15_subtract_3 : decode cJ15_subtract 3 = .ok (.iload_n 2, 1) := dk_28 (dk_at dksJ15_subtract_0 3 rfl rfl)
theorem dJ15_subtract_4 : decode cJ15_subtract 4 = .ok (.newarray .int, 2) := dk_188_10 (dk_at dksJ15_subtract_0 4 rfl rfl)
theorem dJ15_subtract_6 : decode cJ15_subtract 6 = .ok (.astore_n 3, 1) := dk_78 (dk_at dksJ15_subtract_0 6 rfl rfl)
theorem dJ15_subtract_7 : decode cJ15_subtract 7 = .ok (.aload_n 1, 1) := dk_43 (dk_at dksJ15_subtract_0 7 rfl rfl)
theorem dJ15_subtract_8 : decode cJ15_subtract 8 = .ok (.arraylength, 1) := dk_190 (dk_at dksJ15_subtract_0 8 rfl rfl)
theorem dJ15_subtract_9 : decode cJ15_subtract 9 = .ok (.istore 4, 2) := dk_54 4 (dk_at dksJ15_subtract_0 9 rfl rfl)
theorem dJ15_subtract_11 : decode cJ15_subtract 11 = .ok (.lconst 0, 1) := dk_9 (dk_at dksJ15_subtract_0 11 rfl rfl)
theorem dJ15_subtract_12 : decode cJ15_subtract 12 = .ok (.lstore 5, 2) := dk_55 5 (dk_at dksJ15_subtract_0 12 rfl rfl)
theorem dJ15_subtract_14 : decode cJ15_subtract 14 = .ok (.iload 4, 2) := dk_21 4 (dk_at dksJ15_subtract_0 14 rfl rfl)
theorem dJ15_subtract_16 : decode cJ15_subtract 16 = .ok (.ifCond .le 44, 3) := dk_158 0 44 (dk_at dksJ15_subtract_0 16 rfl rfl)
theorem dJ15_subtract_19 : decode cJ15_subtract 19 = .ok (.aload_n 0, 1) := dk_42 (dk_at dksJ15_subtract_0 19 rfl rfl)
theorem dJ15_subtract_20 : decode cJ15_subtract 20 = .ok (.iinc 2 (-1), 3) := dk_132 2 255 (dk_at dksJ15_subtract_0 20 rfl rfl)
theorem dJ15_subtract_23 : decode cJ15_subtract 23 = .ok (.iload_n 2, 1) := dk_28 (dk_at dksJ15_subtract_0 23 rfl rfl)
theorem dJ15_subtract_24 : decode cJ15_subtract 24 = .ok (.iaload, 1) := dk_46 (dk_at dksJ15_subtract_1 0 rfl rfl)
theorem dJ15_subtract_25 : decode cJ15_subtract 25 = .ok (.i2l, 1) := dk_133 (dk_at dksJ15_subtract_1 1 rfl rfl)
theorem dJ15_subtract_26 : decode cJ15_subtract 26 = .ok (.ldc2_w 130, 3) := dk_20 0 130 (dk_at dksJ15_subtract_1 2 rfl rfl)
theorem dJ15_subtract_29 : decode cJ15_subtract 29 = .ok (.land, 1) := dk_127 (dk_at dksJ15_subtract_1 5 rfl rfl)
theorem dJ15_subtract_30 : decode cJ15_subtract 30 = .ok (.aload_n 1, 1) := dk_43 (dk_at dksJ15_subtract_1 6 rfl rfl)
theorem dJ15_subtract_31 : decode cJ15_subtract 31 = .ok (.iinc 4 (-1), 3) := dk_132 4 255 (dk_at dksJ15_subtract_1 7 rfl rfl)
theorem dJ15_subtract_34 : decode cJ15_subtract 34 = .ok (.iload 4, 2) := dk_21 4 (dk_at dksJ15_subtract_1 10 rfl rfl)
theorem dJ15_subtract_36 : decode cJ15_subtract 36 = .ok (.iaload, 1) := dk_46 (dk_at dksJ15_subtract_1 12 rfl rfl)
theorem dJ15_subtract_37 : decode cJ15_subtract 37 = .ok (.i2l, 1) := dk_133 (dk_at dksJ15_subtract_1 13 rfl rfl)
theorem dJ15_subtract_38 : decode cJ15_subtract 38 = .ok (.ldc2_w 130, 3) := dk_20 0 130 (dk_at dksJ15_subtract_1 14 rfl rfl)
theorem dJ15_subtract_41 : decode cJ15_subtract 41 = .ok (.land, 1) := dk_127 (dk_at dksJ15_subtract_1 17 rfl rfl)
theorem dJ15_subtract_42 : decode cJ15_subtract 42 = .ok (.lsub, 1) := dk_101 (dk_at dksJ15_subtract_1 18 rfl rfl)
theorem dJ15_subtract_43 : decode cJ15_subtract 43 = .ok (.lload 5, 2) := dk_22 5 (dk_at dksJ15_subtract_1 19 rfl rfl)
theorem dJ15_subtract_45 : decode cJ15_subtract 45 = .ok (.bipush 32, 2) := dk_16 32 (dk_at dksJ15_subtract_1 21 rfl rfl)
theorem dJ15_subtract_47 : decode cJ15_subtract 47 = .ok (.lshr, 1) := dk_123 (dk_at dksJ15_subtract_1 23 rfl rfl)
theorem dJ15_subtract_48 : decode cJ15_subtract 48 = .ok (.ladd, 1) := dk_97 (dk_at dksJ15_subtract_2 0 rfl rfl)
theorem dJ15_subtract_49 : decode cJ15_subtract 49 = .ok (.lstore 5, 2) := dk_55 5 (dk_at dksJ15_subtract_2 1 rfl rfl)
theorem dJ15_subtract_51 : decode cJ15_subtract 51 = .ok (.aload_n 3, 1) := dk_45 (dk_at dksJ15_subtract_2 3 rfl rfl)
theorem dJ15_subtract_52 : decode cJ15_subtract 52 = .ok (.iload_n 2, 1) := dk_28 (dk_at dksJ15_subtract_2 4 rfl rfl)
theorem dJ15_subtract_53 : decode cJ15_subtract 53 = .ok (.lload 5, 2) := dk_22 5 (dk_at dksJ15_subtract_2 5 rfl rfl)
theorem dJ15_subtract_55 : decode cJ15_subtract 55 = .ok (.l2i, 1) := dk_136 (dk_at dksJ15_subtract_2 7 rfl rfl)
theorem dJ15_subtract_56 : decode cJ15_subtract 56 = .ok (.iastore, 1) := dk_79 (dk_at dksJ15_subtract_2 8 rfl rfl)
theorem dJ15_subtract_57 : decode cJ15_subtract 57 = .ok (.goto (-43), 3) := dk_167 255 213 (dk_at dksJ15_subtract_2 9 rfl rfl)
theorem dJ15_subtract_60 : decode cJ15_subtract 60 = .ok (.lload 5, 2) := dk_22 5 (dk_at dksJ15_subtract_2 12 rfl rfl)
theorem dJ15_subtract_62 : decode cJ15_subtract 62 = .ok (.bipush 32, 2) := dk_16 32 (dk_at dksJ15_subtract_2 14 rfl rfl)
theorem dJ15_subtract_64 : decode cJ15_subtract 64 = .ok (.lshr, 1) := dk_123 (dk_at dksJ15_subtract_2 16 rfl rfl)
theorem dJ15_subtract_65 : decode cJ15_subtract 65 = .ok (.lconst 0, 1) := dk_9 (dk_at dksJ15_subtract_2 17 rfl rfl)
theorem dJ15_subtract_66 : decode cJ15_subtract 66 = .ok (.lcmp, 1) := dk_148 (dk_at dksJ15_subtract_2 18 rfl rfl)
theorem dJ15_subtract_67 : decode cJ15_subtract 67 = .ok (.ifCond .eq 7, 3) := dk_153 0 7 (dk_at dksJ15_subtract_2 19 rfl rfl)
theorem dJ15_subtract_70 : decode cJ15_subtract 70 = .ok (.iconst 1, 1) := dk_4 (dk_at dksJ15_subtract_2 22 rfl rfl)
theorem dJ15_subtract_71 : decode cJ15_subtract 71 = .ok (.goto 4, 3) := dk_167 0 4 (dk_at dksJ15_subtract_3 0 rfl rfl)
theorem dJ15_subtract_74 : decode cJ15_subtract 74 = .ok (.iconst 0, 1) := dk_3 (dk_at dksJ15_subtract_3 3 rfl rfl)
theorem dJ15_subtract_75 : decode cJ15_subtract 75 = .ok (.istore 7, 2) := dk_54 7 (dk_at dksJ15_subtract_3 4 rfl rfl)
theorem dJ15_subtract_77 : decode cJ15_subtract 77 = .ok (.iload_n 2, 1) := dk_28 (dk_at dksJ15_subtract_3 6 rfl rfl)
theorem dJ15_subtract_78 : decode cJ15_subtract 78 = .ok (.ifCond .le 34, 3) := dk_158 0 34 (dk_at dksJ15_subtract_3 7 rfl rfl)
theorem dJ15_subtract_81 : decode cJ15_subtract 81 = .ok (.iload 7, 2) := dk_21 7 (dk_at dksJ15_subtract_3 10 rfl rfl)
theorem dJ15_subtract_83 : decode cJ15_subtract 83 = .ok (.ifCond .eq 29, 3) := dk_153 0 29 (dk_at dksJ15_subtract_3 12 rfl rfl)
theorem dJ15_subtract_86 : decode cJ15_subtract 86 = .ok (.aload_n 3, 1) := dk_45 (dk_at dksJ15_subtract_3 15 rfl rfl)
theorem dJ15_subtract_87 : decode cJ15_subtract 87 = .ok (.iinc 2 (-1), 3) := dk_132 2 255 (dk_at dksJ15_subtract_3 16 rfl rfl)
theorem dJ15_subtract_90 : decode cJ15_subtract 90 = .ok (.iload_n 2, 1) := dk_28 (dk_at dksJ15_subtract_3 19 rfl rfl)
theorem dJ15_subtract_91 : decode cJ15_subtract 91 = .ok (.aload_n 0, 1) := dk_42 (dk_at dksJ15_subtract_3 20 rfl rfl)
theorem dJ15_subtract_92 : decode cJ15_subtract 92 = .ok (.iload_n 2, 1) := dk_28 (dk_at dksJ15_subtract_3 21 rfl rfl)
theorem dJ15_subtract_93 : decode cJ15_subtract 93 = .ok (.iaload, 1) := dk_46 (dk_at dksJ15_subtract_3 22 rfl rfl)
theorem dJ15_subtract_94 : decode cJ15_subtract 94 = .ok (.iconst 1, 1) := dk_4 (dk_at dksJ15_subtract_3 23 rfl rfl)
theorem dJ15_subtract_95 : decode cJ15_subtract 95 = .ok (.isub, 1) := dk_100 (dk_at dksJ15_subtract_4 0 rfl rfl)
theorem dJ15_subtract_96 : decode cJ15_subtract 96 = .ok (.dup_x2, 1) := dk_91 (dk_at dksJ15_subtract_4 1 rfl rfl)
theorem dJ15_subtract_97 : decode cJ15_subtract 97 = .ok (.iastore, 1) := dk_79 (dk_at dksJ15_subtract_4 2 rfl rfl)
theorem dJ15_subtract_98 : decode cJ15_subtract 98 = .ok (.iconst (-1), 1) := dk_2 (dk_at dksJ15_subtract_4 3 rfl rfl)
theorem dJ15_subtract_99 : decode cJ15_subtract 99 = .ok (.if_icmp .ne 7, 3) := dk_160 0 7 (dk_at dksJ15_subtract_4 4 rfl rfl)
theorem dJ15_subtract_102 : decode cJ15_subtract 102 = .ok (.iconst 1, 1) := dk_4 (dk_at dksJ15_subtract_4 7 rfl rfl)
theorem dJ15_subtract_103 : decode cJ15_subtract 103 = .ok (.goto 4, 3) := dk_167 0 4 (dk_at dksJ15_subtract_4 8 rfl rfl)
theorem dJ15_subtract_106 : decode cJ15_subtract 106 = .ok (.iconst 0, 1) := dk_3 (dk_at dksJ15_subtract_4 11 rfl rfl)
theorem dJ15_subtract_107 : decode cJ15_subtract 107 = .ok (.istore 7, 2) := dk_54 7 (dk_at dksJ15_subtract_4 12 rfl rfl)
theorem dJ15_subtract_109 : decode cJ15_subtract 109 = .ok (.goto (-32), 3) := dk_167 255 224 (dk_at dksJ15_subtract_4 14 rfl rfl)
theorem dJ15_subtract_112 : decode cJ15_subtract 112 = .ok (.iload_n 2, 1) := dk_28 (dk_at dksJ15_subtract_4 17 rfl rfl)
theorem dJ15_subtract_113 : decode cJ15_subtract 113 = .ok (.ifCond .le 15, 3) := dk_158 0 15 (dk_at dksJ15_subtract_4 18 rfl rfl)
theorem dJ15_subtract_116 : decode cJ15_subtract 116 = .ok (.aload_n 3, 1) := dk_45 (dk_at dksJ15_subtract_4 21 rfl rfl)
theorem dJ15_subtract_117 : decode cJ15_subtract 117 = .ok (.iinc 2 (-1), 3) := dk_132 2 255 (dk_at dksJ15_subtract_5 0 rfl rfl)
theorem dJ15_subtract_120 : decode cJ15_subtract 120 = .ok (.iload_n 2, 1) := dk_28 (dk_at dksJ15_subtract_5 3 rfl rfl)
theorem dJ15_subtract_121 : decode cJ15_subtract 121 = .ok (.aload_n 0, 1) := dk_42 (dk_at dksJ15_subtract_5 4 rfl rfl)
theorem dJ15_subtract_122 : decode cJ15_subtract 122 = .ok (.iload_n 2, 1) := dk_28 (dk_at dksJ15_subtract_5 5 rfl rfl)
theorem dJ15_subtract_123 : decode cJ15_subtract 123 = .ok (.iaload, 1) := dk_46 (dk_at dksJ15_subtract_5 6 rfl rfl)
theorem dJ15_subtract_124 : decode cJ15_subtract 124 = .ok (.iastore, 1) := dk_79 (dk_at dksJ15_subtract_5 7 rfl rfl)
theorem dJ15_subtract_125 : decode cJ15_subtract 125 = .ok (.goto (-13), 3) := dk_167 255 243 (dk_at dksJ15_subtract_5 8 rfl rfl)
theorem dJ15_subtract_128 : decode cJ15_subtract 128 = .ok (.aload_n 3, 1) := dk_45 (dk_at dksJ15_subtract_5 11 rfl rfl)
theorem dJ15_subtract_129 : decode cJ15_subtract 129 = .ok (.areturn, 1) := dk_176 (dk_at dksJ15_subtract_5 12 rfl rfl)
abbrev cJ15_subtract_2 : ByteArray := prog_27_method_38_code
def yJ15_subtract_2 : MethodName := ⟨RJ15, "subtract", "(Ljava/math/BigInteger;)Ljava/math/BigInteger;"⟩
def dkwJ15_subtract_2_5 : List UInt8 := [160, 0, 7, 4, 167, 0, 4, 2, 183, 0, 175, 176]
abbrev dktJ15_subtract_2_5 : List UInt8 := dkwJ15_subtract_2_5 ++ []
def dkwJ15_subtract_2_4 : List UInt8 := [180, 0, 28, 184, 1, 112, 78, 45, 184, 0, 53, 78, 187, 0, 23, 89, 45, 28, 42, 180, 0, 32]
abbrev dktJ15_subtract_2_4 : List UInt8 := dkwJ15_subtract_2_4 ++ dktJ15_subtract_2_5
def dkwJ15_subtract_2_3 : List UInt8 := [176, 28, 158, 0, 17, 42, 180, 0, 28, 43, 180, 0, 28, 184, 1, 112, 167, 0, 14, 43, 180, 0, 28, 42]
abbrev dktJ15_subtract_2_3 : List UInt8 := dkwJ15_subtract_2_3 ++ dktJ15_subtract_2_4
def dkwJ15_subtract_2_2 : List UInt8 := [184, 1, 106, 42, 180, 0, 32, 183, 0, 175, 176, 42, 43, 182, 1, 109, 61, 28, 154, 0, 7, 178, 0, 22]
abbrev dktJ15_subtract_2_2 : List UInt8 := dkwJ15_subtract_2_2 ++ dktJ15_subtract_2_3
def dkwJ15_subtract_2_1 : List UInt8 := [180, 0, 32, 42, 180, 0, 32, 159, 0, 26, 187, 0, 23, 89, 42, 180, 0, 28, 43, 180, 0, 28]
abbrev dktJ15_subtract_2_1 : List UInt8 := dkwJ15_subtract_2_1 ++ dktJ15_subtract_2_2
def dkwJ15_subtract_2_0 : List UInt8 := [43, 180, 0, 32, 154, 0, 5, 42, 176, 42, 180, 0, 32, 154, 0, 8, 43, 182, 1, 138, 176, 43]
abbrev dktJ15_subtract_2_0 : List UInt8 := dkwJ15_subtract_2_0 ++ dktJ15_subtract_2_1
theorem dksJ15_subtract_2_0 : cJ15_subtract_2.data.toList.drop 0 = dktJ15_subtract_2_0 := by decide +kernel
theorem dksJ15_subtract_2_1 : cJ15_subtract_2.data.toList.drop 22 = dktJ15_subtract_2_1 := dk_seg dksJ15_subtract_2_0 22 rfl rfl
theorem dksJ15_subtract_2_2 : cJ15_subtract_2.data.toList.drop 44 = dktJ15_subtract_2_2 := dk_seg dksJ15_subtract_2_1 22 rfl rfl
theorem dksJ15_subtract_2_3 : cJ15_subtract_2.data.toList.drop 68 = dktJ15_subtract_2_3 := dk_seg dksJ15_subtract_2_2 24 rfl rfl
theorem dksJ15_subtract_2_4 : cJ15_subtract_2.data.toList.drop 92 = dktJ15_subtract_2_4 := dk_seg dksJ15_subtract_2_3 24 rfl rfl
theorem dksJ15_subtract_2_5 : cJ15_subtract_2.data.toList.drop 114 = dktJ15_subtract_2_5 := dk_seg dksJ15_subtract_2_4 22 rfl rfl
theorem dJ15_subtract_2_0 : decode cJ15_subtract_2 0 = .ok (.aload_n 1, 1) := dk_43 (dk_at dksJ15_subtract_2_0 0 rfl rfl)
theorem dJ15_subtract_2_1 : decode cJ15_subtract_2 1 = .ok (.getfield 32, 3) := dk_180 0 32 (dk_at dksJ15_subtract_2_0 1 rfl rfl)
theorem dJ15_subtract_2_4 : decode cJ15_subtract_2 4 = .ok (.ifCond .ne 5, 3) := dk_154 0 5 (dk_at dksJ15_subtract_2_0 4 rfl rfl)
theorem dJ15_subtract_2_7 : decode cJ15_subtract_2 7 = .ok (.aload_n 0, 1) := dk_42 (dk_at dksJ15_subtract_2_0 7 rfl rfl)
theorem dJ15_subtract_2_8 : decode cJ15_subtract_2 8 = .ok (.areturn, 1) := dk_176 (dk_at dksJ15_subtract_2_0 8 rfl rfl)
theorem dJ15_subtract_2_9 : decode cJ15_subtract_2 9 = .ok (.aload_n 0, 1) := dk_42 (dk_at dksJ15_subtract_2_0 9 rfl rfl)
theorem dJ15_subtract_2_10 : decode cJ15_subtract_2 10 = .ok (.getfield 32, 3) := dk_180 0 32 (dk_at dksJ15_subtract_2_0 10 rfl rfl)
theorem dJ15_subtract_2_13 : decode cJ15_subtract_2 13 = .ok (.ifCond .ne 8, 3) := dk_154 0 8 (dk_at dksJ15_subtract_2_0 13 rfl rfl)
theorem dJ15_subtract_2_16 : decode cJ15_subtract_2 16 = .ok (.aload_n 1, 1) := dk_43 (dk_at dksJ15_subtract_2_0 16 rfl rfl)
theorem dJ15_subtract_2_17 : decode cJ15_subtract_2 17 = .ok (.invokevirtual 394, 3) := dk_182 1 138 (dk_at dksJ15_subtract_2_0 17 rfl rfl)
theorem dJ15_subtract_2_20 : decode cJ15_subtract_2 20 = .ok (.areturn, 1) := dk_176 (dk_at dksJ15_subtract_2_0 20 rfl rfl)
theorem dJ15_subtract_2_21 : decode cJ15_subtract_2 21 = .ok (.aload_n 1, 1) := dk_43 (dk_at dksJ15_subtract_2_0 21 rfl rfl)
theorem dJ15_subtract_2_22 : decode cJ15_subtract_2 22 = .ok (.getfield 32, 3) := dk_180 0 32 (dk_at dksJ15_subtract_2_1 0 rfl rfl)
theorem dJ15_subtract_2_25 : decode cJ15_subtract_2 25 = .ok (.aload_n 0, 1) := dk_42 (dk_at dksJ15_subtract_2_1 3 rfl rfl)
theorem dJ15_subtract_2_26 : decode cJ15_subtract_2 26 = .ok (.getfield 32, 3) := dk_180 0 32 (dk_at dksJ15_subtract_2_1 4 rfl rfl)
theorem dJ15_subtract_2_29 : decode cJ15_subtract_2 29 = .ok (.if_icmp .eq 26, 3) := dk_159 0 26 (dk_at dksJ15_subtract_2_1 7 rfl rfl)
theorem dJ15_subtract_2_32 : decode cJ15_subtract_2 32 = .ok (.new 23, 3) := dk_187 0 23 (dk_at dksJ15_subtract_2_1 10 rfl rfl)
theorem dJ15_subtract_2_35 : decode cJ15_subtract_2 35 = .ok (.dup, 1) := dk_89 (dk_at dksJ15_subtract_2_1 13 rfl rfl)
theorem dJ15_subtract_2_36 : decode cJ15_subtract_2 36 = .ok (.aload_n 0, 1) := dk_42 (dk_at dksJ15_subtract_2_1 14 rfl rfl)
theorem dJ15_subtract_2_37 : decode cJ15_subtract_2 37 = .ok (.getfield 28, 3) := dk_180 0 28 (dk_at dksJ15_subtract_2_1 15 rfl rfl)
theorem dJ15_subtract_2_40 : decode cJ15_subtract_2 40 = .ok (.aload_n 1, 1) := dk_43 (dk_at dksJ15_subtract_2_1 18 rfl rfl)
theorem dJ15_subtract_2_41 : decode cJ15_subtract_2 41 = .ok (.getfield 28, 3) := dk_180 0 28 (dk_at dksJ15_subtract_2_1 19 rfl rfl)
theorem dJ15_subtract_2_44 : decode cJ15_subtract_2 44 = .ok (.invokestatic 362, 3) := dk_184 1 106 (dk_at dksJ15_subtract_2_2 0 rfl rfl)
theorem dJ15_subtract_2_47 : decode cJ15_subtract_2 47 = .ok (.aload_n 0, 1) := dk_42 (dk_at dksJ15_subtract_2_2 3 rfl rfl)
theorem dJ15_subtract_2_48 : decode cJ15_subtract_2 48 = .ok (.getfield 32, 3) := dk_180 0 32 (dk_at dksJ15_subtract_2_2 4 rfl rfl)
theorem dJ15_subtract_2_51 : decode cJ15_subtract_2 51 = .ok (.invokespecial 175, 3) := dk_183 0 175 (dk_at dksJ15_subtract_2_2 7 rfl rfl)
theorem dJ15_subtract_2_54 : decode cJ15_subtract_2 54 = .ok (.areturn, 1) := dk_176 (dk_at dksJ15_subtract_2_2 10 rfl rfl)
theorem dJ15_subtract_2_55 : decode cJ15_subtract_2 55 = .ok (.aload_n 0, 1) := dk_42 (dk_at dksJ15_subtract_2_2 11 rfl rfl)
theorem dJ15_subtract_2_56 : decode cJ15_subtract_2 56 = .ok (.aload_n 1, 1) := dk_43 (dk_at dksJ15_subtract_2_2 12 rfl rfl)
theorem dJ15_subtract_2_57 : decode cJ15_subtract_2 57 = .ok (.invokevirtual 365, 3) := dk_182 1 109 (dk_at dksJ15_subtract_2_2 13 rfl rfl)
theorem dJ15_subtract_2_60 : decode cJ15_subtract_2 60 = .ok (.istore_n 2, 1) := dk_61 (dk_at dksJ15_subtract_2_2 16 rfl rfl)
theorem dJ15_subtract_2_61 : decode cJ15_subtract_2 61 = .ok (.iload_n 2, 1) := dk_28 (dk_at dksJ15_subtract_2_2 17 rfl rfl)
theorem dJ15_subtract_2_62 : decode cJ15_subtract_2 62 = .ok (.ifCond .ne 7, 3) := dk_154 0 7 (dk_at dksJ15_subtract_2_2 18 rfl rfl)
theorem dJ15_subtract_2_65 : decode cJ15_subtract_2 65 = .ok (.getstatic 22, 3) := dk_178 0 22 (dk_at dksJ15_subtract_2_2 21 rfl rfl)
theorem dJ15_subtract_2_68 : decode cJ15_subtract_2 68 = .ok (.areturn, 1) := dk_176 (dk_at dksJ15_subtract_2_3 0 rfl rfl)
theorem dJ15_subtract_2_69 : decode cJ15_subtract_2 69 = .ok (.iload_n 2, 1) := dk_28 (dk_at dksJ15_subtract_2_3 1 rfl rfl)
theorem dJ15_subtract_2_70 : decode cJ15_subtract_2 70 = .ok (.ifCond .le 17, 3) := dk_158 0 17 (dk_at dksJ15_subtract_2_3 2 rfl rfl)
theorem dJ15_subtract_2_73 : decode cJ15_subtract_2 73 = .ok (.aload_n 0, 1) := dk_42 (dk_at dksJ15_subtract_2_3 5 rfl rfl)
theorem dJ15_subtract_2_74 : decode cJ15_subtract_2 74 = .ok (.getfield 28, 3) := dk_180 0 28 (dk_at dksJ15_subtract_2_3 6 rfl rfl)
theorem dJ15_subtract_2_77 : decode cJ15_subtract_2 77 = .ok (.aload_n 1, 1) := dk_43 (dk_at dksJ15_subtract_2_3 9 rfl rfl)
theorem dJ15_subtract_2_78 : decode cJ15_subtract_2 78 = .ok (.getfield 28, 3) := dk_180 0 28 (dk_at dksJ15_subtract_2_3 10 rfl rfl)
theorem dJ15_subtract_2_81 : decode cJ15_subtract_2 81 = .ok (.invokestatic 368, 3) := dk_184 1 112 (dk_at dksJ15_subtract_2_3 13 rfl rfl)
theorem dJ15_subtract_2_84 : decode cJ15_subtract_2 84 = .ok (.goto 14, 3) := dk_167 0 14 (dk_at dksJ15_subtract_2_3 16 rfl rfl)
theorem dJ15_subtract_2_87 : decode cJ15_subtract_2 87 = .ok (.aload_n 1, 1) := dk_43 (dk_at dksJ15_subtract_2_3 19 rfl rfl)
theorem dJ15_subtract_2_88 : decode cJ15_subtract_2 88 = .ok (.getfield 28, 3) := dk_180 0 28 (dk_at dksJ15_subtract_2_3 20 rfl rfl)
theorem dJ15_subtract_2_91 : decode cJ15_subtract_2 91 = .ok (.aload_n 0, 1) := dk_42 (dk_at dksJ15_subtract_2_3 23 rfl rfl)
theorem dJ15_subtract_2_92 : decode cJ15_subtract_2 92 = .ok (.getfield 28, 3) := dk_180 0 28 (dk_at dksJ15_subtract_2_4 0 rfl rfl)
theorem dJ15_subtract_2_95 : decode cJ15_subtract_2 95 = .ok (.invokestatic 368, 3) := dk_184 1 112 (dk_at dksJ15_subtract_2_4 3 rfl rfl)
theorem dJ15_subtract_2_98 : decode cJ15_subtract_2 98 = .ok (.astore_n 3, 1) := dk_78 (dk_at dksJ15_subtract_2_4 6 rfl rfl)
theorem dJ15_subtract_2_99 : decode cJ15_subtract_2 99 = .ok (.aload_n 3, 1) := dk_45 (dk_at dksJ15_subtract_2_4 7 rfl rfl)
theorem dJ15_subtract_2_100 : decode cJ15_subtract_2 100 = .ok (.invokestatic 53, 3) := dk_184 0 53 (dk_at dksJ15_subtract_2_4 8 rfl rfl)
theorem dJ15_subtract_2_103 : decode cJ15_subtract_2 103 = .ok (.astore_n 3, 1) := dk_78 (dk_at dksJ15_subtract_2_4 11 rfl rfl)
theorem dJ15_subtract_2_104 : decode cJ15_subtract_2 104 = .ok (.new 23, 3) := dk_187 0 23 (dk_at dksJ15_subtract_2_4 12 rfl rfl)
theorem dJ15_subtract_2_107 : decode cJ15_subtract_2 107 = .ok (.dup, 1) := dk_89 (dk_at dksJ15_subtract_2_4 15 rfl rfl)
theorem dJ15_subtract_2_108 : decode cJ15_subtract_2 108 = .ok (.aload_n 3, 1) := dk_45 (dk_at dksJ15_subtract_2_4 16 rfl rfl)
theorem dJ15_subtract_2_109 : decode cJ15_subtract_2 109 = .ok (.iload_n 2, 1) := dk_28 (dk_at dksJ15_subtract_2_4 17 rfl rfl)
theorem dJ15_subtract_2_110 : decode cJ15_subtract_2 110 = .ok (.aload_n 0, 1) := dk_42 (dk_at dksJ15_subtract_2_4 18 rfl rfl)
theorem dJ15_subtract_2_111 : decode cJ15_subtract_2 111 = .ok (.getfield 32, 3) := dk_180 0 32 (dk_at dksJ15_subtract_2_4 19 rfl rfl)
theorem dJ15_subtract_2_114 : decode cJ15_subtract_2 114 = .ok (.if_icmp .ne 7, 3) := dk_160 0 7 (dk_at dksJ15_subtract_2_5 0 rfl rfl)
theorem dJ15_subtract_2_117 : decode cJ15_subtract_2 117 = .ok (.iconst 1, 1) := dk_4 (dk_at dksJ15_subtract_2_5 3 rfl rfl)
theorem dJ15_subtract_2_118 : decode cJ15_subtract_2 118 = .ok (.goto 4, 3) := dk_167 0 4 (dk_at dksJ15_subtract_2_5 4 rfl rfl)
theorem dJ15_subtract_2_121 : decode cJ15_subtract_2 121 = .ok (.iconst (-1), 1) := dk_2 (dk_at dksJ15_subtract_2_5 7 rfl rfl)
theorem dJ15_subtract_2_122 : decode cJ15_subtract_2 122 = .ok (.invokespecial 175, 3) := dk_183 0 175 (dk_at dksJ15_subtract_2_5 8 rfl rfl)
theorem dJ15_subtract_2_125 : decode cJ15_subtract_2 125 = .ok (.areturn, 1) := dk_176 (dk_at dksJ15_subtract_2_5 11 rfl rfl)
abbrev cJ15_multiplyByInt : ByteArray := prog_27_method_43_code
def yJ15_multiplyByInt : MethodName := ⟨RJ15, "multiplyByInt", "([III)Ljava/math/BigInteger;"⟩
def dkwJ15_multiplyByInt_5 : List UInt8 := [58, 4, 167, 0, 11, 25, 4, 21, 9, 22, 5, 136, 79, 187, 0, 23, 89, 25, 4, 28, 183, 0, 175, 176]
abbrev dktJ15_multiplyByInt_5 : List UInt8 := dkwJ15_multiplyByInt_5 ++ []
def dkwJ15_multiplyByInt_4 : List UInt8 := [55, 5, 132, 10, 255, 167, 255, 213, 22, 5, 9, 148, 154, 0, 17, 25, 4, 4, 25, 4, 190, 184, 1, 177]
abbrev dktJ15_multiplyByInt_4 : List UInt8 := dkwJ15_multiplyByInt_4 ++ dktJ15_multiplyByInt_5
def dkwJ15_multiplyByInt_3 : List UInt8 := [22, 7, 105, 22, 5, 97, 55, 11, 25, 4, 21, 9, 132, 9, 255, 22, 11, 136, 79, 22, 11, 16, 32, 125]
abbrev dktJ15_multiplyByInt_3 : List UInt8 := dkwJ15_multiplyByInt_3 ++ dktJ15_multiplyByInt_4
def dkwJ15_multiplyByInt_2 : List UInt8 := [190, 4, 100, 54, 9, 29, 4, 100, 54, 10, 21, 10, 155, 0, 44, 42, 21, 10, 46, 133, 20, 0, 130, 127]
abbrev dktJ15_multiplyByInt_2 : List UInt8 := dkwJ15_multiplyByInt_2 ++ dktJ15_multiplyByInt_3
def dkwJ15_multiplyByInt_1 : List UInt8 := [176, 42, 190, 62, 29, 4, 96, 188, 10, 58, 4, 9, 55, 5, 27, 133, 20, 0, 130, 127, 55, 7, 25, 4]
abbrev dktJ15_multiplyByInt_1 : List UInt8 := dkwJ15_multiplyByInt_1 ++ dktJ15_multiplyByInt_2
def dkwJ15_multiplyByInt_0 : List UInt8 := [27, 184, 1, 167, 4, 160, 0, 20, 187, 0, 23, 89, 42, 27, 184, 1, 170, 184, 1, 173, 28, 183, 0, 175]
abbrev dktJ15_multiplyByInt_0 : List UInt8 := dkwJ15_multiplyByInt_0 ++ dktJ15_multiplyByInt_1
theorem dksJ15_multiplyByInt_0 : cJ15_multiplyByInt.data.toList.drop 0 = dktJ15_multiplyByInt_0 := by decide +kernel
theorem dksJ15_multiplyByInt_1 : cJ15_multiplyByInt.data.toList.drop 24 = dktJ15_multiplyByInt_1 := dk_seg dksJ15_multiplyByInt_0 24 rfl rfl
theorem dksJ15_multiplyByInt_2 : cJ15_multiplyByInt.data.toList.drop 48 = dktJ15_multiplyByInt_2 := dk_seg dksJ15_multiplyByInt_1 24 rfl rfl
theorem dksJ15_multiplyByInt_3 : cJ15_multiplyByInt.data.toList.drop 72 = dktJ15_multiplyByInt_3 := dk_seg dksJ15_multiplyByInt_2 24 rfl rfl
theorem dksJ15_multiplyByInt_4 : cJ15_multiplyByInt.data.toList.drop 96 = dktJ15_multiplyByInt_4 := dk_seg dksJ15_multiplyByInt_3 24 rfl rfl
theorem dksJ15_multiplyByInt_5 : cJ15_multiplyByInt.data.toList.drop 120 = dktJ15_multiplyByInt_5 := dk_seg dksJ15_multiplyByInt_4 24 rfl rfl
theorem dJ15_multiplyByInt_0 : decode cJ15_multiplyByInt 0 = .ok (.iload_n 1, 1) := dk_27 (dk_at dksJ15_multiplyByInt_0 0 rfl rfl)
theorem dJ15_multiplyByInt_1 : decode cJ15_multiplyByInt 1 = .ok (.invokestatic 423, 3) := dk_184 1 167 (dk_at dksJ15_multiplyByInt_0 1 rfl rfl)
theorem dJ15_multiplyByInt_4 : decode cJ15_multiplyByInt 4 = .ok (.iconst 1, 1) := dk_4 (dk_at dksJ15_multiplyByInt_0 4 rfl rfl)
theorem dJ15_multiplyByInt_5 : decode cJ15_multiplyByInt 5 = .ok (.if_icmp .ne 20, 3) := dk_160 0 20 (dk_at dksJ15_multiplyByInt_0 5 rfl rfl)
theorem dJ15_multiplyByInt_8 : decode cJ15_multiplyByInt 8 = .ok (.new 23, 3) := dk_187 0 23 (dk_at dksJ15_multiplyByInt_0 8 rfl rfl)
theorem dJ15_multiplyByInt_11 : decode cJ15_multiplyByInt 11 = .ok (.dup, 1) := dk_89 (dk_at dksJ15_multiplyByInt_0 11 rfl rfl)
theorem dJ15_multiplyByInt_12 : decode cJ15_multiplyByInt 12 = .ok (.aload_n 0, 1) := dk_42 (dk_at dksJ15_multiplyByInt_0 12 rfl rfl)
theorem dJ15_multiplyByInt_13 : decode cJ15_multiplyByInt 13 = .ok (.iload_n 1, 1) := dk_27 (dk_at dksJ15_multiplyByInt_0 13 rfl rfl)
theorem dJ15_multiplyByInt_14 : decode cJ15_multiplyByInt 14 = .ok (.invokestatic 426, 3) := dk_184 1 170 (dk_at dksJ15_multiplyByInt_0 14 rfl rfl)
theorem dJ15_multiplyByInt_17 : decode cJ15_multiplyByInt 17 = .ok (.invokestatic 429, 3) := dk_184 1 173 (dk_at dksJ15_multiplyByInt_0 17 rfl rfl)
theorem dJ15_multiplyByInt_20 : decode cJ15_multiplyByInt 20 = .ok (.iload_n 2, 1) := dk_28 (dk_at dksJ15_multiplyByInt_0 20 rfl rfl)
theorem dJ15_multiplyByInt_21 : decode cJ15_multiplyByInt 21 = .ok (.invokespecial 175, 3) := dk_183 0 175 (dk_at dksJ15_multiplyByInt_0 21 rfl rfl)
theorem dJ15_multiplyByInt_24 : decode cJ15_multiplyByInt 24 = .ok (.areturn, 1) := dk_176 (dk_at dksJ15_multiplyByInt_1 0 rfl rfl)
theorem dJ15_multiplyByInt_25 : decode cJ15_multiplyByInt 25 = .ok (.aload_n 0, 1) := dk_42 (dk_at dksJ15_multiplyByInt_1 1 rfl rfl)
theorem dJ15_multiplyByInt_26 : decode cJ15_multiplyByInt 26 = .ok (.arraylength, 1) := dk_190 (dk_at dksJ15_multiplyByInt_1 2 rfl rfl)
theorem dJ15_multiplyByInt_27 : decode cJ15_multiplyByInt 27 = .ok (.istore_n 3, 1) := dk_62 (dk_at dksJ15_multiplyByInt_1 3 rfl rfl)
theorem dJ15_multiplyByInt_28 : decode cJ15_multiplyByInt 28 = .ok (.iload_n 3, 1) := dk_29 (dk_at dksJ15_multiplyByInt_1 4 rfl rfl)
theorem dJ15_multiplyByInt_29 : decode cJ15_multiplyByInt 29 = .ok (.iconst 1, 1) := dk_4 (dk_at dksJ15_multiplyByInt_1 5 rfl rfl)
theorem dJ15_multiplyByInt_30 : decode cJ15_multiplyByInt 30 = .ok (.iadd, 1) := dk_96 (dk_at dksJ15_multiplyByInt_1 6 rfl rfl)
theorem dJ15_multiplyByInt_31 : decode cJ15_multiplyByInt 31 = .ok (.newarray .int, 2) := dk_188_10 (dk_at dksJ15_multiplyByInt_1 7 rfl rfl)
theorem dJ15_multiplyByInt_33 : decode cJ15_multiplyByInt 33 = .ok (.astore 4, 2) := dk_58 4 (dk_at dksJ15_multiplyByInt_1 9 rfl rfl)
theorem dJ15_multiplyByInt_35 : decode cJ15_multiplyByInt 35 = .ok (.lconst 0, 1) := dk_9 (dk_at dksJ15_multiplyByInt_1 11 rfl rfl)
theorem dJ15_multiplyByInt_36 : decode cJ15_multiplyByInt 36 = .ok (.lstore 5, 2) := dk_55 5 (dk_at dksJ15_multiplyByInt_1 12 rfl rfl)
theorem dJ15_multiplyByInt_38 : decode cJ15_multiplyByInt 38 = .ok (.iload_n 1, 1) := dk_27 (dk_at dksJ15_multiplyByInt_1 14 rfl rfl)
theorem dJ15_multiplyByInt_39 : decode cJ15_multiplyByInt 39 = .ok (.i2l, 1) := dk_133 (dk_at dksJ15_multiplyByInt_1 15 rfl rfl)
theorem dJ15_multiplyByInt_40 : decode cJ15_multiplyByInt 40 = .ok (.ldc2_w 130, 3) := dk_20 0 130 (dk_at dksJ15_multiplyByInt_1 16 rfl rfl)
theorem dJ15_multiplyByInt_43 : decode cJ15_multiplyByInt 43 = .ok (.land, 1) := dk_127 (dk_at dksJ15_multiplyByInt_1 19 rfl rfl)
theorem dJ15_multiplyByInt_44 : decode cJ15_multiplyByInt 44 = .ok (.lstore 7, 2) := dk_55 7 (dk_at dksJ15_multiplyByInt_1 20 rfl rfl)
theorem dJ15_multiplyByInt_46 : decode cJ15_multiplyByInt 46 = .ok (.aload 4, 2) := dk_25 4 (dk_at dksJ15_multiplyByInt_1 22 rfl rfl)
theorem dJ15_multiplyByInt_48 : decode cJ15_multiplyByInt 48 = .ok (.arraylength, 1) := dk_190 (dk_at dksJ15_multiplyByInt_2 0 rfl rfl)
theorem dJ15_multiplyByInt_49 : decode cJ15_multiplyByInt 49 = .ok (.iconst 1, 1) := dk_4 (dk_at dksJ15_multiplyByInt_2 1 rfl rfl)
theorem dJ15_multiplyByInt_50 : decode cJ15_multiplyByInt 50 = .ok (.isub, 1) := dk_100 (dk_at dksJ15_multiplyByInt_2 2 rfl rfl)
theorem dJ15_multiplyByInt_51 : decode cJ15_multiplyByInt 51 = .ok (.istore 9, 2) := dk_54 9 (dk_at dksJ15_multiplyByInt_2 3 rfl rfl)
theorem dJ15_multiplyByInt_53 : decode cJ15_multiplyByInt 53 = .ok (.iload_n 3, 1) := dk_29 (dk_at dksJ15_multiplyByInt_2 5 rfl rfl)
theorem dJ15_multiplyByInt_54 : decode cJ15_multiplyByInt 54 = .ok (.iconst 1, 1) := dk_4 (dk_at dksJ15_multiplyByInt_2 6 rfl rfl)
theorem dJ15_multiplyByInt_55 : decode cJ15_multiplyByInt 55 = .ok (.isub, 1) := dk_100 (dk_at dksJ15_multiplyByInt_2 7 rfl rfl)
theorem dJ15_multiplyByInt_56 : decode cJ15_multiplyByInt 56 = .ok (.istore 10, 2) := dk_54 10 (dk_at dksJ15_multiplyByInt_2 8 rfl rfl)
theorem dJ15_multiplyByInt_58 : decode cJ15_multiplyByInt 58 = .ok (.iload 10, 2) := dk_21 10 (dk_at dksJ15_multiplyByInt_2 10 rfl rfl)
theorem dJ15_multiplyByInt_60 : decode cJ15_multiplyByInt 60 = .ok (.ifCond .lt 44, 3) := dk_155 0 44 (dk_at dksJ15_multiplyByInt_2 12 rfl rfl)
theorem dJ15_multiplyByInt_63 : decode cJ15_multiplyByInt 63 = .ok (.aload_n 0, 1) := dk_42 (dk_at dksJ15_multiplyByInt_2 15 rfl rfl)
theorem dJ15_multiplyByInt_64 : decode cJ15_multiplyByInt 64 = .ok (.iload 10, 2) := dk_21 10 (dk_at dksJ15_multiplyByInt_2 16 rfl rfl)
theorem dJ15_multiplyByInt_66 : decode cJ15_multiplyByInt 66 = .ok (.iaload, 1) := dk_46 (dk_at dksJ15_multiplyByInt_2 18 rfl rfl)
theorem dJ15_multiplyByInt_67 : decode cJ15_multiplyByInt 67 = .ok (.i2l, 1) := dk_133 (dk_at dksJ15_multiplyByInt_2 19 rfl rfl)
theorem dJ15_multiplyByInt_68 : decode cJ15_multiplyByInt 68 = .ok (.ldc2_w 130, 3) := dk_20 0 130 (dk_at dksJ15_multiplyByInt_2 20 rfl rfl)
theorem dJ15_multiplyByInt_71 : decode cJ15_multiplyByInt 71 = .ok (.land, 1) := dk_127 (dk_at dksJ15_multiplyByInt_2 23 rfl rfl)
theorem dJ15_multiplyByInt_72 : decode cJ15_multiplyByInt 72 = .ok (.lload 7, 2) := dk_22 7 (dk_at dksJ15_multiplyByInt_3 0 rfl rfl)
theorem dJ15_multiplyByInt_74 : decode cJ15_multiplyByInt 74 = .ok (.lmul, 1) := dk_105 (dk_at dksJ15_multiplyByInt_3 2 rfl rfl)
theorem dJ15_multiplyByInt_75 : decode cJ15_multiplyByInt 75 = .ok (.lload 5, 2) := dk_22 5 (dk_at dksJ15_multiplyByInt_3 3 rfl rfl)
theorem dJ15_multiplyByInt_77 : decode cJ15_multiplyByInt 77 = .ok (.ladd, 1) := dk_97 (dk_at dksJ15_multiplyByInt_3 5 rfl rfl)
theorem dJ15_multiplyByInt_78 : decode cJ15_multiplyByInt 78 = .ok (.lstore 11, 2) := dk_55 11 (dk_at dksJ15_multiplyByInt_3 6 rfl rfl)
theorem dJ15_multiplyByInt_80 : decode cJ15_multiplyByInt 80 = .ok (.aload 4, 2) := dk_25 4 (dk_at dksJ15_multiplyByInt_3 8 rfl rfl)
theorem dJ15_multiplyByInt_82 : decode cJ15_multiplyByInt 82 = .ok (.iload 9, 2) := dk_21 9 (dk_at dksJ15_multiplyByInt_3 10 rfl rfl)
theorem dJ15_multiplyByInt_84 : decode cJ15_multiplyByInt 84 = .ok (.iinc 9 (-1), 3) := dk_132 9 255 (dk_at dksJ15_multiplyByInt_3 12 rfl rfl)
theorem dJ15_multiplyByInt_87 : decode cJ15_multiplyByInt 87 = .ok (.lload 11, 2) := dk_22 11 (dk_at dksJ15_multiplyByInt_3 15 rfl rfl)
theorem dJ15_multiplyByInt_89 : decode cJ15_multiplyByInt 89 = .ok (.l2i, 1) := dk_136 (dk_at dksJ15_multiplyByInt_3 17 rfl rfl)
theorem dJ15_multiplyByInt_90 : decode cJ15_multiplyByInt 90 = .ok (.iastore, 1) := dk_79 (dk_at dksJ15_multiplyByInt_3 18 rfl rfl)
theorem dJ15_multiplyByInt_91 : decode cJ15_multiplyByInt 91 = .ok (.lload 11, 2) := dk_22 11 (dk_at dksJ15_multiplyByInt_3 19 rfl rfl)
theorem dJ15_multiplyByInt_93 : decode cJ15_multiplyByInt 93 = .ok (.bipush 32, 2) := dk_16 32 (dk_at dksJ15_multiplyByInt_3 21 rfl rfl)
theorem dJ15_multiplyByInt_95 : decode cJ15_multiplyByInt 95 = .ok (.lushr, 1) := dk_125 (dk_at dksJ15_multiplyByInt_3 23 rfl rfl)
theorem dJ15_multiplyByInt_96 : decode cJ15_multiplyByInt 96 = .ok (.lstore 5, 2) := dk_55 5 (dk_at dksJ15_multiplyByInt_4 0 rfl rfl)
theorem dJ15_multiplyByInt_98 : decode cJ15_multiplyByInt 98 = .ok (.iinc 10 (-1), 3) := dk_132 10 255 (dk_at dksJ15_multiplyByInt_4 2 rfl rfl)
theorem dJ15_multiplyByInt_101 : decode cJ15_multiplyByInt 101 = .ok (.goto (-43), 3) := dk_167 255 213 (dk_at dksJ15_multiplyByInt_4 5 rfl rfl)
theorem dJ15_multiplyByInt_104 : decode cJ15_multiplyByInt 104 = .ok (.lload 5, 2) := dk_22 5 (dk_at dksJ15_multiplyByInt_4 8 rfl rfl)
theorem dJ15_multiplyByInt_106 : decode cJ15_multiplyByInt 106 = .ok (.lconst 0, 1) := dk_9 (dk_at dksJ15_multiplyByInt_4 10 rfl rfl)
theorem dJ15_multiplyByInt_107 : decode cJ15_multiplyByInt 107 = .ok (.lcmp, 1) := dk_148 (dk_at dksJ15_multiplyByInt_4 11 rfl rfl)
theorem dJ15_multiplyByInt_108 : decode cJ15_multiplyByInt 108 = .ok (.ifCond .ne 17, 3) := dk_154 0 17 (dk_at dksJ15_multiplyByInt_4 12 rfl rfl)
theorem dJ15_multiplyByInt_111 : decode cJ15_multiplyByInt 111 = .ok (.aload 4, 2) := dk_25 4 (dk_at dksJ15_multiplyByInt_4 15 rfl rfl)
theorem dJ15_multiplyByInt_113 : decode cJ15_multiplyByInt 113 = .ok (.iconst 1, 1) := dk_4 (dk_at dksJ15_multiplyByInt_4 17 rfl rfl)
theorem dJ15_multiplyByInt_114 : decode cJ15_multiplyByInt 114 = .ok (.aload 4, 2) := dk_25 4 (dk_at dksJ15_multiplyByInt_4 18 rfl rfl)
theorem dJ15_multiplyByInt_116 : decode cJ15_multiplyByInt 116 = .ok (.arraylength, 1) := dk_190 (dk_at dksJ15_multiplyByInt_4 20 rfl rfl)
theorem dJ15_multiplyByInt_117 : decode cJ15_multiplyByInt 117 = .ok (.invokestatic 433, 3) := dk_184 1 177 (dk_at dksJ15_multiplyByInt_4 21 rfl rfl)
theorem dJ15_multiplyByInt_120 : decode cJ15_multiplyByInt 120 = .ok (.astore 4, 2) := dk_58 4 (dk_at dksJ15_multiplyByInt_5 0 rfl rfl)
theorem dJ15_multiplyByInt_122 : decode cJ15_multiplyByInt 122 = .ok (.goto 11, 3) := dk_167 0 11 (dk_at dksJ15_multiplyByInt_5 2 rfl rfl)
theorem dJ15_multiplyByInt_125 : decode cJ15_multiplyByInt 125 = .ok (.aload 4, 2) := dk_25 4 (dk_at dksJ15_multiplyByInt_5 5 rfl rfl)
theorem dJ15_multiplyByInt_127 : decode cJ15_multiplyByInt 127 = .ok (.iload 9, 2) := dk_21 9 (dk_at dksJ15_multiplyByInt_5 7 rfl rfl)
theorem dJ15_multiplyByInt_129 : decode cJ15_multiplyByInt 129 = .ok (.lload 5, 2) := dk_22 5 (dk_at dksJ15_multiplyByInt_5 9 rfl rfl)
theorem dJ15_multiplyByInt_131 : decode cJ15_multiplyByInt 131 = .ok (.l2i, 1) := dk_136 (dk_at dksJ15_multiplyByInt_5 11 rfl rfl)
theorem dJ15_multiplyByInt_132 : decode cJ15_multiplyByInt 132 = .ok (.iastore, 1) := dk_79 (dk_at dksJ15_multiplyByInt_5 12 rfl rfl)
theorem dJ15_multiplyByInt_133 : decode cJ15_multiplyByInt 133 = .ok (.new 23, 3) := dk_187 0 23 (dk_at dksJ15_multiplyByInt_5 13 rfl rfl)
theorem dJ15_multiplyByInt_136 : decode cJ15_multiplyByInt 136 = .ok (.dup, 1) := dk_89 (dk_at dksJ15_multiplyByInt_5 16 rfl rfl)
theorem dJ15_multiplyByInt_137 : decode cJ15_multiplyByInt 137 = .ok (.aload 4, 2) := dk_25 4 (dk_at dksJ15_multiplyByInt_5 17 rfl rfl)
theorem dJ15_multiplyByInt_139 : decode cJ15_multiplyByInt 139 = .ok (.iload_n 2, 1) := dk_28 (dk_at dksJ15_multiplyByInt_5 19 rfl rfl)
theorem dJ15_multiplyByInt_140 : decode cJ15_multiplyByInt 140 = .ok (.invokespecial 175, 3) := dk_183 0 175 (dk_at dksJ15_multiplyByInt_5 20 rfl rfl)
theorem dJ15_multiplyByInt_143 : decode cJ15_multiplyByInt 143 = .ok (.areturn, 1) := dk_176 (dk_at dksJ15_multiplyByInt_5 23 rfl rfl)
abbrev cJ15_multiplyToLen : ByteArray := prog_27_method_45_code
def yJ15_multiplyToLen : MethodName := ⟨RJ15, "multiplyToLen", "([II[II[I)[I"⟩
def dkwJ15_multiplyToLen_0 : List UInt8 := [42, 27, 184, 1, 185, 44, 29, 184, 1, 185, 42, 27, 44, 29, 25, 4, 184, 1, 188, 176]
abbrev dktJ15_multiplyToLen_0 : List UInt8 := dkwJ15_multiplyToLen_0 ++ []
theorem dksJ15_multiplyToLen_0 : cJ15_multiplyToLen.data.toList.drop 0 = dktJ15_multiplyToLen_0 := by decide +kernel
theorem dJ15_multiplyToLen_0 : decode cJ15_multiplyToLen 0 = .ok (.aload_n 0, 1) := dk_42 (dk_at dksJ15_multiplyToLen_0 0 rfl rfl)
theorem dJ15_multiplyToLen_1 : decode cJ15_multiplyToLen 1 = .ok (.iload_n 1, 1) := dk_27 (dk_at dksJ15_multiplyToLen_0 1 rfl rfl)
theorem dJ15_multiplyToLen_2 : decode cJ15_multiplyToLen 2 = .ok (.invokestatic 441, 3) := dk_184 1 185 (dk_at dksJ15_multiplyToLen_0 2 rfl rfl)
theorem dJ15_multiplyToLen_5 : decode cJ15_multiplyToLen 5 = .ok (.aload_n 2, 1) := dk_44 (dk_at dksJ15_multiplyToLen_0 5 rfl rfl)
theorem dJ15_multiplyToLen_6 : decode cJ15_multiplyToLen 6 = .ok (.iload_n 3, 1) := dk_29 (dk_at dksJ15_multiplyToLen_0 6 rfl rfl)
theorem dJ15_multiplyToLen_7 : decode cJ15_multiplyToLen 7 = .ok (.invokestatic 441, 3) := dk_184 1 185 (dk_at dksJ15_multiplyToLen_0 7 rfl rfl)
theorem dJ15_multiplyToLen_10 : decode cJ15_multiplyToLen 10 = .ok (.aload_n 0, 1) := dk_42 (dk_at dksJ15_multiplyToLen_0 10 rfl rfl)
theorem dJ15_multiplyToLen_11 : decode cJ15_multiplyToLen 11 = .ok (.iload_n 1, 1) := dk_27 (dk_at dksJ15_multiplyToLen_0 11 rfl rfl)
theorem dJ15_multiplyToLen_12 : decode cJ15_multiplyToLen 12 = .ok (.aload_n 2, 1) := dk_44 (dk_at dksJ15_multiplyToLen_0 12 rfl rfl)
theorem dJ15_multiplyToLen_13 : decode cJ15_multiplyToLen 13 = .ok (.iload_n 3, 1) := dk_29 (dk_at dksJ15_multiplyToLen_0 13 rfl rfl)
theorem dJ15_multiplyToLen_14 : decode cJ15_multiplyToLen 14 = .ok (.aload 4, 2) := dk_25 4 (dk_at dksJ15_multiplyToLen_0 14 rfl rfl)
theorem dJ15_multiplyToLen_16 : decode cJ15_multiplyToLen 16 = .ok (.invokestatic 444, 3) := dk_184 1 188 (dk_at dksJ15_multiplyToLen_0 16 rfl rfl)
theorem dJ15_multiplyToLen_19 : decode cJ15_multiplyToLen 19 = .ok (.areturn, 1) := dk_176 (dk_at dksJ15_multiplyToLen_0 19 rfl rfl)
abbrev cJ15_multiplyToLenCheck : ByteArray := prog_27_method_47_code
def yJ15_multiplyToLenCheck : MethodName := ⟨RJ15, "multiplyToLenCheck", "([II)V"⟩
def dkwJ15_multiplyToLenCheck_1 : List UInt8 := [183, 1, 197, 191, 177]
abbrev dktJ15_multiplyToLenCheck_1 : List UInt8 := dkwJ15_multiplyToLenCheck_1 ++ []
def dkwJ15_multiplyToLenCheck_0 : List UInt8 := [27, 157, 0, 4, 177, 42, 184, 1, 191, 87, 27, 42, 190, 164, 0, 14, 187, 1, 195, 89, 27, 4, 100]
abbrev dktJ15_multiplyToLenCheck_0 : List UInt8 := dkwJ15_multiplyToLenCheck_0 ++ dktJ15_multiplyToLenCheck_1
theorem dksJ15_multiplyToLenCheck_0 : cJ15_multiplyToLenCheck.data.toList.drop 0 = dktJ15_multiplyToLenCheck_0 := by decide +kernel
theorem dksJ15_multiplyToLenCheck_1 : cJ15_multiplyToLenCheck.data.toList.drop 23 = dktJ15_multiplyToLenCheck_1 := dk_seg dksJ15_multiplyToLenCheck_0 23 rfl rfl
theorem dJ15_multiplyToLenCheck_0 : decode cJ15_multiplyToLenCheck 0 = .ok (.iload_n 1, 1) := dk_27 (dk_at dksJ15_multiplyToLenCheck_0 0 rfl rfl)
theorem dJ15_multiplyToLenCheck_1 : decode cJ15_multiplyToLenCheck 1 = .ok (.ifCond .gt 4, 3) := dk_157 0 4 (dk_at dksJ15_multiplyToLenCheck_0 1 rfl rfl)
theorem dJ15_multiplyToLenCheck_4 : decode cJ15_multiplyToLenCheck 4 = .ok (.return_, 1) := dk_177 (dk_at dksJ15_multiplyToLenCheck_0 4 rfl rfl)
theorem dJ15_multiplyToLenCheck_5 : decode cJ15_multiplyToLenCheck 5 = .ok (.aload_n 0, 1) := dk_42 (dk_at dksJ15_multiplyToLenCheck_0 5 rfl rfl)
theorem dJ15_multiplyToLenCheck_6 : decode cJ15_multiplyToLenCheck 6 = .ok (.invokestatic 447, 3) := dk_184 1 191 (dk_at dksJ15_multiplyToLenCheck_0 6 rfl rfl)
theorem dJ15_multiplyToLenCheck_9 : decode cJ15_multiplyToLenCheck 9 = .ok (.pop, 1) := dk_87 (dk_at dksJ15_multiplyToLenCheck_0 9 rfl rfl)
theorem dJ15_multiplyToLenCheck_10 : decode cJ15_multiplyToLenCheck 10 = .ok (.iload_n 1, 1) := dk_27 (dk_at dksJ15_multiplyToLenCheck_0 10 rfl rfl)
theorem dJ15_multiplyToLenCheck_11 : decode cJ15_multiplyToLenCheck 11 = .ok (.aload_n 0, 1) := dk_42 (dk_at dksJ15_multiplyToLenCheck_0 11 rfl rfl)
theorem dJ15_multiplyToLenCheck_12 : decode cJ15_multiplyToLenCheck 12 = .ok (.arraylength, 1) := dk_190 (dk_at dksJ15_multiplyToLenCheck_0 12 rfl rfl)
theorem dJ15_multiplyToLenCheck_13 : decode cJ15_multiplyToLenCheck 13 = .ok (.if_icmp .le 14, 3) := dk_164 0 14 (dk_at dksJ15_multiplyToLenCheck_0 13 rfl rfl)
theorem dJ15_multiplyToLenCheck_16 : decode cJ15_multiplyToLenCheck 16 = .ok (.new 451, 3) := dk_187 1 195 (dk_at dksJ15_multiplyToLenCheck_0 16 rfl rfl)
theorem dJ15_multiplyToLenCheck_19 : decode cJ15_multiplyToLenCheck 19 = .ok (.dup, 1) := dk_89 (dk_at dksJ15_multiplyToLenCheck_0 19 rfl rfl)
theorem dJ15_multiplyToLenCheck_20 : decode cJ15_multiplyToLenCheck 20 = .ok (.iload_n 1, 1) := dk_27 (dk_at dksJ15_multiplyToLenCheck_0 20 rfl rfl)
theorem dJ15_multiplyToLenCheck_21 : decode cJ15_multiplyToLenCheck 21 = .ok (.iconst 1, 1) := dk_4 (dk_at dksJ15_multiplyToLenCheck_0 21 rfl rfl)
theorem dJ15_multiplyToLenCheck_22 : decode cJ15_multiplyToLenCheck 22 = .ok (.isub, 1) := dk_100 (dk_at dksJ15_multiplyToLenCheck_0 22 rfl rfl)
theorem dJ15_multiplyToLenCheck_23 : decode cJ15_multiplyToLenCheck 23 = .ok (.invokespecial 453, 3) := dk_183 1 197 (dk_at dksJ15_multiplyToLenCheck_1 0 rfl rfl)
theorem dJ15_multiplyToLenCheck_26 : decode cJ15_multiplyToLenCheck 26 = .ok (.athrow, 1) := dk_191 (dk_at dksJ15_multiplyToLenCheck_1 3 rfl rfl)
theorem dJ15_multiplyToLenCheck_27 : decode cJ15_multiplyToLenCheck 27 = .ok (.return_, 1) := dk_177 (dk_at dksJ15_multiplyToLenCheck_1 4 rfl rfl)
abbrev cJ15_implMultiplyToLen : ByteArray := prog_27_method_46_code
def yJ15_implMultiplyToLen : MethodName := ⟨RJ15, "implMultiplyToLen", "([II[II[I)[I"⟩
def dkwJ15_implMultiplyToLen_9 : List UInt8 := [167, 255, 160, 25, 4, 176]
abbrev dktJ15_implMultiplyToLen_9 : List UInt8 := dkwJ15_implMultiplyToLen_9 ++ []
def dkwJ15_implMultiplyToLen_8 : List UInt8 := [55, 7, 132, 10, 255, 132, 11, 255, 167, 255, 195, 25, 4, 21, 9, 22, 7, 136, 79, 132, 9, 255]
abbrev dktJ15_implMultiplyToLen_8 : List UInt8 := dkwJ15_implMultiplyToLen_8 ++ dktJ15_implMultiplyToLen_9
def dkwJ15_implMultiplyToLen_7 : List UInt8 := [133, 20, 0, 130, 127, 97, 22, 7, 97, 55, 12, 25, 4, 21, 11, 22, 12, 136, 79, 22, 12, 16, 32, 125]
abbrev dktJ15_implMultiplyToLen_7 : List UInt8 := dkwJ15_implMultiplyToLen_7 ++ dktJ15_implMultiplyToLen_8
def dkwJ15_implMultiplyToLen_6 : List UInt8 := [44, 21, 10, 46, 133, 20, 0, 130, 127, 42, 21, 9, 46, 133, 20, 0, 130, 127, 105, 25, 4, 21, 11, 46]
abbrev dktJ15_implMultiplyToLen_6 : List UInt8 := dkwJ15_implMultiplyToLen_6 ++ dktJ15_implMultiplyToLen_7
def dkwJ15_implMultiplyToLen_5 : List UInt8 := [155, 0, 97, 9, 55, 7, 21, 6, 54, 10, 21, 6, 4, 96, 21, 9, 96, 54, 11, 21, 10, 155, 0, 62]
abbrev dktJ15_implMultiplyToLen_5 : List UInt8 := dkwJ15_implMultiplyToLen_5 ++ dktJ15_implMultiplyToLen_6
def dkwJ15_implMultiplyToLen_4 : List UInt8 := [132, 10, 255, 167, 255, 206, 25, 4, 21, 5, 22, 7, 136, 79, 21, 5, 4, 100, 54, 9, 21, 9]
abbrev dktJ15_implMultiplyToLen_4 : List UInt8 := dkwJ15_implMultiplyToLen_4 ++ dktJ15_implMultiplyToLen_5
def dkwJ15_implMultiplyToLen_3 : List UInt8 := [22, 7, 97, 55, 11, 25, 4, 21, 10, 22, 11, 136, 79, 22, 11, 16, 32, 125, 55, 7, 132, 9, 255]
abbrev dktJ15_implMultiplyToLen_3 : List UInt8 := dkwJ15_implMultiplyToLen_3 ++ dktJ15_implMultiplyToLen_4
def dkwJ15_implMultiplyToLen_2 : List UInt8 := [21, 9, 155, 0, 51, 44, 21, 9, 46, 133, 20, 0, 130, 127, 42, 21, 5, 46, 133, 20, 0, 130, 127, 105]
abbrev dktJ15_implMultiplyToLen_2 : List UInt8 := dkwJ15_implMultiplyToLen_2 ++ dktJ15_implMultiplyToLen_3
def dkwJ15_implMultiplyToLen_1 : List UInt8 := [27, 29, 96, 188, 10, 58, 4, 9, 55, 7, 21, 6, 54, 9, 21, 6, 4, 96, 21, 5, 96, 54, 10]
abbrev dktJ15_implMultiplyToLen_1 : List UInt8 := dkwJ15_implMultiplyToLen_1 ++ dktJ15_implMultiplyToLen_2
def dkwJ15_implMultiplyToLen_0 : List UInt8 := [27, 4, 100, 54, 5, 29, 4, 100, 54, 6, 25, 4, 198, 0, 12, 25, 4, 190, 27, 29, 96, 162, 0, 10]
abbrev dktJ15_implMultiplyToLen_0 : List UInt8 := dkwJ15_implMultiplyToLen_0 ++ dktJ15_implMultiplyToLen_1
theorem dksJ15_implMultiplyToLen_0 : cJ15_implMultiplyToLen.data.toList.drop 0 = dktJ15_implMultiplyToLen_0 := by decide +kernel
theorem dksJ15_implMultiplyToLen_1 : cJ15_implMultiplyToLen.data.toList.drop 24 = dktJ15_implMultiplyToLen_1 := dk_seg dksJ15_implMultiplyToLen_0 24 rfl rfl
theorem dksJ15_implMultiplyToLen_2 : cJ15_implMultiplyToLen.data.toList.drop 47 = dktJ15_implMultiplyToLen_2 := dk_seg dksJ15_implMultiplyToLen_1 23 rfl rfl
theorem dksJ15_implMultiplyToLen_3 : cJ15_implMultiplyToLen.data.toList.drop 71 = dktJ15_implMultiplyToLen_3 := dk_seg dksJ15_implMultiplyToLen_2 24 rfl rfl
theorem dksJ15_implMultiplyToLen_4 : cJ15_implMultiplyToLen.data.toList.drop 94 = dktJ15_implMultiplyToLen_4 := dk_seg dksJ15_implMultiplyToLen_3 23 rfl rfl
theorem dksJ15_implMultiplyToLen_5 : cJ15_implMultiplyToLen.data.toList.drop 116 = dktJ15_implMultiplyToLen_5 := dk_seg dksJ15_implMultiplyToLen_4 22 rfl rfl
theorem dksJ15_implMultiplyToLen_6 : cJ15_implMultiplyToLen.data.toList.drop 140 = dktJ15_implMultiplyToLen_6 := dk_seg dksJ15_implMultiplyToLen_5 24 rfl rfl
theorem dksJ15_implMultiplyToLen_7 : cJ15_implMultiplyToLen.data.toList.drop 164 = dktJ15_implMultiplyToLen_7 := dk_seg dksJ15_implMultiplyToLen_6 24 rfl rfl
theorem dksJ15_implMultiplyToLen_8 : cJ15_implMultiplyToLen.data.toList.drop 188 = dktJ15_implMultiplyToLen_8 := dk_seg dksJ15_implMultiplyToLen_7 24 rfl rfl
theorem dksJ15_implMultiplyToLen_9 : cJ15_implMultiplyToLen.data.toList.drop 210 = dktJ15_implMultiplyToLen_9 := dk_seg dksJ15_implMultiplyToLen_8 22 rfl rfl
theorem dJ15_implMultiplyToLen_0 : decode cJ15_implMultiplyToLen 0 = .ok (.iload_n 1, 1) := dk_27 (dk_at dksJ15_implMultiplyToLen_0 0 rfl rfl)
theorem dJ15_implMultiplyToLen_1 : decode cJ15_implMultiplyToLen 1 = .ok (.iconst 1, 1) := dk_4 (dk_at dksJ15_implMultiplyToLen_0 1 rfl rfl)
theorem dJ15_implMultiplyToLen_2 : decode cJ15_implMultiplyToLen 2 = .ok (.isub, 1) := dk_100 (dk_at dksJ15_implMultiplyToLen_0 2 rfl rfl)
theorem dJ15_implMultiplyToLen_3 : decode cJ15_implMultiplyToLen 3 = .ok (.istore 5, 2) := dk_54 5 (dk_at dksJ15_implMultiplyToLen_0 3 rfl rfl)
theorem dJ15_implMultiplyToLen_5 : decode cJ15_implMultiplyToLen 5 = .ok (.iload_n 3, 1) := dk_29 (dk_at dksJ15_implMultiplyToLen_0 5 rfl rfl)
theorem dJ15_implMultiplyToLen_6 : decode cJ15_implMultiplyToLen 6 = .ok (.iconst 1, 1) := dk_4 (dk_at dksJ15_implMultiplyToLen_0 6 rfl rfl)
theorem dJ15_implMultiplyToLen_7 : decode cJ15_implMultiplyToLen 7 = .ok (.isub, 1) := dk_100 (dk_at dksJ15_implMultiplyToLen_0 7 rfl rfl)
theorem dJ15_implMultiplyToLen_8 : decode cJ15_implMultiplyToLen 8 = .ok (.istore 6, 2) := dk_54 6 (dk_at dksJ15_implMultiplyToLen_0 8 rfl rfl)
theorem dJ15_implMultiplyToLen_10 : decode cJ15_implMultiplyToLen 10 = .ok (.aload 4, 2) := dk_25 4 (dk_at dksJ15_implMultiplyToLen_0 10 rfl rfl)
theorem dJ15_implMultiplyToLen_12 : decode cJ15_implMultiplyToLen 12 = .ok (.ifnull 12, 3) := dk_198 0 12 (dk_at dksJ15_implMultiplyToLen_0 12 rfl rfl)
theorem dJ15_implMultiplyToLen_15 : decode cJ15_implMultiplyToLen 15 = .ok (.aload 4, 2) := dk_25 4 (dk_at dksJ15_implMultiplyToLen_0 15 rfl rfl)
theorem dJ15_implMultiplyToLen_17 : decode cJ15_implMultiplyToLen 17 = .ok (.arraylength, 1) := dk_190 (dk_at dksJ15_implMultiplyToLen_0 17 rfl rfl)
theorem dJ15_implMultiplyToLen_18 : decode cJ15_implMultiplyToLen 18 = .ok (.iload_n 1, 1) := dk_27 (dk_at dksJ15_implMultiplyToLen_0 18 rfl rfl)
theorem dJ15_implMultiplyToLen_19 : decode cJ15_implMultiplyToLen 19 = .ok (.iload_n 3, 1) := dk_29 (dk_at dksJ15_implMultiplyToLen_0 19 rfl rfl)
theorem dJ15_implMultiplyToLen_20 : decode cJ15_implMultiplyToLen 20 = .ok (.iadd, 1) := dk_96 (dk_at dksJ15_implMultiplyToLen_0 20 rfl rfl)
theorem dJ15_implMultiplyToLen_21 : decode cJ15_implMultiplyToLen 21 = .ok (.if_icmp .ge 10, 3) := dk_162 0 10 (dk_at dksJ15_implMultiplyToLen_0 21 rfl rfl)
theorem dJ15_implMultiplyToLen_24 : decode cJ15_implMultiplyToLen 24 = .ok (.iload_n 1, 1) := dk_27 (dk_at dksJ15_implMultiplyToLen_1 0 rfl rfl)
theorem dJ15_implMultiplyToLen_25 : decode cJ15_implMultiplyToLen 25 = .ok (.iload_n 3, 1) := dk_29 (dk_at dksJ15_implMultiplyToLen_1 1 rfl rfl)
theorem dJ15_implMultiplyToLen_26 : decode cJ15_implMultiplyToLen 26 = .ok (.iadd, 1) := dk_96 (dk_at dksJ15_implMultiplyToLen_1 2 rfl rfl)
theorem dJ15_implMultiplyToLen_27 : decode cJ15_implMultiplyToLen 27 = .ok (.newarray .int, 2) := dk_188_10 (dk_at dksJ15_implMultiplyToLen_1 3 rfl rfl)
theorem dJ15_implMultiplyToLen_29 : decode cJ15_implMultiplyToLen 29 = .ok (.astore 4, 2) := dk_58 4 (dk_at dksJ15_implMultiplyToLen_1 5 rfl rfl)
theorem dJ15_implMultiplyToLen_31 : decode cJ15_implMultiplyToLen 31 = .ok (.lconst 0, 1) := dk_9 (dk_at dksJ15_implMultiplyToLen_1 7 rfl rfl)
theorem dJ15_implMultiplyToLen_32 : decode cJ15_implMultiplyToLen 32 = .ok (.lstore 7, 2) := dk_55 7 (dk_at dksJ15_implMultiplyToLen_1 8 rfl rfl)
theorem dJ15_implMultiplyToLen_34 : decode cJ15_implMultiplyToLen 34 = .ok (.iload 6, 2) := dk_21 6 (dk_at dksJ15_implMultiplyToLen_1 10 rfl rfl)
theorem dJ15_implMultiplyToLen_36 : decode cJ15_implMultiplyToLen 36 = .ok (.istore 9, 2) := dk_54 9 (dk_at dksJ15_implMultiplyToLen_1 12 rfl rfl)
theorem dJ15_implMultiplyToLen_38 : decode cJ15_implMultiplyToLen 38 = .ok (.iload 6, 2) := dk_21 6 (dk_at dksJ15_implMultiplyToLen_1 14 rfl rfl)
theorem dJ15_implMultiplyToLen_40 : decode cJ15_implMultiplyToLen 40 = .ok (.iconst 1, 1) := dk_4 (dk_at dksJ15_implMultiplyToLen_1 16 rfl rfl)
theorem dJ15_implMultiplyToLen_41 : decode cJ15_implMultiplyToLen 41 = .ok (.iadd, 1) := dk_96 (dk_at dksJ15_implMultiplyToLen_1 17 rfl rfl)
theorem dJ15_implMultiplyToLen_42 : decode cJ15_implMultiplyToLen 42 = .ok (.iload 5, 2) := dk_21 5 (dk_at dksJ15_implMultiplyToLen_1 18 rfl rfl)
theorem dJ15_implMultiplyToLen_44 : decode cJ15_implMultiplyToLen 44 = .ok (.iadd, 1) := dk_96 (dk_at dksJ15_implMultiplyToLen_1 20 rfl rfl)
theorem dJ15_implMultiplyToLen_45 : decode cJ15_implMultiplyToLen 45 = .ok (.istore 10, 2) := dk_54 10 (dk_at dksJ15_implMultiplyToLen_1 21 rfl rfl)
theorem dJ15_implMultiplyToLen_47 : decode cJ15_implMultiplyToLen 47 = .ok (.iload 9, 2) := dk_21 9 (dk_at dksJ15_implMultiplyToLen_2 0 rfl rfl)
theorem dJ15_implMultiplyToLen_49 : decode cJ15_implMultiplyToLen 49 = .ok (.ifCond .lt 51, 3) := dk_155 0 51 (dk_at dksJ15_implMultiplyToLen_2 2 rfl rfl)
theorem dJ15_implMultiplyToLen_52 : decode cJ15_implMultiplyToLen 52 = .ok (.aload_n 2, 1) := dk_44 (dk_at dksJ15_implMultiplyToLen_2 5 rfl rfl)
theorem dJ15_implMultiplyToLen_53 : decode cJ15_implMultiplyToLen 53 = .ok (.iload 9, 2) := dk_21 9 (dk_at dksJ15_implMultiplyToLen_2 6 rfl rfl)
theorem dJ15_implMultiplyToLen_55 : decode cJ15_implMultiplyToLen 55 = .ok (.iaload, 1) := dk_46 (dk_at dksJ15_implMultiplyToLen_2 8 rfl rfl)
theorem dJ15_implMultiplyToLen_56 : decode cJ15_implMultiplyToLen 56 = .ok (.i2l, 1) := dk_133 (dk_at dksJ15_implMultiplyToLen_2 9 rfl rfl)
theorem dJ15_implMultiplyToLen_57 : decode cJ15_implMultiplyToLen 57 = .ok (.ldc2_w 130, 3) := dk_20 0 130 (dk_at dksJ15_implMultiplyToLen_2 10 rfl rfl)
theorem dJ15_implMultiplyToLen_60 : decode cJ15_implMultiplyToLen 60 = .ok (.land, 1) := dk_127 (dk_at dksJ15_implMultiplyToLen_2 13 rfl rfl)
theorem dJ15_implMultiplyToLen_61 : decode cJ15_implMultiplyToLen 61 = .ok (.aload_n 0, 1) := dk_42 (dk_at dksJ15_implMultiplyToLen_2 14 rfl rfl)
theorem dJ15_implMultiplyToLen_62 : decode cJ15_implMultiplyToLen 62 = .ok (.iload 5, 2) := dk_21 5 (dk_at dksJ15_implMultiplyToLen_2 15 rfl rfl)
theorem dJ15_implMultiplyToLen_64 : decode cJ15_implMultiplyToLen 64 = .ok (.iaload, 1) := dk_46 (dk_at dksJ15_implMultiplyToLen_2 17 rfl rfl)
theorem dJ15_implMultiplyToLen_65 : decode cJ15_implMultiplyToLen 65 = .ok (.i2l, 1) := dk_133 (dk_at dksJ15_implMultiplyToLen_2 18 rfl rfl)
theorem dJ15_implMultiplyToLen_66 : decode cJ15_implMultiplyToLen 66 = .ok (.ldc2_w 130, 3) := dk_20 0 130 (dk_at dksJ15_implMultiplyToLen_2 19 rfl rfl)
theorem dJ15_implMultiplyToLen_69 : decode cJ15_implMultiplyToLen 69 = .ok (.land, 1) := dk_127 (dk_at dksJ15_implMultiplyToLen_2 22 rfl rfl)
theorem dJ15_implMultiplyToLen_70 : decode cJ15_implMultiplyToLen 70 = .ok (.lmul, 1) := dk_105 (dk_at dksJ15_implMultiplyToLen_2 23 rfl rfl)
theorem dJ15_implMultiplyToLen_71 : decode cJ15_implMultiplyToLen 71 = .ok (.lload 7, 2) := dk_22 7 (dk_at dksJ15_implMultiplyToLen_3 0 rfl rfl)
theorem dJ15_implMultiplyToLen_73 : decode cJ15_implMultiplyToLen 73 = .ok (.ladd, 1) := dk_97 (dk_at dksJ15_implMultiplyToLen_3 2 rfl rfl)
theorem dJ15_implMultiplyToLen_74 : decode cJ15_implMultiplyToLen 74 = .ok (.lstore 11, 2) := dk_55 11 (dk_at dksJ15_implMultiplyToLen_3 3 rfl rfl)
theorem dJ15_implMultiplyToLen_76 : decode cJ15_implMultiplyToLen 76 = .ok (.aload 4, 2) := dk_25 4 (dk_at dksJ15_implMultiplyToLen_3 5 rfl rfl)
theorem dJ15_implMultiplyToLen_78 : decode cJ15_implMultiplyToLen 78 = .ok (.iload 10, 2) := dk_21 10 (dk_at dksJ15_implMultiplyToLen_3 7 rfl rfl)
theorem dJ15_implMultiplyToLen_80 : decode cJ15_implMultiplyToLen 80 = .ok (.lload 11, 2) := dk_22 11 (dk_at dksJ15_implMultiplyToLen_3 9 rfl rfl)
theorem dJ15_implMultiplyToLen_82 : decode cJ15_implMultiplyToLen 82 = .ok (.l2i, 1) := dk_136 (dk_at dksJ15_implMultiplyToLen_3 11 rfl rfl)
theorem dJ15_implMultiplyToLen_83 : decode cJ15_implMultiplyToLen 83 = .ok (.iastore, 1) := dk_79 (dk_at dksJ15_implMultiplyToLen_3 12 rfl rfl)
theorem dJ15_implMultiplyToLen_84 : decode cJ15_implMultiplyToLen 84 = .ok (.lload 11, 2) := dk_22 11 (dk_at dksJ15_implMultiplyToLen_3 13 rfl rfl)
theorem dJ15_implMultiplyToLen_86 : decode cJ15_implMultiplyToLen 86 = .ok (.bipush 32, 2) := dk_16 32 (dk_at dksJ15_implMultiplyToLen_3 15 rfl rfl)
theorem dJ15_implMultiplyToLen_88 : decode cJ15_implMultiplyToLen 88 = .ok (.lushr, 1) := dk_125 (dk_at dksJ15_implMultiplyToLen_3 17 rfl rfl)
theorem dJ15_implMultiplyToLen_89 : decode cJ15_implMultiplyToLen 89 = .ok (.lstore 7, 2) := dk_55 7 (dk_at dksJ15_implMultiplyToLen_3 18 rfl rfl)
theorem dJ15_implMultiplyToLen_91 : decode cJ15_implMultiplyToLen 91 = .ok (.iinc 9 (-1), 3) := dk_132 9 255 (dk_at dksJ15_implMultiplyToLen_3 20 rfl rfl)
theorem dJ15_implMultiplyToLen_94 : decode cJ15_implMultiplyToLen 94 = .ok (.iinc 10 (-1), 3) := dk_132 10 255 (dk_at dksJ15_implMultiplyToLen_4 0 rfl rfl)
theorem dJ15_implMultiplyToLen_97 : decode cJ15_implMultiplyToLen 97 = .ok (.goto (-50), 3) := dk_167 255 206 (dk_at dksJ15_implMultiplyToLen_4 3 rfl rfl)
theorem dJ15_implMultiplyToLen_100 : decode cJ15_implMultiplyToLen 100 = .ok (.aload 4, 2) := dk_25 4 (dk_at dksJ15_implMultiplyToLen_4 6 rfl rfl)
theorem dJ15_implMultiplyToLen_102 : decode cJ15_implMultiplyToLen 102 = .ok (.iload 5, 2) := dk_21 5 (dk_at dksJ15_implMultiplyToLen_4 8 rfl rfl)
theorem dJ15_implMultiplyToLen_104 : decode cJ15_implMultiplyToLen 104 = .ok (.lload 7, 2) := dk_22 7 (dk_at dksJ15_implMultiplyToLen_4 10 rfl rfl)
theorem dJ15_implMultiplyToLen_106 : decode cJ15_implMultiplyToLen 106 = .ok (.l2i, 1) := dk_136 (dk_at dksJ15_implMultiplyToLen_4 12 rfl rfl)
theorem dJ15_implMultiplyToLen_107 : decode cJ15_implMultiplyToLen 107 = .ok (.iastore, 1) := dk_79 (dk_at dksJ15_implMultiplyToLen_4 13 rfl rfl)
theorem dJ15_implMultiplyToLen_108 : decode cJ15_implMultiplyToLen 108 = .ok (.iload 5, 2) := dk_21 5 (dk_at dksJ15_implMultiplyToLen_4 14 rfl rfl)
theorem dJ15_implMultiplyToLen_110 : decode cJ15_implMultiplyToLen 110 = .ok (.iconst 1, 1) := dk_4 (dk_at dksJ15_implMultiplyToLen_4 16 rfl rfl)
theorem dJ15_implMultiplyToLen_111 : decode cJ15_implMultiplyToLen 111 = .ok (.isub, 1) := dk_100 (dk_at dksJ15_implMultiplyToLen_4 17 rfl rfl)
theorem dJ15_implMultiplyToLen_112 : decode cJ15_implMultiplyToLen 112 = .ok (.istore 9, 2) := dk_54 9 (dk_at dksJ15_implMultiplyToLen_4 18 rfl rfl)
theorem dJ15_implMultiplyToLen_114 : decode cJ15_implMultiplyToLen 114 = .ok (.iload 9, 2) := dk_21 9 (dk_at dksJ15_implMultiplyToLen_4 20 rfl rfl)
theorem dJ15_implMultiplyToLen_116 : decode cJ15_implMultiplyToLen 116 = .ok (.ifCond .lt 97, 3) := dk_155 0 97 (dk_at dksJ15_implMultiplyToLen_5 0 rfl rfl)
theorem dJ15_implMultiplyToLen_119 : decode cJ15_implMultiplyToLen 119 = .ok (.lconst 0, 1) := dk_9 (dk_at dksJ15_implMultiplyToLen_5 3 rfl rfl)
theorem dJ15_implMultiplyToLen_120 : decode cJ15_implMultiplyToLen 120 = .ok (.lstore 7, 2) := dk_55 7 (dk_at dksJ15_implMultiplyToLen_5 4 rfl rfl)
theorem dJ15_implMultiplyToLen_122 : decode cJ15_implMultiplyToLen 122 = .ok (.iload 6, 2) := dk_21 6 (dk_at dksJ15_implMultiplyToLen_5 6 rfl rfl)
theorem dJ15_implMultiplyToLen_124 : decode cJ15_implMultiplyToLen 124 = .ok (.istore 10, 2) := dk_54 10 (dk_at dksJ15_implMultiplyToLen_5 8 rfl rfl)
theorem dJ15_implMultiplyToLen_126 : decode cJ15_implMultiplyToLen 126 = .ok (.iload 6, 2) := dk_21 6 (dk_at dksJ15_implMultiplyToLen_5 10 rfl rfl)
theorem dJ15_implMultiplyToLen_128 : decode cJ15_implMultiplyToLen 128 = .ok (.iconst 1, 1) := dk_4 (dk_at dksJ15_implMultiplyToLen_5 12 rfl rfl)
theorem dJ15_implMultiplyToLen_129 : decode cJ15_implMultiplyToLen 129 = .ok (.iadd, 1) := dk_96 (dk_at dksJ15_implMultiplyToLen_5 13 rfl rfl)
theorem dJ15_implMultiplyToLen_130 : decode cJ15_implMultiplyToLen 130 = .ok (.iload 9, 2) := dk_21 9 (dk_at dksJ15_implMultiplyToLen_5 14 rfl rfl)
theorem dJ15_implMultiplyToLen_132 : decode cJ15_implMultiplyToLen 132 = .ok (.iadd, 1) := dk_96 (dk_at dksJ15_implMultiplyToLen_5 16 rfl rfl)
theorem dJ15_implMultiplyToLen_133 : decode cJ15_implMultiplyToLen 133 = .ok (.istore 11, 2) := dk_54 11 (dk_at dksJ15_implMultiplyToLen_5 17 rfl rfl)
theorem dJ15_implMultiplyToLen_135 : decode cJ15_implMultiplyToLen 135 = .ok (.iload 10, 2) := dk_21 10 (dk_at dksJ15_implMultiplyToLen_5 19 rfl rfl)
theorem dJ15_implMultiplyToLen_137 : decode cJ15_implMultiplyToLen 137 = .ok (.ifCond .lt 62, 3) := dk_155 0 62 (dk_at dksJ15_implMultiplyToLen_5 21 rfl rfl)
theorem dJ15_implMultiplyToLen_140 : decode cJ15_implMultiplyToLen 140 = .ok (.aload_n 2, 1) := dk_44 (dk_at dksJ15_implMultiplyToLen_6 0 rfl rfl)
theorem dJ15_implMultiplyToLen_141 : decode cJ15_implMultiplyToLen 141 = .ok (.iload 10, 2) := dk_21 10 (dk_at dksJ15_implMultiplyToLen_6 1 rfl rfl)
theorem dJ15_implMultiplyToLen_143 : decode cJ15_implMultiplyToLen 143 = .ok (.iaload, 1) := dk_46 (dk_at dksJ15_implMultiplyToLen_6 3 rfl rfl)
theorem dJ15_implMultiplyToLen_144 : decode cJ15_implMultiplyToLen 144 = .ok (.i2l, 1) := dk_133 (dk_at dksJ15_implMultiplyToLen_6 4 rfl rfl)
theorem dJ15_implMultiplyToLen_145 : decode cJ15_implMultiplyToLen 145 = .ok (.ldc2_w 130, 3) := dk_20 0 130 (dk_at dksJ15_implMultiplyToLen_6 5 rfl rfl)
theorem dJ15_implMultiplyToLen_148 : decode cJ15_implMultiplyToLen 148 = .ok (.land, 1) := dk_127 (dk_at dksJ15_implMultiplyToLen_6 8 rfl rfl)
theorem dJ15_implMultiplyToLen_149 : decode cJ15_implMultiplyToLen 149 = .ok (.aload_n 0, 1) := dk_42 (dk_at dksJ15_implMultiplyToLen_6 9 rfl rfl)
theorem dJ15_implMultiplyToLen_150 : decode cJ15_implMultiplyToLen 150 = .ok (.iload 9, 2) := dk_21 9 (dk_at dksJ15_implMultiplyToLen_6 10 rfl rfl)
theorem dJ15_implMultiplyToLen_152 : decode cJ15_implMultiplyToLen 152 = .ok (.iaload, 1) := dk_46 (dk_at dksJ15_implMultiplyToLen_6 12 rfl rfl)
theorem dJ15_implMultiplyToLen_153 : decode cJ15_implMultiplyToLen 153 = .ok (.i2l, 1) := dk_133 (dk_at dksJ15_implMultiplyToLen_6 13 rfl rfl)
theorem dJ15_implMultiplyToLen_154 : decode cJ15_implMultiplyToLen 154 = .ok (.ldc2_w 130, 3) := dk_20 0 130 (dk_at dksJ15_implMultiplyToLen_6 14 rfl rfl)
theorem dJ15_implMultiplyToLen_157 : decode cJ15_implMultiplyToLen 157 = .ok (.land, 1) := dk_127 (dk_at dksJ15_implMultiplyToLen_6 17 rfl rfl)
theorem dJ15_implMultiplyToLen_158 : decode cJ15_implMultiplyToLen 158 = .ok (.lmul, 1) := dk_105 (dk_at dksJ15_implMultiplyToLen_6 18 rfl rfl)
theorem dJ15_implMultiplyToLen_159 : decode cJ15_implMultiplyToLen 159 = .ok (.aload 4, 2) := dk_25 4 (dk_at dksJ15_implMultiplyToLen_6 19 rfl rfl)
theorem dJ15_implMultiplyToLen_161 : decode cJ15_implMultiplyToLen 161 = .ok (.iload 11, 2) := dk_21 11 (dk_at dksJ15_implMultiplyToLen_6 21 rfl rfl)
theorem dJ15_implMultiplyToLen_163 : decode cJ15_implMultiplyToLen 163 = .ok (.iaload, 1) := dk_46 (dk_at dksJ15_implMultiplyToLen_6 23 rfl rfl)
theorem dJ15_implMultiplyToLen_164 : decode cJ15_implMultiplyToLen 164 = .ok (.i2l, 1) := dk_133 (dk_at dksJ15_implMultiplyToLen_7 0 rfl rfl)
theorem dJ15_implMultiplyToLen_165 : decode cJ15_implMultiplyToLen 165 = .ok (.ldc2_w 130, 3) := dk_20 0 130 (dk_at dksJ15_implMultiplyToLen_7 1 rfl rfl)
theorem dJ15_implMultiplyToLen_168 : decode cJ15_implMultiplyToLen 168 = .ok (.land, 1) := dk_127 (dk_at dksJ15_implMultiplyToLen_7 4 rfl rfl)
theorem dJ15_implMultiplyToLen_169 : decode cJ15_implMultiplyToLen 169 = .ok (.ladd, 1) := dk_97 (dk_at dksJ15_implMultiplyToLen_7 5 rfl rfl)
theorem dJ15_implMultiplyToLen_170 : decode cJ15_implMultiplyToLen 170 = .ok (.lload 7, 2) := dk_22 7 (dk_at dksJ15_implMultiplyToLen_7 6 rfl rfl)
theorem dJ15_implMultiplyToLen_172 : decode cJ15_implMultiplyToLen 172 = .ok (.ladd, 1) := dk_97 (dk_at dksJ15_implMultiplyToLen_7 8 rfl rfl)
theorem dJ15_implMultiplyToLen_173 : decode cJ15_implMultiplyToLen 173 = .ok (.lstore 12, 2) := dk_55 12 (dk_at dksJ15_implMultiplyToLen_7 9 rfl rfl)
theorem dJ15_implMultiplyToLen_175 : decode cJ15_implMultiplyToLen 175 = .ok (.aload 4, 2) := dk_25 4 (dk_at dksJ15_implMultiplyToLen_7 11 rfl rfl)
theorem dJ15_implMultiplyToLen_177 : decode cJ15_implMultiplyToLen 177 = .ok (.iload 11, 2) := dk_21 11 (dk_at dksJ15_implMultiplyToLen_7 13 rfl rfl)
theorem dJ15_implMultiplyToLen_179 : decode cJ15_implMultiplyToLen 179 = .ok (.lload 12, 2) := dk_22 12 (dk_at dksJ15_implMultiplyToLen_7 15 rfl rfl)
theorem dJ15_implMultiplyToLen_181 : decode cJ15_implMultiplyToLen 181 = .ok (.l2i, 1) := dk_136 (dk_at dksJ15_implMultiplyToLen_7 17 rfl rfl)
theorem dJ15_implMultiplyToLen_182 : decode cJ15_implMultiplyToLen 182 = .ok (.iastore, 1) := dk_79 (dk_at dksJ15_implMultiplyToLen_7 18 rfl rfl)
theorem dJ15_implMultiplyToLen_183 : decode cJ15_implMultiplyToLen 183 = .ok (.lload 12, 2) := dk_22 12 (dk_at dksJ15_implMultiplyToLen_7 19 rfl rfl)
theorem dJ15_implMultiplyToLen_185 : decode cJ15_implMultiplyToLen 185 = .ok (.bipush 32, 2) := dk_16 32 (dk_at dksJ15_implMultiplyToLen_7 21 rfl rfl)
theorem dJ15_implMultiplyToLen_187 : decode cJ15_implMultiplyToLen 187 = .ok (.lushr, 1) := dk_125 (dk_at dksJ15_implMultiplyToLen_7 23 rfl rfl)
theorem dJ15_implMultiplyToLen_188 : decode cJ15_implMultiplyToLen 188 = .ok (.lstore 7, 2) := dk_55 7 (dk_at dksJ15_implMultiplyToLen_8 0 rfl rfl)
theorem dJ15_implMultiplyToLen_190 : decode cJ15_implMultiplyToLen 190 = .ok (.iinc 10 (-1), 3) := dk_132 10 255 (dk_at dksJ15_implMultiplyToLen_8 2 rfl rfl)
theorem dJ15_implMultiplyToLen_193 : decode cJ15_implMultiplyToLen 193 = .ok (.iinc 11 (-1), 3) := dk_132 11 255 (dk_at dksJ15_implMultiplyToLen_8 5 rfl rfl)
theorem dJ15_implMultiplyToLen_196 : decode cJ15_implMultiplyToLen 196 = .ok (.goto (-61), 3) := dk_167 255 195 (dk_at dksJ15_implMultiplyToLen_8 8 rfl rfl)
theorem dJ15_implMultiplyToLen_199 : decode cJ15_implMultiplyToLen 199 = .ok (.aload 4, 2) := dk_25 4 (dk_at dksJ15_implMultiplyToLen_8 11 rfl rfl)
theorem dJ15_implMultiplyToLen_201 : decode cJ15_implMultiplyToLen 201 = .ok (.iload 9, 2) := dk_21 9 (dk_at dksJ15_implMultiplyToLen_8 13 rfl rfl)
theorem dJ15_implMultiplyToLen_203 : decode cJ15_implMultiplyToLen 203 = .ok (.lload 7, 2) := dk_22 7 (dk_at dksJ15_implMultiplyToLen_8 15 rfl rfl)
theorem dJ15_implMultiplyToLen_205 : decode cJ15_implMultiplyToLen 205 = .ok (.l2i, 1) := dk_136 (dk_at dksJ15_implMultiplyToLen_8 17 rfl rfl)
theorem dJ15_implMultiplyToLen_206 : decode cJ15_implMultiplyToLen 206 = .ok (.iastore, 1) := dk_79 (dk_at dksJ15_implMultiplyToLen_8 18 rfl rfl)
theorem dJ15_implMultiplyToLen_207 : decode cJ15_implMultiplyToLen 207 = .ok (.iinc 9 (-1), 3) := dk_132 9 255 (dk_at dksJ15_implMultiplyToLen_8 19 rfl rfl)
theorem dJ15_implMultiplyToLen_210 : decode cJ15_implMultiplyToLen 210 = .ok (.goto (-96), 3) := dk_167 255 160 (dk_at dksJ15_implMultiplyToLen_9 0 rfl rfl)
theorem dJ15_implMultiplyToLen_213 : decode cJ15_implMultiplyToLen 213 = .ok (.aload 4, 2) := dk_25 4 (dk_at dksJ15_implMultiplyToLen_9 3 rfl rfl)
theorem dJ15_implMultiplyToLen_215 : decode cJ15_implMultiplyToLen 215 = .ok (.areturn, 1) := dk_176 (dk_at dksJ15_implMultiplyToLen_9 5 rfl rfl)
abbrev cJ15_multiplyKaratsuba : ByteArray := prog_27_method_48_code
def yJ15_multiplyKaratsuba : MethodName := ⟨RJ15, "multiplyKaratsuba", "(Ljava/math/BigInteger;Ljava/math/BigInteger;)Ljava/math/BigInteger;"⟩
def dkwJ15_multiplyKaratsuba_6 : List UInt8 := [159, 0, 9, 25, 12, 182, 1, 138, 176, 25, 12, 176]
abbrev dktJ15_multiplyKaratsuba_6 : List UInt8 := dkwJ15_multiplyKaratsuba_6 ++ []
def dkwJ15_multiplyKaratsuba_5 : List UInt8 := [16, 32, 21, 4, 104, 182, 1, 209, 25, 10, 182, 0, 239, 58, 12, 42, 180, 0, 32, 43, 180, 0, 32]
abbrev dktJ15_multiplyKaratsuba_5 : List UInt8 := dkwJ15_multiplyKaratsuba_5 ++ dktJ15_multiplyKaratsuba_6
def dkwJ15_multiplyKaratsuba_4 : List UInt8 := [16, 32, 21, 4, 104, 182, 1, 209, 25, 11, 25, 9, 182, 1, 16, 25, 10, 182, 1, 16, 182, 0, 239]
abbrev dktJ15_multiplyKaratsuba_4 : List UInt8 := dkwJ15_multiplyKaratsuba_4 ++ dktJ15_multiplyKaratsuba_5
def dkwJ15_multiplyKaratsuba_3 : List UInt8 := [58, 10, 25, 6, 25, 5, 182, 0, 239, 25, 8, 25, 7, 182, 0, 239, 182, 1, 60, 58, 11, 25, 9]
abbrev dktJ15_multiplyKaratsuba_3 : List UInt8 := dkwJ15_multiplyKaratsuba_3 ++ dktJ15_multiplyKaratsuba_4
def dkwJ15_multiplyKaratsuba_2 : List UInt8 := [21, 4, 182, 1, 206, 58, 8, 25, 6, 25, 8, 182, 1, 60, 58, 9, 25, 5, 25, 7, 182, 1, 60]
abbrev dktJ15_multiplyKaratsuba_2 : List UInt8 := dkwJ15_multiplyKaratsuba_2 ++ dktJ15_multiplyKaratsuba_3
def dkwJ15_multiplyKaratsuba_1 : List UInt8 := [21, 4, 182, 1, 203, 58, 5, 42, 21, 4, 182, 1, 206, 58, 6, 43, 21, 4, 182, 1, 203, 58, 7, 43]
abbrev dktJ15_multiplyKaratsuba_1 : List UInt8 := dkwJ15_multiplyKaratsuba_1 ++ dktJ15_multiplyKaratsuba_2
def dkwJ15_multiplyKaratsuba_0 : List UInt8 := [42, 180, 0, 28, 190, 61, 43, 180, 0, 28, 190, 62, 28, 29, 184, 1, 200, 4, 96, 5, 108, 54, 4, 42]
abbrev dktJ15_multiplyKaratsuba_0 : List UInt8 := dkwJ15_multiplyKaratsuba_0 ++ dktJ15_multiplyKaratsuba_1
theorem dksJ15_multiplyKaratsuba_0 : cJ15_multiplyKaratsuba.data.toList.drop 0 = dktJ15_multiplyKaratsuba_0 := by decide +kernel
theorem dksJ15_multiplyKaratsuba_1 : cJ15_multiplyKaratsuba.data.toList.drop 24 = dktJ15_multiplyKaratsuba_1 := dk_seg dksJ15_multiplyKaratsuba_0 24 rfl rfl
theorem dksJ15_multiplyKaratsuba_2 : cJ15_multiplyKaratsuba.data.toList.drop 48 = dktJ15_multiplyKaratsuba_2 := dk_seg dksJ15_multiplyKaratsuba_1 24 rfl rfl
theorem dksJ15_multiplyKaratsuba_3 : cJ15_multiplyKaratsuba.data.toList.drop 71 = dktJ15_multiplyKaratsuba_3 := dk_seg dksJ15_multiplyKaratsuba_2 23 rfl rfl
theorem dksJ15_multiplyKaratsuba_4 : cJ15_multiplyKaratsuba.data.toList.drop 94 = dktJ15_multiplyKaratsuba_4 := dk_seg dksJ15_multiplyKaratsuba_3 23 rfl rfl
theorem dksJ15_multiplyKaratsuba_5 : cJ15_multiplyKaratsuba.data.toList.drop 117 = dktJ15_multiplyKaratsuba_5 := dk_seg dksJ15_multiplyKaratsuba_4 23 rfl rfl
theorem dksJ15_multiplyKaratsuba_6 : cJ15_multiplyKaratsuba.data.toList.drop 140 = dktJ15_multiplyKaratsuba_6 := dk_seg dksJ15_multiplyKaratsuba_5 23 rfl rfl
theorem dJ15_multiplyKaratsuba_0 : decode cJ15_multiplyKaratsuba 0 = .ok (.aload_n 0, 1) := dk_42 (dk_at dksJ15_multiplyKaratsuba_0 0 rfl rfl)
theorem dJ15_multiplyKaratsuba_1 : decode cJ15_multiplyKaratsuba 1 = .ok (.getfield 28, 3) := dk_180 0 28 (dk_at dksJ15_multiplyKaratsuba_0 1 rfl rfl)
theorem dJ15_multiplyKaratsuba_4 : decode cJ15_multiplyKaratsuba 4 = .ok (.arraylength, 1) := dk_190 (dk_at dksJ15_multiplyKaratsuba_0 4 rfl rfl)
theorem dJ15_multiplyKaratsuba_5 : decode cJ15_multiplyKaratsuba 5 = .ok (.istore_n 2, 1) := dk_61 (dk_at dksJ15_multiplyKaratsuba_0 5 rfl rfl)
theorem dJ15_multiplyKaratsuba_6 : decode cJ15_multiplyKaratsuba 6 = .ok (.aload_n 1, 1) := dk_43 (dk_at dksJ15_multiplyKaratsuba_0 6 rfl rfl)
theorem dJ15_multiplyKaratsuba_7 : decode cJ15_multiplyKaratsuba 7 = .ok (.getfield 28, 3) := dk_180 0 28 (dk_at dksJ15_multiplyKaratsuba_0 7 rfl rfl)
theorem dJ15_multiplyKaratsuba_10 : decode cJ15_multiplyKaratsuba 10 = .ok (.arraylength, 1) := dk_190 (dk_at dksJ15_multiplyKaratsuba_0 10 rfl rfl)
theorem dJ15_multiplyKaratsuba_11 : decode cJ15_multiplyKaratsuba 11 = .ok (.istore_n 3, 1) := dk_62 (dk_at dksJ15_multiplyKaratsuba_0 11 rfl rfl)
theorem dJ15_multiplyKaratsuba_12 : decode cJ15_multiplyKaratsuba 12 = .ok (.iload_n 2, 1) := dk_28 (dk_at dksJ15_multiplyKaratsuba_0 12 rfl rfl)
theorem dJ15_multiplyKaratsuba_13 : decode cJ15_multiplyKaratsuba 13 = .ok (.iload_n 3, 1) := dk_29 (dk_at dksJ15_multiplyKaratsuba_0 13 rfl rfl)
theorem dJ15_multiplyKaratsuba_14 : decode cJ15_multiplyKaratsuba 14 = .ok (.invokestatic 456, 3) := dk_184 1 200 (dk_at dksJ15_multiplyKaratsuba_0 14 rfl rfl)
theorem dJ15_multiplyKaratsuba_17 : decode cJ15_multiplyKaratsuba 17 = .ok (.iconst 1, 1) := dk_4 (dk_at dksJ15_multiplyKaratsuba_0 17 rfl rfl)
theorem dJ15_multiplyKaratsuba_18 : decode cJ15_multiplyKaratsuba 18 = .ok (.iadd, 1) := dk_96 (dk_at dksJ15_multiplyKaratsuba_0 18 rfl rfl)
theorem dJ15_multiplyKaratsuba_19 : decode cJ15_multiplyKaratsuba 19 = .ok (.iconst 2, 1) := dk_5 (dk_at dksJ15_multiplyKaratsuba_0 19 rfl rfl)
theorem dJ15_multiplyKaratsuba_20 : decode cJ15_multiplyKaratsuba 20 = .ok (.idiv, 1) := dk_108 (dk_at dksJ15_multiplyKaratsuba_0 20 rfl rfl)
theorem dJ15_multiplyKaratsuba_21 : decode cJ15_multiplyKaratsuba 21 = .ok (.istore 4, 2) := dk_54 4 (dk_at dksJ15_multiplyKaratsuba_0 21 rfl rfl)
theorem dJ15_multiplyKaratsuba_23 : decode cJ15_multiplyKaratsuba 23 = .ok (.aload_n 0, 1) := dk_42 (dk_at dksJ15_multiplyKaratsuba_0 23 rfl rfl)
theorem dJ15_multiplyKaratsuba_24 : decode cJ15_multiplyKaratsuba 24 = .ok (.iload 4, 2) := dk_21 4 (dk_at dksJ15_multiplyKaratsuba_1 0 rfl rfl)
theorem dJ15_multiplyKaratsuba_26 : decode cJ15_multiplyKaratsuba 26 = .ok (.invokevirtual 459, 3) := dk_182 1 203 (dk_at dksJ15_multiplyKaratsuba_1 2 rfl rfl)
theorem dJ15_multiplyKaratsuba_29 : decode cJ15_multiplyKaratsuba 29 = .ok (.astore 5, 2) := dk_58 5 (dk_at dksJ15_multiplyKaratsuba_1 5 rfl rfl)
theorem dJ15_multiplyKaratsuba_31 : decode cJ15_multiplyKaratsuba 31 = .ok (.aload_n 0, 1) := dk_42 (dk_at dksJ15_multiplyKaratsuba_1 7 rfl rfl)
theorem dJ15_multiplyKaratsuba_32 : decode cJ15_multiplyKaratsuba 32 = .ok (.iload 4, 2) := dk_21 4 (dk_at dksJ15_multiplyKaratsuba_1 8 rfl rfl)
theorem dJ15_multiplyKaratsuba_34 : decode cJ15_multiplyKaratsuba 34 = .ok (.invokevirtual 462, 3) := dk_182 1 206 (dk_at dksJ15_multiplyKaratsuba_1 10 rfl rfl)
theorem dJ15_multiplyKaratsuba_37 : decode cJ15_multiplyKaratsuba 37 = .ok (.astore 6, 2) := dk_58 6 (dk_at dksJ15_multiplyKaratsuba_1 13 rfl rfl)
theorem dJ15_multiplyKaratsuba_39 : decode cJ15_multiplyKaratsuba 39 = .ok (.aload_n 1, 1) := dk_43 (dk_at dksJ15_multiplyKaratsuba_1 15 rfl rfl)
theorem dJ15_multiplyKaratsuba_40 : decode cJ15_multiplyKaratsuba 40 = .ok (.iload 4, 2) := dk_21 4 (dk_at dksJ15_multiplyKaratsuba_1 16 rfl rfl)
theorem dJ15_multiplyKaratsuba_42 : decode cJ15_multiplyKaratsuba 42 = .ok (.invokevirtual 459, 3) := dk_182 1 203 (dk_at dksJ15_multiplyKaratsuba_1 18 rfl rfl)
theorem dJ15_multiplyKaratsuba_45 : decode cJ15_multiplyKaratsuba 45 = .ok (.astore 7, 2) := dk_58 7 (dk_at dksJ15_multiplyKaratsuba_1 21 rfl rfl)
theorem dJ15_multiplyKaratsuba_47 : decode cJ15_multiplyKaratsuba 47 = .ok (.aload_n 1, 1) := dk_43 (dk_at dksJ15_multiplyKaratsuba_1 23 rfl rfl)
theorem dJ15_multiplyKaratsuba_48 : decode cJ15_multiplyKaratsuba 48 = .ok (.iload 4, 2) := dk_21 4 (dk_at dksJ15_multiplyKaratsuba_2 0 rfl rfl)
theorem dJ15_multiplyKaratsuba_50 : decode cJ15_multiplyKaratsuba 50 = .ok (.invokevirtual 462, 3) := dk_182 1 206 (dk_at dksJ15_multiplyKaratsuba_2 2 rfl rfl)
theorem dJ15_multiplyKaratsuba_53 : decode cJ15_multiplyKaratsuba 53 = .ok (.astore 8, 2) := dk_58 8 (dk_at dksJ15_multiplyKaratsuba_2 5 rfl rfl)
theorem dJ15_multiplyKaratsuba_55 : decode cJ15_multiplyKaratsuba 55 = .ok (.aload 6, 2) := dk_25 6 (dk_at dksJ15_multiplyKaratsuba_2 7 rfl rfl)
theorem dJ15_multiplyKaratsuba_57 : decode cJ15_multiplyKaratsuba 57 = .ok (.aload 8, 2) := dk_25 8 (dk_at dksJ15_multiplyKaratsuba_2 9 rfl rfl)
theorem dJ15_multiplyKaratsuba_59 : decode cJ15_multiplyKaratsuba 59 = .ok (.invokevirtual 316, 3) := dk_182 1 60 (dk_at dksJ15_multiplyKaratsuba_2 11 rfl rfl)
theorem dJ15_multiplyKaratsuba_62 : decode cJ15_multiplyKaratsuba 62 = .ok (.astore 9, 2) := dk_58 9 (dk_at dksJ15_multiplyKaratsuba_2 14 rfl rfl)
theorem dJ15_multiplyKaratsuba_64 : decode cJ15_multiplyKaratsuba 64 = .ok (.aload 5, 2) := dk_25 5 (dk_at dksJ15_multiplyKaratsuba_2 16 rfl rfl)
theorem dJ15_multiplyKaratsuba_66 : decode cJ15_multiplyKaratsuba 66 = .ok (.aload 7, 2) := dk_25 7 (dk_at dksJ15_multiplyKaratsuba_2 18 rfl rfl)
theorem dJ15_multiplyKaratsuba_68 : decode cJ15_multiplyKaratsuba 68 = .ok (.invokevirtual 316, 3) := dk_182 1 60 (dk_at dksJ15_multiplyKaratsuba_2 20 rfl rfl)
theorem dJ15_multiplyKaratsuba_71 : decode cJ15_multiplyKaratsuba 71 = .ok (.astore 10, 2) := dk_58 10 (dk_at dksJ15_multiplyKaratsuba_3 0 rfl rfl)
theorem dJ15_multiplyKaratsuba_73 : decode cJ15_multiplyKaratsuba 73 = .ok (.aload 6, 2) := dk_25 6 (dk_at dksJ15_multiplyKaratsuba_3 2 rfl rfl)
theorem dJ15_multiplyKaratsuba_75 : decode cJ15_multiplyKaratsuba 75 = .ok (.aload 5, 2) := dk_25 5 (dk_at dksJ15_multiplyKaratsuba_3 4 rfl rfl)
theorem dJ15_multiplyKaratsuba_77 : decode cJ15_multiplyKaratsuba 77 = .ok (.invokevirtual 239, 3) := dk_182 0 239 (dk_at dksJ15_multiplyKaratsuba_3 6 rfl rfl)
theorem dJ15_multiplyKaratsuba_80 : decode cJ15_multiplyKaratsuba 80 = .ok (.aload 8, 2) := dk_25 8 (dk_at dksJ15_multiplyKaratsuba_3 9 rfl rfl)
theorem dJ15_multiplyKaratsuba_82 : decode cJ15_multiplyKaratsuba 82 = .ok (.aload 7, 2) := dk_25 7 (dk_at dksJ15_multiplyKaratsuba_3 11 rfl rfl)
theorem dJ15_multiplyKaratsuba_84 : decode cJ15_multiplyKaratsuba 84 = .ok (.invokevirtual 239, 3) := dk_182 0 239 (dk_at dksJ15_multiplyKaratsuba_3 13 rfl rfl)
theorem dJ15_multiplyKaratsuba_87 : decode cJ15_multiplyKaratsuba 87 = .ok (.invokevirtual 316, 3) := dk_182 1 60 (dk_at dksJ15_multiplyKaratsuba_3 16 rfl rfl)
theorem dJ15_multiplyKaratsuba_90 : decode cJ15_multiplyKaratsuba 90 = .ok (.astore 11, 2) := dk_58 11 (dk_at dksJ15_multiplyKaratsuba_3 19 rfl rfl)
theorem dJ15_multiplyKaratsuba_92 : decode cJ15_multiplyKaratsuba 92 = .ok (.aload 9, 2) := dk_25 9 (dk_at dksJ15_multiplyKaratsuba_3 21 rfl rfl)
theorem dJ15_multiplyKaratsuba_94 : decode cJ15_multiplyKaratsuba 94 = .ok (.bipush 32, 2) := dk_16 32 (dk_at dksJ15_multiplyKaratsuba_4 0 rfl rfl)
theorem dJ15_multiplyKaratsuba_96 : decode cJ15_multiplyKaratsuba 96 = .ok (.iload 4, 2) := dk_21 4 (dk_at dksJ15_multiplyKaratsuba_4 2 rfl rfl)
theorem dJ15_multiplyKaratsuba_98 : decode cJ15_multiplyKaratsuba 98 = .ok (.imul, 1) := dk_104 (dk_at dksJ15_multiplyKaratsuba_4 4 rfl rfl)
theorem dJ15_multiplyKaratsuba_99 : decode cJ15_multiplyKaratsuba 99 = .ok (.invokevirtual 465, 3) := dk_182 1 209 (dk_at dksJ15_multiplyKaratsuba_4 5 rfl rfl)
theorem dJ15_multiplyKaratsuba_102 : decode cJ15_multiplyKaratsuba 102 = .ok (.aload 11, 2) := dk_25 11 (dk_at dksJ15_multiplyKaratsuba_4 8 rfl rfl)
theorem dJ15_multiplyKaratsuba_104 : decode cJ15_multiplyKaratsuba 104 = .ok (.aload 9, 2) := dk_25 9 (dk_at dksJ15_multiplyKaratsuba_4 10 rfl rfl)
theorem dJ15_multiplyKaratsuba_106 : decode cJ15_multiplyKaratsuba 106 = .ok (.invokevirtual 272, 3) := dk_182 1 16 (dk_at dksJ15_multiplyKaratsuba_4 12 rfl rfl)
theorem dJ15_multiplyKaratsuba_109 : decode cJ15_multiplyKaratsuba 109 = .ok (.aload 10, 2) := dk_25 10 (dk_at dksJ15_multiplyKaratsuba_4 15 rfl rfl)
theorem dJ15_multiplyKaratsuba_111 : decode cJ15_multiplyKaratsuba 111 = .ok (.invokevirtual 272, 3) := dk_182 1 16 (dk_at dksJ15_multiplyKaratsuba_4 17 rfl rfl)
theorem dJ15_multiplyKaratsuba_114 : decode cJ15_multiplyKaratsuba 114 = .ok (.invokevirtual 239, 3) := dk_182 0 239 (dk_at dksJ15_multiplyKaratsuba_4 20 rfl rfl)
theorem dJ15_multiplyKaratsuba_117 : decode cJ15_multiplyKaratsuba 117 = .ok (.bipush 32, 2) := dk_16 32 (dk_at dksJ15_multiplyKaratsuba_5 0 rfl rfl)
theorem dJ15_multiplyKaratsuba_119 : decode cJ15_multiplyKaratsuba 119 = .ok (.iload 4, 2) := dk_21 4 (dk_at dksJ15_multiplyKaratsuba_5 2 rfl rfl)
theorem dJ15_multiplyKaratsuba_121 : decode cJ15_multiplyKaratsuba 121 = .ok (.imul, 1) := dk_104 (dk_at dksJ15_multiplyKaratsuba_5 4 rfl rfl)
theorem dJ15_multiplyKaratsuba_122 : decode cJ15_multiplyKaratsuba 122 = .ok (.invokevirtual 465, 3) := dk_182 1 209 (dk_at dksJ15_multiplyKaratsuba_5 5 rfl rfl)
theorem dJ15_multiplyKaratsuba_125 : decode cJ15_multiplyKaratsuba 125 = .ok (.aload 10, 2) := dk_25 10 (dk_at dksJ15_multiplyKaratsuba_5 8 rfl rfl)
theorem dJ15_multiplyKaratsuba_127 : decode cJ15_multiplyKaratsuba 127 = .ok (.invokevirtual 239, 3) := dk_182 0 239 (dk_at dksJ15_multiplyKaratsuba_5 10 rfl rfl)
theorem dJ15_multiplyKaratsuba_130 : decode cJ15_multiplyKaratsuba 130 = .ok (.astore 12, 2) := dk_58 12 (dk_at dksJ15_multiplyKaratsuba_5 13 rfl rfl)
theorem dJ15_multiplyKaratsuba_132 : decode cJ15_multiplyKaratsuba 132 = .ok (.aload_n 0, 1) := dk_42 (dk_at dksJ15_multiplyKaratsuba_5 15 rfl rfl)
theorem dJ15_multiplyKaratsuba_133 : decode cJ15_multiplyKaratsuba 133 = .ok (.getfield 32, 3) := dk_180 0 32 (dk_at dksJ15_multiplyKaratsuba_5 16 rfl rfl)
theorem dJ15_multiplyKaratsuba_136 : decode cJ15_multiplyKaratsuba 136 = .ok (.aload_n 1, 1) := dk_43 (dk_at dksJ15_multiplyKaratsuba_5 19 rfl rfl)
theorem dJ15_multiplyKaratsuba_137 : decode cJ15_multiplyKaratsuba 137 = .ok (.getfield 32, 3) := dk_180 0 32 (dk_at dksJ15_multiplyKaratsuba_5 20 rfl rfl)
theorem dJ15_multiplyKaratsuba_140 : decode cJ15_multiplyKaratsuba 140 = .ok (.if_icmp .eq 9, 3) := dk_159 0 9 (dk_at dksJ15_multiplyKaratsuba_6 0 rfl rfl)
theorem dJ15_multiplyKaratsuba_143 : decode cJ15_multiplyKaratsuba 143 = .ok (.aload 12, 2) := dk_25 12 (dk_at dksJ15_multiplyKaratsuba_6 3 rfl rfl)
theorem dJ15_multiplyKaratsuba_145 : decode cJ15_multiplyKaratsuba 145 = .ok (.invokevirtual 394, 3) := dk_182 1 138 (dk_at dksJ15_multiplyKaratsuba_6 5 rfl rfl)
theorem dJ15_multiplyKaratsuba_148 : decode cJ15_multiplyKaratsuba 148 = .ok (.areturn, 1) := dk_176 (dk_at dksJ15_multiplyKaratsuba_6 8 rfl rfl)
theorem dJ15_multiplyKaratsuba_149 : decode cJ15_multiplyKaratsuba 149 = .ok (.aload 12, 2) := dk_25 12 (dk_at dksJ15_multiplyKaratsuba_6 9 rfl rfl)
theorem dJ15_multiplyKaratsuba_151 : decode cJ15_multiplyKaratsuba 151 = .ok (.areturn, 1) := dk_176 (dk_at dksJ15_multiplyKaratsuba_6 11 rfl rfl)
abbrev cJ15_compareTo : ByteArray := prog_27_method_121_code
def yJ15_compareTo : MethodName := ⟨RJ15, "compareTo", "(Ljava/math/BigInteger;)I"⟩
def dkwJ15_compareTo_3 : List UInt8 := [180, 0, 32, 164, 0, 7, 4, 167, 0, 4, 2, 172]
abbrev dktJ15_compareTo_3 : List UInt8 := dkwJ15_compareTo_3 ++ []
def dkwJ15_compareTo_2 : List UInt8 := [42, 43, 182, 1, 109, 167, 0, 12, 43, 42, 182, 1, 109, 167, 0, 4, 3, 172, 42, 180, 0, 32, 43]
abbrev dktJ15_compareTo_2 : List UInt8 := dkwJ15_compareTo_2 ++ dktJ15_compareTo_3
def dkwJ15_compareTo_1 : List UInt8 := [171, 0, 0, 0, 41, 0, 0, 0, 2, 255, 255, 255, 255, 0, 0, 0, 33, 0, 0, 0, 1, 0, 0, 0, 25]
abbrev dktJ15_compareTo_1 : List UInt8 := dkwJ15_compareTo_1 ++ dktJ15_compareTo_2
def dkwJ15_compareTo_0 : List UInt8 := [42, 180, 0, 32, 43, 180, 0, 32, 160, 0, 50, 42, 180, 0, 32]
abbrev dktJ15_compareTo_0 : List UInt8 := dkwJ15_compareTo_0 ++ dktJ15_compareTo_1
theorem dksJ15_compareTo_0 : cJ15_compareTo.data.toList.drop 0 = dktJ15_compareTo_0 := by decide +kernel
theorem dksJ15_compareTo_1 : cJ15_compareTo.data.toList.drop 15 = dktJ15_compareTo_1 := dk_seg dksJ15_compareTo_0 15 rfl rfl
theorem dksJ15_compareTo_2 : cJ15_compareTo.data.toList.drop 40 = dktJ15_compareTo_2 := dk_seg dksJ15_compareTo_1 25 rfl rfl
theorem dksJ15_compareTo_3 : cJ15_compareTo.data.toList.drop 63 = dktJ15_compareTo_3 := dk_seg dksJ15_compareTo_2 23 rfl rfl
theorem dJ15_compareTo_0 : decode cJ15_compareTo 0 = .ok (.aload_n 0, 1) := dk_42 (dk_at dksJ15_compareTo_0 0 rfl rfl)
theorem dJ15_compareTo_1 : decode cJ15_compareTo 1 = .ok (.getfield 32, 3) := dk_180 0 32 (dk_at dksJ15_compareTo_0 1 rfl rfl)
theorem dJ15_compareTo_4 : decode cJ15_compareTo 4 = .ok (.aload_n 1, 1) := dk_43 (dk_at dksJ15_compareTo_0 4 rfl rfl)
theorem dJ15_compareTo_5 : decode cJ15_compareTo 5 = .ok (.getfield 32, 3) := dk_180 0 32 (dk_at dksJ15_compareTo_0 5 rfl rfl)
theorem dJ15_compareTo_8 : decode cJ15_compareTo 8 = .ok (.if_icmp .ne 50, 3) := dk_160 0 50 (dk_at dksJ15_compareTo_0 8 rfl rfl)
theorem dJ15_compareTo_11 : decode cJ15_compareTo 11 = .ok (.aload_n 0, 1) := dk_42 (dk_at dksJ15_compareTo_0 11 rfl rfl)
theorem dJ15_compareTo_12 : decode cJ15_compareTo 12 = .ok (.getfield 32, 3) := dk_180 0 32 (dk_at dksJ15_compareTo_0 12 rfl rfl)
theorem dJ15_compareTo_15 : decode cJ15_compareTo 15 = .ok (.lookupswitch 41 #[(-1, 33), (1, 25)], 25) := by decide +kernel
theorem dJ15_compareTo_40 : decode cJ15_compareTo 40 = .ok (.aload_n 0, 1) := dk_42 (dk_at dksJ15_compareTo_2 0 rfl rfl)
theorem dJ15_compareTo_41 : decode cJ15_compareTo 41 = .ok (.aload_n 1, 1) := dk_43 (dk_at dksJ15_compareTo_2 1 rfl rfl)
theorem dJ15_compareTo_42 : decode cJ15_compareTo 42 = .ok (.invokevirtual 365, 3) := dk_182 1 109 (dk_at dksJ15_compareTo_2 2 rfl rfl)
theorem dJ15_compareTo_45 : decode cJ15_compareTo 45 = .ok (.goto 12, 3) := dk_167 0 12 (dk_at dksJ15_compareTo_2 5 rfl rfl)
theorem dJ15_compareTo_48 : decode cJ15_compareTo 48 = .ok (.aload_n 1, 1) := dk_43 (dk_at dksJ15_compareTo_2 8 rfl rfl)
theorem dJ15_compareTo_49 : decode cJ15_compareTo 49 = .ok (.aload_n 0, 1) := dk_42 (dk_at dksJ15_compareTo_2 9 rfl rfl)
theorem dJ15_compareTo_50 : decode cJ15_compareTo 50 = .ok (.invokevirtual 365, 3) := dk_182 1 109 (dk_at dksJ15_compareTo_2 10 rfl rfl)
theorem dJ15_compareTo_53 : decode cJ15_compareTo 53 = .ok (.goto 4, 3) := dk_167 0 4 (dk_at dksJ15_compareTo_2 13 rfl rfl)
theorem dJ15_compareTo_56 : decode cJ15_compareTo 56 = .ok (.iconst 0, 1) := dk_3 (dk_at dksJ15_compareTo_2 16 rfl rfl)
theorem dJ15_compareTo_57 : decode cJ15_compareTo 57 = .ok (.ireturn, 1) := dk_172 (dk_at dksJ15_compareTo_2 17 rfl rfl)
theorem dJ15_compareTo_58 : decode cJ15_compareTo 58 = .ok (.aload_n 0, 1) := dk_42 (dk_at dksJ15_compareTo_2 18 rfl rfl)
theorem dJ15_compareTo_59 : decode cJ15_compareTo 59 = .ok (.getfield 32, 3) := dk_180 0 32 (dk_at dksJ15_compareTo_2 19 rfl rfl)
theorem dJ15_compareTo_62 : decode cJ15_compareTo 62 = .ok (.aload_n 1, 1) := dk_43 (dk_at dksJ15_compareTo_2 22 rfl rfl)
theorem dJ15_compareTo_63 : decode cJ15_compareTo 63 = .ok (.getfield 32, 3) := dk_180 0 32 (dk_at dksJ15_compareTo_3 0 rfl rfl)
theorem dJ15_compareTo_66 : decode cJ15_compareTo 66 = .ok (.if_icmp .le 7, 3) := dk_164 0 7 (dk_at dksJ15_compareTo_3 3 rfl rfl)
theorem dJ15_compareTo_69 : decode cJ15_compareTo 69 = .ok (.iconst 1, 1) := dk_4 (dk_at dksJ15_compareTo_3 6 rfl rfl)
theorem dJ15_compareTo_70 : decode cJ15_compareTo 70 = .ok (.goto 4, 3) := dk_167 0 4 (dk_at dksJ15_compareTo_3 7 rfl rfl)
theorem dJ15_compareTo_73 : decode cJ15_compareTo 73 = .ok (.iconst (-1), 1) := dk_2 (dk_at dksJ15_compareTo_3 10 rfl rfl)
theorem dJ15_compareTo_74 : decode cJ15_compareTo 74 = .ok (.ireturn, 1) := dk_172 (dk_at dksJ15_compareTo_3 11 rfl rfl)
theorem q60 : (Jvm.Cond.initialized "java/math/BigInteger") ∈ lw_all := lw_g (lw_at lw_m1 20 rfl) rfl
theorem q1344 : (Jvm.Cond.static ({ cls := "java/math/BigInteger", name := "valueOf", desc := "(J)Ljava/math/BigInteger;" } : Jvm.MethodName)) ∈ lw_all := lw_g (lw_at lw_m6 104 rfl) rfl
theorem q1345 : (Jvm.Cond.code ({ cls := "java/math/BigInteger", name := "valueOf", desc := "(J)Ljava/math/BigInteger;" } : Jvm.MethodName) prog_27_method_29_code (2 : Nat) (Option.some (Jvm.ClassFile.FieldType.object "java/math/BigInteger"))) ∈ lw_all := lw_g (lw_at lw_m6 105 rfl) rfl
theorem q1346 : (Jvm.Cond.fieldLink "java/math/BigInteger" (22 : Nat) "java/math/BigInteger" "ZERO" "Ljava/math/BigInteger;") ∈ lw_all := lw_g (lw_at lw_m6 106 rfl) rfl
theorem q1347 : (Jvm.Cond.laysStatic "java/math/BigInteger" "ZERO" "Ljava/math/BigInteger;") ∈ lw_tbl := lw_at lw_m6 107 rfl
theorem q1348 : (Jvm.Cond.constantLong "java/math/BigInteger" (345 : Nat) (16 : Int64)) ∈ lw_all := lw_g (lw_at lw_m6 108 rfl) rfl
theorem q1349 : (Jvm.Cond.fieldLink "java/math/BigInteger" (347 : Nat) "java/math/BigInteger" "posConst" "[Ljava/math/BigInteger;") ∈ lw_all := lw_g (lw_at lw_m6 109 rfl) rfl
theorem q1350 : (Jvm.Cond.laysStatic "java/math/BigInteger" "posConst" "[Ljava/math/BigInteger;") ∈ lw_tbl := lw_at lw_m6 110 rfl
theorem q1351 : (Jvm.Cond.constantLong "java/math/BigInteger" (351 : Nat) (-16 : Int64)) ∈ lw_all := lw_g (lw_at lw_m6 111 rfl) rfl
theorem q1352 : (Jvm.Cond.fieldLink "java/math/BigInteger" (353 : Nat) "java/math/BigInteger" "negConst" "[Ljava/math/BigInteger;") ∈ lw_all := lw_g (lw_at lw_m6 112 rfl) rfl
theorem q1353 : (Jvm.Cond.laysStatic "java/math/BigInteger" "negConst" "[Ljava/math/BigInteger;") ∈ lw_tbl := lw_at lw_m6 113 rfl
theorem q1354 : (Jvm.Cond.classLink "java/math/BigInteger" (23 : Nat) "java/math/BigInteger") ∈ lw_all := lw_g (lw_at lw_m6 114 rfl) rfl
theorem q1355 : (Jvm.Cond.instantiable "java/math/BigInteger" (6 : Nat)) ∈ lw_all := lw_g (lw_at lw_m6 115 rfl) rfl
theorem q1356 : (Jvm.Cond.methodLink "java/math/BigInteger" (356 : Nat) ({ cls := "java/math/BigInteger", name := "<init>", desc := "(J)V" } : Jvm.MethodName)) ∈ lw_all := lw_g (lw_at lw_m6 116 rfl) rfl
theorem q1357 : (Jvm.Cond.instanceMethod ({ cls := "java/math/BigInteger", name := "<init>", desc := "(J)V" } : Jvm.MethodName)) ∈ lw_all := lw_g (lw_at lw_m6 117 rfl) rfl
theorem q1358 : (Jvm.Cond.code ({ cls := "java/math/BigInteger", name := "<init>", desc := "(J)V" } : Jvm.MethodName) prog_27_method_30_code (4 : Nat) (Option.none : Option Jvm.ClassFile.FieldType)) ∈ lw_all := lw_g (lw_at lw_m6 118 rfl) rfl
theorem q1359 : (Jvm.Cond.methodLink "java/math/BigInteger" (3 : Nat) ({ cls := "java/lang/Number", name := "<init>", desc := "()V" } : Jvm.MethodName)) ∈ lw_all := lw_g (lw_at lw_m6 119 rfl) rfl
theorem q1363 : (Jvm.Cond.fieldLink "java/math/BigInteger" (32 : Nat) "java/math/BigInteger" "signum" "I") ∈ lw_all := lw_g (lw_at lw_m6 123 rfl) rfl
theorem q1364 : (Jvm.Cond.fieldLink "java/math/BigInteger" (28 : Nat) "java/math/BigInteger" "mag" "[I") ∈ lw_all := lw_g (lw_at lw_m6 124 rfl) rfl
theorem q1365 : (Jvm.Cond.fieldLink "java/math/BigInteger" (747 : Nat) "java/math/BigInteger" "bitLengthPlusOne" "I") ∈ lw_all := lw_g (lw_at lw_m6 125 rfl) rfl
theorem q1366 : (Jvm.Cond.fieldLink "java/math/BigInteger" (866 : Nat) "java/math/BigInteger" "firstNonzeroIntNumPlusTwo" "I") ∈ lw_all := lw_g (lw_at lw_m6 126 rfl) rfl
theorem q1367 : (Jvm.Cond.laysFinal "java/math/BigInteger" "java/math/BigInteger" "signum" "I") ∈ lw_all := lw_g (lw_at lw_m6 127 rfl) rfl
theorem q1368 : (Jvm.Cond.soleField "java/math/BigInteger" "signum") ∈ lw_all := lw_g (lw_at lw_m6 128 rfl) rfl
theorem q1369 : (Jvm.Cond.laysFinal "java/math/BigInteger" "java/math/BigInteger" "mag" "[I") ∈ lw_all := lw_g (lw_at lw_m6 129 rfl) rfl
theorem q1370 : (Jvm.Cond.soleField "java/math/BigInteger" "mag") ∈ lw_all := lw_g (lw_at lw_m6 130 rfl) rfl
theorem q1371 : (Jvm.Cond.lays "java/math/BigInteger" "java/math/BigInteger" "bitCountPlusOne" "I") ∈ lw_all := lw_g (lw_at lw_m6 131 rfl) rfl
theorem q1372 : (Jvm.Cond.soleField "java/math/BigInteger" "bitCountPlusOne") ∈ lw_all := lw_g (lw_at lw_m6 132 rfl) rfl
theorem q1373 : (Jvm.Cond.lays "java/math/BigInteger" "java/math/BigInteger" "bitLengthPlusOne" "I") ∈ lw_all := lw_g (lw_at lw_m6 133 rfl) rfl
theorem q1374 : (Jvm.Cond.soleField "java/math/BigInteger" "bitLengthPlusOne") ∈ lw_all := lw_g (lw_at lw_m6 134 rfl) rfl
theorem q1375 : (Jvm.Cond.lays "java/math/BigInteger" "java/math/BigInteger" "lowestSetBitPlusTwo" "I") ∈ lw_all := lw_g (lw_at lw_m6 135 rfl) rfl
theorem q1376 : (Jvm.Cond.soleField "java/math/BigInteger" "lowestSetBitPlusTwo") ∈ lw_all := lw_g (lw_at lw_m6 136 rfl) rfl
theorem q1377 : (Jvm.Cond.lays "java/math/BigInteger" "java/math/BigInteger" "firstNonzeroIntNumPlusTwo" "I") ∈ lw_all := lw_g (lw_at lw_m6 137 rfl) rfl
theorem q1378 : (Jvm.Cond.soleField "java/math/BigInteger" "firstNonzeroIntNumPlusTwo") ∈ lw_all := lw_g (lw_at lw_m6 138 rfl) rfl
theorem q1379 : (Jvm.Cond.superclass "java/math/BigInteger" "java/lang/Number") ∈ lw_all := lw_g (lw_at lw_m6 139 rfl) rfl
theorem q1381 : (Jvm.Cond.instanceMethod ({ cls := "java/math/BigInteger", name := "shiftRight", desc := "(I)Ljava/math/BigInteger;" } : Jvm.MethodName)) ∈ lw_all := lw_g (lw_at lw_m6 141 rfl) rfl
theorem q1382 : (Jvm.Cond.selects "java/math/BigInteger" ({ cls := "java/math/BigInteger", name := "shiftRight", desc := "(I)Ljava/math/BigInteger;" } : Jvm.MethodName) ({ cls := "java/math/BigInteger", name := "shiftRight", desc := "(I)Ljava/math/BigInteger;" } : Jvm.MethodName)) ∈ lw_all := lw_g (lw_at lw_m6 142 rfl) rfl
theorem q1383 : (Jvm.Cond.code ({ cls := "java/math/BigInteger", name := "shiftRight", desc := "(I)Ljava/math/BigInteger;" } : Jvm.MethodName) prog_27_method_104_code (2 : Nat) (Option.some (Jvm.ClassFile.FieldType.object "java/math/BigInteger"))) ∈ lw_all := lw_g (lw_at lw_m6 143 rfl) rfl
theorem q1384 : (Jvm.Cond.methodLink "java/math/BigInteger" (727 : Nat) ({ cls := "java/math/BigInteger", name := "shiftRightImpl", desc := "(I)Ljava/math/BigInteger;" } : Jvm.MethodName)) ∈ lw_all := lw_g (lw_at lw_m6 144 rfl) rfl
theorem q1385 : (Jvm.Cond.privateMethod ({ cls := "java/math/BigInteger", name := "shiftRightImpl", desc := "(I)Ljava/math/BigInteger;" } : Jvm.MethodName)) ∈ lw_tbl := lw_at lw_m6 145 rfl
theorem q1386 : (Jvm.Cond.instanceMethod ({ cls := "java/math/BigInteger", name := "shiftRightImpl", desc := "(I)Ljava/math/BigInteger;" } : Jvm.MethodName)) ∈ lw_all := lw_g (lw_at lw_m6 146 rfl) rfl
theorem q1387 : (Jvm.Cond.code ({ cls := "java/math/BigInteger", name := "shiftRightImpl", desc := "(I)Ljava/math/BigInteger;" } : Jvm.MethodName) prog_27_method_105_code (9 : Nat) (Option.some (Jvm.ClassFile.FieldType.object "java/math/BigInteger"))) ∈ lw_all := lw_g (lw_at lw_m6 147 rfl) rfl
theorem q1388 : (Jvm.Cond.methodLink "java/math/BigInteger" (690 : Nat) ({ cls := "java/util/Arrays", name := "copyOf", desc := "([II)[I" } : Jvm.MethodName)) ∈ lw_all := lw_g (lw_at lw_m6 148 rfl) rfl
theorem q1396 : (Jvm.Cond.methodLink "java/math/BigInteger" (611 : Nat) ({ cls := "java/util/Objects", name := "checkFromToIndex", desc := "(III)I" } : Jvm.MethodName)) ∈ lw_all := lw_g (lw_at lw_m6 156 rfl) rfl
theorem q1400 : (Jvm.Cond.methodLink "java/math/BigInteger" (614 : Nat) ({ cls := "java/math/BigInteger", name := "shiftRightImplWorker", desc := "([I[IIII)V" } : Jvm.MethodName)) ∈ lw_all := lw_g (lw_at lw_m6 160 rfl) rfl
theorem q1401 : (Jvm.Cond.static ({ cls := "java/math/BigInteger", name := "shiftRightImplWorker", desc := "([I[IIII)V" } : Jvm.MethodName)) ∈ lw_all := lw_g (lw_at lw_m6 161 rfl) rfl
theorem q1402 : (Jvm.Cond.code ({ cls := "java/math/BigInteger", name := "shiftRightImplWorker", desc := "([I[IIII)V" } : Jvm.MethodName) prog_27_method_106_code (8 : Nat) (Option.none : Option Jvm.ClassFile.FieldType)) ∈ lw_all := lw_g (lw_at lw_m6 162 rfl) rfl
theorem q1403 : (Jvm.Cond.methodLink "java/math/BigInteger" (730 : Nat) ({ cls := "java/math/BigInteger", name := "javaIncrement", desc := "([I)[I" } : Jvm.MethodName)) ∈ lw_all := lw_g (lw_at lw_m6 163 rfl) rfl
theorem q1404 : (Jvm.Cond.instanceMethod ({ cls := "java/math/BigInteger", name := "javaIncrement", desc := "([I)[I" } : Jvm.MethodName)) ∈ lw_all := lw_g (lw_at lw_m6 164 rfl) rfl
theorem q1405 : (Jvm.Cond.selects "java/math/BigInteger" ({ cls := "java/math/BigInteger", name := "javaIncrement", desc := "([I)[I" } : Jvm.MethodName) ({ cls := "java/math/BigInteger", name := "javaIncrement", desc := "([I)[I" } : Jvm.MethodName)) ∈ lw_all := lw_g (lw_at lw_m6 165 rfl) rfl
theorem q1406 : (Jvm.Cond.code ({ cls := "java/math/BigInteger", name := "javaIncrement", desc := "([I)[I" } : Jvm.MethodName) prog_27_method_107_code (4 : Nat) (Option.some (Jvm.ClassFile.FieldType.array Jvm.ClassFile.FieldType.int))) ∈ lw_all := lw_g (lw_at lw_m6 166 rfl) rfl
theorem q1407 : (Jvm.Cond.methodLink "java/math/BigInteger" (175 : Nat) ({ cls := "java/math/BigInteger", name := "<init>", desc := "([II)V" } : Jvm.MethodName)) ∈ lw_all := lw_g (lw_at lw_m6 167 rfl) rfl
theorem q1408 : (Jvm.Cond.instanceMethod ({ cls := "java/math/BigInteger", name := "<init>", desc := "([II)V" } : Jvm.MethodName)) ∈ lw_all := lw_g (lw_at lw_m6 168 rfl) rfl
theorem q1409 : (Jvm.Cond.code ({ cls := "java/math/BigInteger", name := "<init>", desc := "([II)V" } : Jvm.MethodName) prog_27_method_25_code (3 : Nat) (Option.none : Option Jvm.ClassFile.FieldType)) ∈ lw_all := lw_g (lw_at lw_m6 169 rfl) rfl
theorem q1410 : (Jvm.Cond.constant "java/math/BigInteger" (43 : Nat) (67108864 : Int32)) ∈ lw_all := lw_g (lw_at lw_m6 170 rfl) rfl
theorem q1411 : (Jvm.Cond.methodLink "java/math/BigInteger" (44 : Nat) ({ cls := "java/math/BigInteger", name := "checkRange", desc := "()V" } : Jvm.MethodName)) ∈ lw_all := lw_g (lw_at lw_m6 171 rfl) rfl
theorem q1412 : (Jvm.Cond.privateMethod ({ cls := "java/math/BigInteger", name := "checkRange", desc := "()V" } : Jvm.MethodName)) ∈ lw_tbl := lw_at lw_m6 172 rfl
theorem q1413 : (Jvm.Cond.instanceMethod ({ cls := "java/math/BigInteger", name := "checkRange", desc := "()V" } : Jvm.MethodName)) ∈ lw_all := lw_g (lw_at lw_m6 173 rfl) rfl
theorem q1414 : (Jvm.Cond.code ({ cls := "java/math/BigInteger", name := "checkRange", desc := "()V" } : Jvm.MethodName) prog_27_method_27_code (1 : Nat) (Option.none : Option Jvm.ClassFile.FieldType)) ∈ lw_all := lw_g (lw_at lw_m6 174 rfl) rfl
theorem q1415 : (Jvm.Cond.methodLink "java/math/BigInteger" (101 : Nat) ({ cls := "java/math/BigInteger", name := "reportOverflow", desc := "()V" } : Jvm.MethodName)) ∈ lw_all := lw_g (lw_at lw_m6 175 rfl) rfl
theorem q1416 : (Jvm.Cond.static ({ cls := "java/math/BigInteger", name := "reportOverflow", desc := "()V" } : Jvm.MethodName)) ∈ lw_all := lw_g (lw_at lw_m6 176 rfl) rfl
theorem q1417 : (Jvm.Cond.code ({ cls := "java/math/BigInteger", name := "reportOverflow", desc := "()V" } : Jvm.MethodName) prog_27_method_28_code (0 : Nat) (Option.none : Option Jvm.ClassFile.FieldType)) ∈ lw_all := lw_g (lw_at lw_m6 177 rfl) rfl
theorem q1418 : (Jvm.Cond.methodLink "java/math/BigInteger" (429 : Nat) ({ cls := "java/math/BigInteger", name := "shiftLeft", desc := "([II)[I" } : Jvm.MethodName)) ∈ lw_all := lw_g (lw_at lw_m6 178 rfl) rfl
theorem q1419 : (Jvm.Cond.static ({ cls := "java/math/BigInteger", name := "shiftLeft", desc := "([II)[I" } : Jvm.MethodName)) ∈ lw_all := lw_g (lw_at lw_m6 179 rfl) rfl
theorem q1420 : (Jvm.Cond.code ({ cls := "java/math/BigInteger", name := "shiftLeft", desc := "([II)[I" } : Jvm.MethodName) prog_27_method_102_code (10 : Nat) (Option.some (Jvm.ClassFile.FieldType.array Jvm.ClassFile.FieldType.int))) ∈ lw_all := lw_g (lw_at lw_m6 180 rfl) rfl
theorem q1421 : (Jvm.Cond.methodLink "java/math/BigInteger" (388 : Nat) ({ cls := "java/lang/System", name := "arraycopy", desc := "(Ljava/lang/Object;ILjava/lang/Object;II)V" } : Jvm.MethodName)) ∈ lw_all := lw_g (lw_at lw_m6 181 rfl) rfl
theorem q1422 : (Jvm.Cond.methodLink "java/math/BigInteger" (618 : Nat) ({ cls := "java/math/BigInteger", name := "shiftLeftImplWorker", desc := "([I[IIII)V" } : Jvm.MethodName)) ∈ lw_all := lw_g (lw_at lw_m6 182 rfl) rfl
theorem q1423 : (Jvm.Cond.static ({ cls := "java/math/BigInteger", name := "shiftLeftImplWorker", desc := "([I[IIII)V" } : Jvm.MethodName)) ∈ lw_all := lw_g (lw_at lw_m6 183 rfl) rfl
theorem q1424 : (Jvm.Cond.code ({ cls := "java/math/BigInteger", name := "shiftLeftImplWorker", desc := "([I[IIII)V" } : Jvm.MethodName) prog_27_method_103_code (7 : Nat) (Option.none : Option Jvm.ClassFile.FieldType)) ∈ lw_all := lw_g (lw_at lw_m6 184 rfl) rfl
theorem q1426 : (Jvm.Cond.instanceMethod ({ cls := "java/math/BigInteger", name := "shiftLeft", desc := "(I)Ljava/math/BigInteger;" } : Jvm.MethodName)) ∈ lw_all := lw_g (lw_at lw_m6 186 rfl) rfl
theorem q1427 : (Jvm.Cond.selects "java/math/BigInteger" ({ cls := "java/math/BigInteger", name := "shiftLeft", desc := "(I)Ljava/math/BigInteger;" } : Jvm.MethodName) ({ cls := "java/math/BigInteger", name := "shiftLeft", desc := "(I)Ljava/math/BigInteger;" } : Jvm.MethodName)) ∈ lw_all := lw_g (lw_at lw_m6 187 rfl) rfl
theorem q1428 : (Jvm.Cond.code ({ cls := "java/math/BigInteger", name := "shiftLeft", desc := "(I)Ljava/math/BigInteger;" } : Jvm.MethodName) prog_27_method_101_code (2 : Nat) (Option.some (Jvm.ClassFile.FieldType.object "java/math/BigInteger"))) ∈ lw_all := lw_g (lw_at lw_m6 188 rfl) rfl
theorem q1433 : (Jvm.Cond.instanceMethod ({ cls := "java/math/BigInteger", name := "bitLength", desc := "()I" } : Jvm.MethodName)) ∈ lw_all := lw_g (lw_at lw_m6 193 rfl) rfl
theorem q1434 : (Jvm.Cond.selects "java/math/BigInteger" ({ cls := "java/math/BigInteger", name := "bitLength", desc := "()I" } : Jvm.MethodName) ({ cls := "java/math/BigInteger", name := "bitLength", desc := "()I" } : Jvm.MethodName)) ∈ lw_all := lw_g (lw_at lw_m6 194 rfl) rfl
theorem q1435 : (Jvm.Cond.code ({ cls := "java/math/BigInteger", name := "bitLength", desc := "()I" } : Jvm.MethodName) prog_27_method_118_code (7 : Nat) (Option.some Jvm.ClassFile.FieldType.int)) ∈ lw_all := lw_g (lw_at lw_m6 195 rfl) rfl
theorem q1436 : (Jvm.Cond.methodLink "java/math/BigInteger" (605 : Nat) ({ cls := "java/math/BigInteger", name := "bitLengthForInt", desc := "(I)I" } : Jvm.MethodName)) ∈ lw_all := lw_g (lw_at lw_m6 196 rfl) rfl
theorem q1437 : (Jvm.Cond.static ({ cls := "java/math/BigInteger", name := "bitLengthForInt", desc := "(I)I" } : Jvm.MethodName)) ∈ lw_all := lw_g (lw_at lw_m6 197 rfl) rfl
theorem q1438 : (Jvm.Cond.code ({ cls := "java/math/BigInteger", name := "bitLengthForInt", desc := "(I)I" } : Jvm.MethodName) prog_27_method_74_code (1 : Nat) (Option.some Jvm.ClassFile.FieldType.int)) ∈ lw_all := lw_g (lw_at lw_m6 198 rfl) rfl
theorem q1439 : (Jvm.Cond.methodLink "java/math/BigInteger" (602 : Nat) ({ cls := "java/lang/Integer", name := "numberOfLeadingZeros", desc := "(I)I" } : Jvm.MethodName)) ∈ lw_all := lw_g (lw_at lw_m6 199 rfl) rfl
theorem q1443 : (Jvm.Cond.methodLink "java/math/BigInteger" (423 : Nat) ({ cls := "java/lang/Integer", name := "bitCount", desc := "(I)I" } : Jvm.MethodName)) ∈ lw_all := lw_g (lw_at lw_m6 203 rfl) rfl
theorem q1450 : (Jvm.Cond.instanceMethod ({ cls := "java/math/BigInteger", name := "longValue", desc := "()J" } : Jvm.MethodName)) ∈ lw_all := lw_g (lw_at lw_m6 210 rfl) rfl
theorem q1451 : (Jvm.Cond.selects "java/math/BigInteger" ({ cls := "java/math/BigInteger", name := "longValue", desc := "()J" } : Jvm.MethodName) ({ cls := "java/math/BigInteger", name := "longValue", desc := "()J" } : Jvm.MethodName)) ∈ lw_all := lw_g (lw_at lw_m6 211 rfl) rfl
theorem q1452 : (Jvm.Cond.code ({ cls := "java/math/BigInteger", name := "longValue", desc := "()J" } : Jvm.MethodName) prog_27_method_136_code (4 : Nat) (Option.some Jvm.ClassFile.FieldType.long)) ∈ lw_all := lw_g (lw_at lw_m6 212 rfl) rfl
theorem q1453 : (Jvm.Cond.methodLink "java/math/BigInteger" (736 : Nat) ({ cls := "java/math/BigInteger", name := "getInt", desc := "(I)I" } : Jvm.MethodName)) ∈ lw_all := lw_g (lw_at lw_m6 213 rfl) rfl
theorem q1454 : (Jvm.Cond.privateMethod ({ cls := "java/math/BigInteger", name := "getInt", desc := "(I)I" } : Jvm.MethodName)) ∈ lw_tbl := lw_at lw_m6 214 rfl
theorem q1455 : (Jvm.Cond.instanceMethod ({ cls := "java/math/BigInteger", name := "getInt", desc := "(I)I" } : Jvm.MethodName)) ∈ lw_all := lw_g (lw_at lw_m6 215 rfl) rfl
theorem q1456 : (Jvm.Cond.code ({ cls := "java/math/BigInteger", name := "getInt", desc := "(I)I" } : Jvm.MethodName) prog_27_method_148_code (3 : Nat) (Option.some Jvm.ClassFile.FieldType.int)) ∈ lw_all := lw_g (lw_at lw_m6 216 rfl) rfl
theorem q1457 : (Jvm.Cond.methodLink "java/math/BigInteger" (860 : Nat) ({ cls := "java/math/BigInteger", name := "signInt", desc := "()I" } : Jvm.MethodName)) ∈ lw_all := lw_g (lw_at lw_m6 217 rfl) rfl
theorem q1458 : (Jvm.Cond.privateMethod ({ cls := "java/math/BigInteger", name := "signInt", desc := "()I" } : Jvm.MethodName)) ∈ lw_tbl := lw_at lw_m6 218 rfl
theorem q1459 : (Jvm.Cond.instanceMethod ({ cls := "java/math/BigInteger", name := "signInt", desc := "()I" } : Jvm.MethodName)) ∈ lw_all := lw_g (lw_at lw_m6 219 rfl) rfl
theorem q1460 : (Jvm.Cond.code ({ cls := "java/math/BigInteger", name := "signInt", desc := "()I" } : Jvm.MethodName) prog_27_method_147_code (1 : Nat) (Option.some Jvm.ClassFile.FieldType.int)) ∈ lw_all := lw_g (lw_at lw_m6 220 rfl) rfl
theorem q1461 : (Jvm.Cond.methodLink "java/math/BigInteger" (863 : Nat) ({ cls := "java/math/BigInteger", name := "firstNonzeroIntNum", desc := "()I" } : Jvm.MethodName)) ∈ lw_all := lw_g (lw_at lw_m6 221 rfl) rfl
theorem q1462 : (Jvm.Cond.privateMethod ({ cls := "java/math/BigInteger", name := "firstNonzeroIntNum", desc := "()I" } : Jvm.MethodName)) ∈ lw_tbl := lw_at lw_m6 222 rfl
theorem q1463 : (Jvm.Cond.instanceMethod ({ cls := "java/math/BigInteger", name := "firstNonzeroIntNum", desc := "()I" } : Jvm.MethodName)) ∈ lw_all := lw_g (lw_at lw_m6 223 rfl) rfl
theorem q1464 : (Jvm.Cond.code ({ cls := "java/math/BigInteger", name := "firstNonzeroIntNum", desc := "()I" } : Jvm.MethodName) prog_27_method_149_code (4 : Nat) (Option.some Jvm.ClassFile.FieldType.int)) ∈ lw_all := lw_g (lw_at lw_m6 224 rfl) rfl
theorem q1465 : (Jvm.Cond.constantLong "java/math/BigInteger" (130 : Nat) (4294967295 : Int64)) ∈ lw_all := lw_g (lw_at lw_m6 225 rfl) rfl
theorem q1474 : (Jvm.Cond.instanceMethod ({ cls := "java/math/BigInteger", name := "multiply", desc := "(Ljava/math/BigInteger;)Ljava/math/BigInteger;" } : Jvm.MethodName)) ∈ lw_all := lw_g (lw_at lw_m6 234 rfl) rfl
theorem q1475 : (Jvm.Cond.selects "java/math/BigInteger" ({ cls := "java/math/BigInteger", name := "multiply", desc := "(Ljava/math/BigInteger;)Ljava/math/BigInteger;" } : Jvm.MethodName) ({ cls := "java/math/BigInteger", name := "multiply", desc := "(Ljava/math/BigInteger;)Ljava/math/BigInteger;" } : Jvm.MethodName)) ∈ lw_all := lw_g (lw_at lw_m6 235 rfl) rfl
theorem q1476 : (Jvm.Cond.code ({ cls := "java/math/BigInteger", name := "multiply", desc := "(Ljava/math/BigInteger;)Ljava/math/BigInteger;" } : Jvm.MethodName) prog_27_method_40_code (2 : Nat) (Option.some (Jvm.ClassFile.FieldType.object "java/math/BigInteger"))) ∈ lw_all := lw_g (lw_at lw_m6 236 rfl) rfl
theorem q1477 : (Jvm.Cond.methodLink "java/math/BigInteger" (397 : Nat) ({ cls := "java/math/BigInteger", name := "multiply", desc := "(Ljava/math/BigInteger;ZZI)Ljava/math/BigInteger;" } : Jvm.MethodName)) ∈ lw_all := lw_g (lw_at lw_m6 237 rfl) rfl
theorem q1478 : (Jvm.Cond.privateMethod ({ cls := "java/math/BigInteger", name := "multiply", desc := "(Ljava/math/BigInteger;ZZI)Ljava/math/BigInteger;" } : Jvm.MethodName)) ∈ lw_tbl := lw_at lw_m6 238 rfl
theorem q1479 : (Jvm.Cond.instanceMethod ({ cls := "java/math/BigInteger", name := "multiply", desc := "(Ljava/math/BigInteger;ZZI)Ljava/math/BigInteger;" } : Jvm.MethodName)) ∈ lw_all := lw_g (lw_at lw_m6 239 rfl) rfl
theorem q1480 : (Jvm.Cond.code ({ cls := "java/math/BigInteger", name := "multiply", desc := "(Ljava/math/BigInteger;ZZI)Ljava/math/BigInteger;" } : Jvm.MethodName) prog_27_method_42_code (9 : Nat) (Option.some (Jvm.ClassFile.FieldType.object "java/math/BigInteger"))) ∈ lw_all := lw_g (lw_at lw_m7 0 rfl) rfl
theorem q1481 : (Jvm.Cond.methodLink "java/math/BigInteger" (400 : Nat) ({ cls := "java/math/BigInteger", name := "square", desc := "(ZZI)Ljava/math/BigInteger;" } : Jvm.MethodName)) ∈ lw_all := lw_g (lw_at lw_m7 1 rfl) rfl
theorem q1482 : (Jvm.Cond.privateMethod ({ cls := "java/math/BigInteger", name := "square", desc := "(ZZI)Ljava/math/BigInteger;" } : Jvm.MethodName)) ∈ lw_tbl := lw_at lw_m7 2 rfl
theorem q1483 : (Jvm.Cond.instanceMethod ({ cls := "java/math/BigInteger", name := "square", desc := "(ZZI)Ljava/math/BigInteger;" } : Jvm.MethodName)) ∈ lw_all := lw_g (lw_at lw_m7 3 rfl) rfl
theorem q1484 : (Jvm.Cond.code ({ cls := "java/math/BigInteger", name := "square", desc := "(ZZI)Ljava/math/BigInteger;" } : Jvm.MethodName) prog_27_method_55_code (6 : Nat) (Option.some (Jvm.ClassFile.FieldType.object "java/math/BigInteger"))) ∈ lw_all := lw_g (lw_at lw_m7 4 rfl) rfl
theorem q1485 : (Jvm.Cond.methodLink "java/math/BigInteger" (491 : Nat) ({ cls := "java/math/BigInteger", name := "squareToLen", desc := "([II[I)[I" } : Jvm.MethodName)) ∈ lw_all := lw_g (lw_at lw_m7 5 rfl) rfl
theorem q1486 : (Jvm.Cond.static ({ cls := "java/math/BigInteger", name := "squareToLen", desc := "([II[I)[I" } : Jvm.MethodName)) ∈ lw_all := lw_g (lw_at lw_m7 6 rfl) rfl
theorem q1487 : (Jvm.Cond.code ({ cls := "java/math/BigInteger", name := "squareToLen", desc := "([II[I)[I" } : Jvm.MethodName) prog_27_method_56_code (4 : Nat) (Option.some (Jvm.ClassFile.FieldType.array Jvm.ClassFile.FieldType.int))) ∈ lw_all := lw_g (lw_at lw_m7 7 rfl) rfl
theorem q1488 : (Jvm.Cond.methodLink "java/math/BigInteger" (504 : Nat) ({ cls := "java/math/BigInteger", name := "implSquareToLenChecks", desc := "([II[II)V" } : Jvm.MethodName)) ∈ lw_all := lw_g (lw_at lw_m7 8 rfl) rfl
theorem q1489 : (Jvm.Cond.static ({ cls := "java/math/BigInteger", name := "implSquareToLenChecks", desc := "([II[II)V" } : Jvm.MethodName)) ∈ lw_all := lw_g (lw_at lw_m7 9 rfl) rfl
theorem q1490 : (Jvm.Cond.code ({ cls := "java/math/BigInteger", name := "implSquareToLenChecks", desc := "([II[II)V" } : Jvm.MethodName) prog_27_method_57_code (4 : Nat) (Option.none : Option Jvm.ClassFile.FieldType)) ∈ lw_all := lw_g (lw_at lw_m7 10 rfl) rfl
theorem q1491 : (Jvm.Cond.classLink "java/math/BigInteger" (145 : Nat) "java/lang/IllegalArgumentException") ∈ lw_all := lw_g (lw_at lw_m7 11 rfl) rfl
theorem q1492 : (Jvm.Cond.classLink "java/math/BigInteger" (242 : Nat) "java/lang/StringBuilder") ∈ lw_all := lw_g (lw_at lw_m7 12 rfl) rfl
theorem q1493 : (Jvm.Cond.methodLink "java/math/BigInteger" (244 : Nat) ({ cls := "java/lang/StringBuilder", name := "<init>", desc := "()V" } : Jvm.MethodName)) ∈ lw_all := lw_g (lw_at lw_m7 13 rfl) rfl
theorem q1494 : (Jvm.Cond.stringRef "java/math/BigInteger" (512 : Nat) "invalid input length: ") ∈ lw_tbl := lw_at lw_m7 14 rfl
theorem q1495 : (Jvm.Cond.methodLink "java/math/BigInteger" (247 : Nat) ({ cls := "java/lang/StringBuilder", name := "append", desc := "(Ljava/lang/String;)Ljava/lang/StringBuilder;" } : Jvm.MethodName)) ∈ lw_all := lw_g (lw_at lw_m7 15 rfl) rfl
theorem q1496 : (Jvm.Cond.methodLink "java/math/BigInteger" (514 : Nat) ({ cls := "java/lang/StringBuilder", name := "append", desc := "(I)Ljava/lang/StringBuilder;" } : Jvm.MethodName)) ∈ lw_all := lw_g (lw_at lw_m7 16 rfl) rfl
theorem q1497 : (Jvm.Cond.methodLink "java/math/BigInteger" (254 : Nat) ({ cls := "java/lang/StringBuilder", name := "toString", desc := "()Ljava/lang/String;" } : Jvm.MethodName)) ∈ lw_all := lw_g (lw_at lw_m7 17 rfl) rfl
theorem q1498 : (Jvm.Cond.methodLink "java/math/BigInteger" (149 : Nat) ({ cls := "java/lang/IllegalArgumentException", name := "<init>", desc := "(Ljava/lang/String;)V" } : Jvm.MethodName)) ∈ lw_all := lw_g (lw_at lw_m7 18 rfl) rfl
theorem q1499 : (Jvm.Cond.stringRef "java/math/BigInteger" (517 : Nat) "input length out of bound: ") ∈ lw_tbl := lw_at lw_m7 19 rfl
theorem q1500 : (Jvm.Cond.stringRef "java/math/BigInteger" (519 : Nat) " > ") ∈ lw_tbl := lw_at lw_m7 20 rfl
theorem q1501 : (Jvm.Cond.methodLink "java/math/BigInteger" (508 : Nat) ({ cls := "java/math/BigInteger", name := "implSquareToLen", desc := "([II[II)[I" } : Jvm.MethodName)) ∈ lw_all := lw_g (lw_at lw_m7 21 rfl) rfl
theorem q1502 : (Jvm.Cond.static ({ cls := "java/math/BigInteger", name := "implSquareToLen", desc := "([II[II)[I" } : Jvm.MethodName)) ∈ lw_all := lw_g (lw_at lw_m7 22 rfl) rfl
theorem q1503 : (Jvm.Cond.code ({ cls := "java/math/BigInteger", name := "implSquareToLen", desc := "([II[II)[I" } : Jvm.MethodName) prog_27_method_58_code (11 : Nat) (Option.some (Jvm.ClassFile.FieldType.array Jvm.ClassFile.FieldType.int))) ∈ lw_all := lw_g (lw_at lw_m7 23 rfl) rfl
theorem q1504 : (Jvm.Cond.methodLink "java/math/BigInteger" (521 : Nat) ({ cls := "java/math/BigInteger", name := "mulAdd", desc := "([I[IIII)I" } : Jvm.MethodName)) ∈ lw_all := lw_g (lw_at lw_m7 24 rfl) rfl
theorem q1505 : (Jvm.Cond.static ({ cls := "java/math/BigInteger", name := "mulAdd", desc := "([I[IIII)I" } : Jvm.MethodName)) ∈ lw_all := lw_g (lw_at lw_m7 25 rfl) rfl
theorem q1506 : (Jvm.Cond.code ({ cls := "java/math/BigInteger", name := "mulAdd", desc := "([I[IIII)I" } : Jvm.MethodName) prog_27_method_94_code (5 : Nat) (Option.some Jvm.ClassFile.FieldType.int)) ∈ lw_all := lw_g (lw_at lw_m7 26 rfl) rfl
theorem q1507 : (Jvm.Cond.methodLink "java/math/BigInteger" (707 : Nat) ({ cls := "java/math/BigInteger", name := "implMulAddCheck", desc := "([I[IIII)V" } : Jvm.MethodName)) ∈ lw_all := lw_g (lw_at lw_m7 27 rfl) rfl
theorem q1508 : (Jvm.Cond.static ({ cls := "java/math/BigInteger", name := "implMulAddCheck", desc := "([I[IIII)V" } : Jvm.MethodName)) ∈ lw_all := lw_g (lw_at lw_m7 28 rfl) rfl
theorem q1509 : (Jvm.Cond.code ({ cls := "java/math/BigInteger", name := "implMulAddCheck", desc := "([I[IIII)V" } : Jvm.MethodName) prog_27_method_95_code (5 : Nat) (Option.none : Option Jvm.ClassFile.FieldType)) ∈ lw_all := lw_g (lw_at lw_m7 29 rfl) rfl
theorem q1510 : (Jvm.Cond.stringRef "java/math/BigInteger" (713 : Nat) "input length is out of bound: ") ∈ lw_tbl := lw_at lw_m7 30 rfl
theorem q1511 : (Jvm.Cond.stringRef "java/math/BigInteger" (715 : Nat) "input offset is invalid: ") ∈ lw_tbl := lw_at lw_m7 31 rfl
theorem q1512 : (Jvm.Cond.stringRef "java/math/BigInteger" (717 : Nat) "input offset is out of bound: ") ∈ lw_tbl := lw_at lw_m7 32 rfl
theorem q1513 : (Jvm.Cond.stringRef "java/math/BigInteger" (719 : Nat) "input len is out of bound: ") ∈ lw_tbl := lw_at lw_m7 33 rfl
theorem q1514 : (Jvm.Cond.methodLink "java/math/BigInteger" (710 : Nat) ({ cls := "java/math/BigInteger", name := "implMulAdd", desc := "([I[IIII)I" } : Jvm.MethodName)) ∈ lw_all := lw_g (lw_at lw_m7 34 rfl) rfl
theorem q1515 : (Jvm.Cond.static ({ cls := "java/math/BigInteger", name := "implMulAdd", desc := "([I[IIII)I" } : Jvm.MethodName)) ∈ lw_all := lw_g (lw_at lw_m7 35 rfl) rfl
theorem q1516 : (Jvm.Cond.code ({ cls := "java/math/BigInteger", name := "implMulAdd", desc := "([I[IIII)I" } : Jvm.MethodName) prog_27_method_96_code (12 : Nat) (Option.some Jvm.ClassFile.FieldType.int)) ∈ lw_all := lw_g (lw_at lw_m7 36 rfl) rfl
theorem q1517 : (Jvm.Cond.methodLink "java/math/BigInteger" (525 : Nat) ({ cls := "java/math/BigInteger", name := "addOne", desc := "([IIII)I" } : Jvm.MethodName)) ∈ lw_all := lw_g (lw_at lw_m7 37 rfl) rfl
theorem q1518 : (Jvm.Cond.static ({ cls := "java/math/BigInteger", name := "addOne", desc := "([IIII)I" } : Jvm.MethodName)) ∈ lw_all := lw_g (lw_at lw_m7 38 rfl) rfl
theorem q1519 : (Jvm.Cond.code ({ cls := "java/math/BigInteger", name := "addOne", desc := "([IIII)I" } : Jvm.MethodName) prog_27_method_97_code (6 : Nat) (Option.some Jvm.ClassFile.FieldType.int)) ∈ lw_all := lw_g (lw_at lw_m7 39 rfl) rfl
theorem q1520 : (Jvm.Cond.methodLink "java/math/BigInteger" (529 : Nat) ({ cls := "java/math/BigInteger", name := "primitiveLeftShift", desc := "([III)V" } : Jvm.MethodName)) ∈ lw_all := lw_g (lw_at lw_m7 40 rfl) rfl
theorem q1521 : (Jvm.Cond.static ({ cls := "java/math/BigInteger", name := "primitiveLeftShift", desc := "([III)V" } : Jvm.MethodName)) ∈ lw_all := lw_g (lw_at lw_m7 41 rfl) rfl
theorem q1522 : (Jvm.Cond.code ({ cls := "java/math/BigInteger", name := "primitiveLeftShift", desc := "([III)V" } : Jvm.MethodName) prog_27_method_77_code (3 : Nat) (Option.none : Option Jvm.ClassFile.FieldType)) ∈ lw_all := lw_g (lw_at lw_m7 42 rfl) rfl
theorem q1523 : (Jvm.Cond.methodLink "java/math/BigInteger" (53 : Nat) ({ cls := "java/math/BigInteger", name := "trustedStripLeadingZeroInts", desc := "([I)[I" } : Jvm.MethodName)) ∈ lw_all := lw_g (lw_at lw_m7 43 rfl) rfl
theorem q1524 : (Jvm.Cond.static ({ cls := "java/math/BigInteger", name := "trustedStripLeadingZeroInts", desc := "([I)[I" } : Jvm.MethodName)) ∈ lw_all := lw_g (lw_at lw_m7 44 rfl) rfl
theorem q1525 : (Jvm.Cond.code ({ cls := "java/math/BigInteger", name := "trustedStripLeadingZeroInts", desc := "([I)[I" } : Jvm.MethodName) prog_27_method_140_code (3 : Nat) (Option.some (Jvm.ClassFile.FieldType.array Jvm.ClassFile.FieldType.int))) ∈ lw_all := lw_g (lw_at lw_m7 45 rfl) rfl
theorem q1526 : (Jvm.Cond.methodLink "java/math/BigInteger" (433 : Nat) ({ cls := "java/util/Arrays", name := "copyOfRange", desc := "([III)[I" } : Jvm.MethodName)) ∈ lw_all := lw_g (lw_at lw_m7 46 rfl) rfl
theorem q1532 : (Jvm.Cond.methodLink "java/math/BigInteger" (495 : Nat) ({ cls := "java/math/BigInteger", name := "squareKaratsuba", desc := "()Ljava/math/BigInteger;" } : Jvm.MethodName)) ∈ lw_all := lw_g (lw_at lw_m7 52 rfl) rfl
theorem q1533 : (Jvm.Cond.privateMethod ({ cls := "java/math/BigInteger", name := "squareKaratsuba", desc := "()Ljava/math/BigInteger;" } : Jvm.MethodName)) ∈ lw_tbl := lw_at lw_m7 53 rfl
theorem q1534 : (Jvm.Cond.instanceMethod ({ cls := "java/math/BigInteger", name := "squareKaratsuba", desc := "()Ljava/math/BigInteger;" } : Jvm.MethodName)) ∈ lw_all := lw_g (lw_at lw_m7 54 rfl) rfl
theorem q1535 : (Jvm.Cond.code ({ cls := "java/math/BigInteger", name := "squareKaratsuba", desc := "()Ljava/math/BigInteger;" } : Jvm.MethodName) prog_27_method_59_code (6 : Nat) (Option.some (Jvm.ClassFile.FieldType.object "java/math/BigInteger"))) ∈ lw_all := lw_g (lw_at lw_m7 55 rfl) rfl
theorem q1536 : (Jvm.Cond.methodLink "java/math/BigInteger" (459 : Nat) ({ cls := "java/math/BigInteger", name := "getLower", desc := "(I)Ljava/math/BigInteger;" } : Jvm.MethodName)) ∈ lw_all := lw_g (lw_at lw_m7 56 rfl) rfl
theorem q1537 : (Jvm.Cond.privateMethod ({ cls := "java/math/BigInteger", name := "getLower", desc := "(I)Ljava/math/BigInteger;" } : Jvm.MethodName)) ∈ lw_tbl := lw_at lw_m7 57 rfl
theorem q1538 : (Jvm.Cond.instanceMethod ({ cls := "java/math/BigInteger", name := "getLower", desc := "(I)Ljava/math/BigInteger;" } : Jvm.MethodName)) ∈ lw_all := lw_g (lw_at lw_m7 58 rfl) rfl
theorem q1539 : (Jvm.Cond.code ({ cls := "java/math/BigInteger", name := "getLower", desc := "(I)Ljava/math/BigInteger;" } : Jvm.MethodName) prog_27_method_52_code (4 : Nat) (Option.some (Jvm.ClassFile.FieldType.object "java/math/BigInteger"))) ∈ lw_all := lw_g (lw_at lw_m7 59 rfl) rfl
theorem q1540 : (Jvm.Cond.methodLink "java/math/BigInteger" (485 : Nat) ({ cls := "java/math/BigInteger", name := "abs", desc := "()Ljava/math/BigInteger;" } : Jvm.MethodName)) ∈ lw_all := lw_g (lw_at lw_m7 60 rfl) rfl
theorem q1541 : (Jvm.Cond.instanceMethod ({ cls := "java/math/BigInteger", name := "abs", desc := "()Ljava/math/BigInteger;" } : Jvm.MethodName)) ∈ lw_all := lw_g (lw_at lw_m7 61 rfl) rfl
theorem q1542 : (Jvm.Cond.selects "java/math/BigInteger" ({ cls := "java/math/BigInteger", name := "abs", desc := "()Ljava/math/BigInteger;" } : Jvm.MethodName) ({ cls := "java/math/BigInteger", name := "abs", desc := "()Ljava/math/BigInteger;" } : Jvm.MethodName)) ∈ lw_all := lw_g (lw_at lw_m7 62 rfl) rfl
theorem q1543 : (Jvm.Cond.code ({ cls := "java/math/BigInteger", name := "abs", desc := "()Ljava/math/BigInteger;" } : Jvm.MethodName) prog_27_method_79_code (1 : Nat) (Option.some (Jvm.ClassFile.FieldType.object "java/math/BigInteger"))) ∈ lw_all := lw_g (lw_at lw_m7 63 rfl) rfl
theorem q1544 : (Jvm.Cond.methodLink "java/math/BigInteger" (394 : Nat) ({ cls := "java/math/BigInteger", name := "negate", desc := "()Ljava/math/BigInteger;" } : Jvm.MethodName)) ∈ lw_all := lw_g (lw_at lw_m7 64 rfl) rfl
theorem q1545 : (Jvm.Cond.instanceMethod ({ cls := "java/math/BigInteger", name := "negate", desc := "()Ljava/math/BigInteger;" } : Jvm.MethodName)) ∈ lw_all := lw_g (lw_at lw_m7 65 rfl) rfl
theorem q1546 : (Jvm.Cond.selects "java/math/BigInteger" ({ cls := "java/math/BigInteger", name := "negate", desc := "()Ljava/math/BigInteger;" } : Jvm.MethodName) ({ cls := "java/math/BigInteger", name := "negate", desc := "()Ljava/math/BigInteger;" } : Jvm.MethodName)) ∈ lw_all := lw_g (lw_at lw_m7 66 rfl) rfl
theorem q1547 : (Jvm.Cond.code ({ cls := "java/math/BigInteger", name := "negate", desc := "()Ljava/math/BigInteger;" } : Jvm.MethodName) prog_27_method_80_code (1 : Nat) (Option.some (Jvm.ClassFile.FieldType.object "java/math/BigInteger"))) ∈ lw_all := lw_g (lw_at lw_m7 67 rfl) rfl
theorem q1548 : (Jvm.Cond.methodLink "java/math/BigInteger" (462 : Nat) ({ cls := "java/math/BigInteger", name := "getUpper", desc := "(I)Ljava/math/BigInteger;" } : Jvm.MethodName)) ∈ lw_all := lw_g (lw_at lw_m7 68 rfl) rfl
theorem q1549 : (Jvm.Cond.privateMethod ({ cls := "java/math/BigInteger", name := "getUpper", desc := "(I)Ljava/math/BigInteger;" } : Jvm.MethodName)) ∈ lw_tbl := lw_at lw_m7 69 rfl
theorem q1550 : (Jvm.Cond.instanceMethod ({ cls := "java/math/BigInteger", name := "getUpper", desc := "(I)Ljava/math/BigInteger;" } : Jvm.MethodName)) ∈ lw_all := lw_g (lw_at lw_m7 70 rfl) rfl
theorem q1551 : (Jvm.Cond.code ({ cls := "java/math/BigInteger", name := "getUpper", desc := "(I)Ljava/math/BigInteger;" } : Jvm.MethodName) prog_27_method_53_code (5 : Nat) (Option.some (Jvm.ClassFile.FieldType.object "java/math/BigInteger"))) ∈ lw_all := lw_g (lw_at lw_m7 71 rfl) rfl
theorem q1552 : (Jvm.Cond.methodLink "java/math/BigInteger" (319 : Nat) ({ cls := "java/math/BigInteger", name := "square", desc := "()Ljava/math/BigInteger;" } : Jvm.MethodName)) ∈ lw_all := lw_g (lw_at lw_m7 72 rfl) rfl
theorem q1553 : (Jvm.Cond.privateMethod ({ cls := "java/math/BigInteger", name := "square", desc := "()Ljava/math/BigInteger;" } : Jvm.MethodName)) ∈ lw_tbl := lw_at lw_m7 73 rfl
theorem q1554 : (Jvm.Cond.instanceMethod ({ cls := "java/math/BigInteger", name := "square", desc := "()Ljava/math/BigInteger;" } : Jvm.MethodName)) ∈ lw_all := lw_g (lw_at lw_m7 74 rfl) rfl
theorem q1555 : (Jvm.Cond.code ({ cls := "java/math/BigInteger", name := "square", desc := "()Ljava/math/BigInteger;" } : Jvm.MethodName) prog_27_method_54_code (1 : Nat) (Option.some (Jvm.ClassFile.FieldType.object "java/math/BigInteger"))) ∈ lw_all := lw_g (lw_at lw_m7 75 rfl) rfl
theorem q1556 : (Jvm.Cond.methodLink "java/math/BigInteger" (465 : Nat) ({ cls := "java/math/BigInteger", name := "shiftLeft", desc := "(I)Ljava/math/BigInteger;" } : Jvm.MethodName)) ∈ lw_all := lw_g (lw_at lw_m7 76 rfl) rfl
theorem q1557 : (Jvm.Cond.methodLink "java/math/BigInteger" (239 : Nat) ({ cls := "java/math/BigInteger", name := "add", desc := "(Ljava/math/BigInteger;)Ljava/math/BigInteger;" } : Jvm.MethodName)) ∈ lw_all := lw_g (lw_at lw_m7 77 rfl) rfl
theorem q1558 : (Jvm.Cond.instanceMethod ({ cls := "java/math/BigInteger", name := "add", desc := "(Ljava/math/BigInteger;)Ljava/math/BigInteger;" } : Jvm.MethodName)) ∈ lw_all := lw_g (lw_at lw_m7 78 rfl) rfl
theorem q1559 : (Jvm.Cond.selects "java/math/BigInteger" ({ cls := "java/math/BigInteger", name := "add", desc := "(Ljava/math/BigInteger;)Ljava/math/BigInteger;" } : Jvm.MethodName) ({ cls := "java/math/BigInteger", name := "add", desc := "(Ljava/math/BigInteger;)Ljava/math/BigInteger;" } : Jvm.MethodName)) ∈ lw_all := lw_g (lw_at lw_m7 79 rfl) rfl
theorem q1560 : (Jvm.Cond.code ({ cls := "java/math/BigInteger", name := "add", desc := "(Ljava/math/BigInteger;)Ljava/math/BigInteger;" } : Jvm.MethodName) prog_27_method_32_code (4 : Nat) (Option.some (Jvm.ClassFile.FieldType.object "java/math/BigInteger"))) ∈ lw_all := lw_g (lw_at lw_m7 80 rfl) rfl
theorem q1561 : (Jvm.Cond.methodLink "java/math/BigInteger" (362 : Nat) ({ cls := "java/math/BigInteger", name := "add", desc := "([I[I)[I" } : Jvm.MethodName)) ∈ lw_all := lw_g (lw_at lw_m7 81 rfl) rfl
theorem q1562 : (Jvm.Cond.static ({ cls := "java/math/BigInteger", name := "add", desc := "([I[I)[I" } : Jvm.MethodName)) ∈ lw_all := lw_g (lw_at lw_m7 82 rfl) rfl
theorem q1563 : (Jvm.Cond.code ({ cls := "java/math/BigInteger", name := "add", desc := "([I[I)[I" } : Jvm.MethodName) prog_27_method_35_code (9 : Nat) (Option.some (Jvm.ClassFile.FieldType.array Jvm.ClassFile.FieldType.int))) ∈ lw_all := lw_g (lw_at lw_m7 83 rfl) rfl
theorem q1564 : (Jvm.Cond.methodLink "java/math/BigInteger" (365 : Nat) ({ cls := "java/math/BigInteger", name := "compareMagnitude", desc := "(Ljava/math/BigInteger;)I" } : Jvm.MethodName)) ∈ lw_all := lw_g (lw_at lw_m7 84 rfl) rfl
theorem q1565 : (Jvm.Cond.instanceMethod ({ cls := "java/math/BigInteger", name := "compareMagnitude", desc := "(Ljava/math/BigInteger;)I" } : Jvm.MethodName)) ∈ lw_all := lw_g (lw_at lw_m7 85 rfl) rfl
theorem q1566 : (Jvm.Cond.selects "java/math/BigInteger" ({ cls := "java/math/BigInteger", name := "compareMagnitude", desc := "(Ljava/math/BigInteger;)I" } : Jvm.MethodName) ({ cls := "java/math/BigInteger", name := "compareMagnitude", desc := "(Ljava/math/BigInteger;)I" } : Jvm.MethodName)) ∈ lw_all := lw_g (lw_at lw_m7 86 rfl) rfl
theorem q1567 : (Jvm.Cond.code ({ cls := "java/math/BigInteger", name := "compareMagnitude", desc := "(Ljava/math/BigInteger;)I" } : Jvm.MethodName) prog_27_method_122_code (9 : Nat) (Option.some Jvm.ClassFile.FieldType.int)) ∈ lw_all := lw_g (lw_at lw_m7 87 rfl) rfl
theorem q1568 : (Jvm.Cond.methodLink "java/math/BigInteger" (368 : Nat) ({ cls := "java/math/BigInteger", name := "subtract", desc := "([I[I)[I" } : Jvm.MethodName)) ∈ lw_all := lw_g (lw_at lw_m7 88 rfl) rfl
theorem q1569 : (Jvm.Cond.static ({ cls := "java/math/BigInteger", name := "subtract", desc := "([I[I)[I" } : Jvm.MethodName)) ∈ lw_all := lw_g (lw_at lw_m7 89 rfl) rfl
theorem q1570 : (Jvm.Cond.code ({ cls := "java/math/BigInteger", name := "subtract", desc := "([I[I)[I" } : Jvm.MethodName) prog_27_method_39_code (8 : Nat) (Option.some (Jvm.ClassFile.FieldType.array Jvm.ClassFile.FieldType.int))) ∈ lw_all := lw_g (lw_at lw_m7 90 rfl) rfl
theorem q1571 : (Jvm.Cond.methodLink "java/math/BigInteger" (272 : Nat) ({ cls := "java/math/BigInteger", name := "subtract", desc := "(Ljava/math/BigInteger;)Ljava/math/BigInteger;" } : Jvm.MethodName)) ∈ lw_all := lw_g (lw_at lw_m7 91 rfl) rfl
theorem q1572 : (Jvm.Cond.instanceMethod ({ cls := "java/math/BigInteger", name := "subtract", desc := "(Ljava/math/BigInteger;)Ljava/math/BigInteger;" } : Jvm.MethodName)) ∈ lw_all := lw_g (lw_at lw_m7 92 rfl) rfl
theorem q1573 : (Jvm.Cond.selects "java/math/BigInteger" ({ cls := "java/math/BigInteger", name := "subtract", desc := "(Ljava/math/BigInteger;)Ljava/math/BigInteger;" } : Jvm.MethodName) ({ cls := "java/math/BigInteger", name := "subtract", desc := "(Ljava/math/BigInteger;)Ljava/math/BigInteger;" } : Jvm.MethodName)) ∈ lw_all := lw_g (lw_at lw_m7 93 rfl) rfl
theorem q1574 : (Jvm.Cond.code ({ cls := "java/math/BigInteger", name := "subtract", desc := "(Ljava/math/BigInteger;)Ljava/math/BigInteger;" } : Jvm.MethodName) prog_27_method_38_code (4 : Nat) (Option.some (Jvm.ClassFile.FieldType.object "java/math/BigInteger"))) ∈ lw_all := lw_g (lw_at lw_m7 94 rfl) rfl
theorem q1575 : (Jvm.Cond.methodLink "java/math/BigInteger" (403 : Nat) ({ cls := "java/math/BigInteger", name := "multiplyByInt", desc := "([III)Ljava/math/BigInteger;" } : Jvm.MethodName)) ∈ lw_all := lw_g (lw_at lw_m7 95 rfl) rfl
theorem q1576 : (Jvm.Cond.static ({ cls := "java/math/BigInteger", name := "multiplyByInt", desc := "([III)Ljava/math/BigInteger;" } : Jvm.MethodName)) ∈ lw_all := lw_g (lw_at lw_m7 96 rfl) rfl
theorem q1577 : (Jvm.Cond.code ({ cls := "java/math/BigInteger", name := "multiplyByInt", desc := "([III)Ljava/math/BigInteger;" } : Jvm.MethodName) prog_27_method_43_code (13 : Nat) (Option.some (Jvm.ClassFile.FieldType.object "java/math/BigInteger"))) ∈ lw_all := lw_g (lw_at lw_m7 97 rfl) rfl
theorem q1578 : (Jvm.Cond.methodLink "java/math/BigInteger" (426 : Nat) ({ cls := "java/lang/Integer", name := "numberOfTrailingZeros", desc := "(I)I" } : Jvm.MethodName)) ∈ lw_all := lw_g (lw_at lw_m7 98 rfl) rfl
theorem q1581 : (Jvm.Cond.methodLink "java/math/BigInteger" (407 : Nat) ({ cls := "java/math/BigInteger", name := "multiplyToLen", desc := "([II[II[I)[I" } : Jvm.MethodName)) ∈ lw_all := lw_g (lw_at lw_m7 101 rfl) rfl
theorem q1582 : (Jvm.Cond.static ({ cls := "java/math/BigInteger", name := "multiplyToLen", desc := "([II[II[I)[I" } : Jvm.MethodName)) ∈ lw_all := lw_g (lw_at lw_m7 102 rfl) rfl
theorem q1583 : (Jvm.Cond.code ({ cls := "java/math/BigInteger", name := "multiplyToLen", desc := "([II[II[I)[I" } : Jvm.MethodName) prog_27_method_45_code (5 : Nat) (Option.some (Jvm.ClassFile.FieldType.array Jvm.ClassFile.FieldType.int))) ∈ lw_all := lw_g (lw_at lw_m7 103 rfl) rfl
theorem q1584 : (Jvm.Cond.methodLink "java/math/BigInteger" (441 : Nat) ({ cls := "java/math/BigInteger", name := "multiplyToLenCheck", desc := "([II)V" } : Jvm.MethodName)) ∈ lw_all := lw_g (lw_at lw_m7 104 rfl) rfl
theorem q1585 : (Jvm.Cond.static ({ cls := "java/math/BigInteger", name := "multiplyToLenCheck", desc := "([II)V" } : Jvm.MethodName)) ∈ lw_all := lw_g (lw_at lw_m7 105 rfl) rfl
theorem q1586 : (Jvm.Cond.code ({ cls := "java/math/BigInteger", name := "multiplyToLenCheck", desc := "([II)V" } : Jvm.MethodName) prog_27_method_47_code (2 : Nat) (Option.none : Option Jvm.ClassFile.FieldType)) ∈ lw_all := lw_g (lw_at lw_m7 106 rfl) rfl
theorem q1587 : (Jvm.Cond.methodLink "java/math/BigInteger" (447 : Nat) ({ cls := "java/util/Objects", name := "requireNonNull", desc := "(Ljava/lang/Object;)Ljava/lang/Object;" } : Jvm.MethodName)) ∈ lw_all := lw_g (lw_at lw_m7 107 rfl) rfl
theorem q1590 : (Jvm.Cond.classLink "java/math/BigInteger" (451 : Nat) "java/lang/ArrayIndexOutOfBoundsException") ∈ lw_all := lw_g (lw_at lw_m7 110 rfl) rfl
theorem q1591 : (Jvm.Cond.methodLink "java/math/BigInteger" (453 : Nat) ({ cls := "java/lang/ArrayIndexOutOfBoundsException", name := "<init>", desc := "(I)V" } : Jvm.MethodName)) ∈ lw_all := lw_g (lw_at lw_m7 111 rfl) rfl
theorem q1600 : (Jvm.Cond.methodLink "java/math/BigInteger" (444 : Nat) ({ cls := "java/math/BigInteger", name := "implMultiplyToLen", desc := "([II[II[I)[I" } : Jvm.MethodName)) ∈ lw_all := lw_g (lw_at lw_m7 120 rfl) rfl
theorem q1601 : (Jvm.Cond.static ({ cls := "java/math/BigInteger", name := "implMultiplyToLen", desc := "([II[II[I)[I" } : Jvm.MethodName)) ∈ lw_all := lw_g (lw_at lw_m7 121 rfl) rfl
theorem q1602 : (Jvm.Cond.code ({ cls := "java/math/BigInteger", name := "implMultiplyToLen", desc := "([II[II[I)[I" } : Jvm.MethodName) prog_27_method_46_code (14 : Nat) (Option.some (Jvm.ClassFile.FieldType.array Jvm.ClassFile.FieldType.int))) ∈ lw_all := lw_g (lw_at lw_m7 122 rfl) rfl
theorem q1603 : (Jvm.Cond.methodLink "java/math/BigInteger" (411 : Nat) ({ cls := "java/math/BigInteger", name := "multiplyKaratsuba", desc := "(Ljava/math/BigInteger;Ljava/math/BigInteger;)Ljava/math/BigInteger;" } : Jvm.MethodName)) ∈ lw_all := lw_g (lw_at lw_m7 123 rfl) rfl
theorem q1604 : (Jvm.Cond.static ({ cls := "java/math/BigInteger", name := "multiplyKaratsuba", desc := "(Ljava/math/BigInteger;Ljava/math/BigInteger;)Ljava/math/BigInteger;" } : Jvm.MethodName)) ∈ lw_all := lw_g (lw_at lw_m7 124 rfl) rfl
theorem q1605 : (Jvm.Cond.code ({ cls := "java/math/BigInteger", name := "multiplyKaratsuba", desc := "(Ljava/math/BigInteger;Ljava/math/BigInteger;)Ljava/math/BigInteger;" } : Jvm.MethodName) prog_27_method_48_code (13 : Nat) (Option.some (Jvm.ClassFile.FieldType.object "java/math/BigInteger"))) ∈ lw_all := lw_g (lw_at lw_m7 125 rfl) rfl
theorem q1606 : (Jvm.Cond.methodLink "java/math/BigInteger" (456 : Nat) ({ cls := "java/lang/Math", name := "max", desc := "(II)I" } : Jvm.MethodName)) ∈ lw_all := lw_g (lw_at lw_m7 126 rfl) rfl
theorem q1607 : (Jvm.Cond.methodLink "java/math/BigInteger" (316 : Nat) ({ cls := "java/math/BigInteger", name := "multiply", desc := "(Ljava/math/BigInteger;)Ljava/math/BigInteger;" } : Jvm.MethodName)) ∈ lw_all := lw_g (lw_at lw_m7 127 rfl) rfl
theorem q1609 : (Jvm.Cond.instanceMethod ({ cls := "java/math/BigInteger", name := "compareTo", desc := "(Ljava/math/BigInteger;)I" } : Jvm.MethodName)) ∈ lw_all := lw_g (lw_at lw_m7 129 rfl) rfl
theorem q1610 : (Jvm.Cond.selects "java/math/BigInteger" ({ cls := "java/math/BigInteger", name := "compareTo", desc := "(Ljava/math/BigInteger;)I" } : Jvm.MethodName) ({ cls := "java/math/BigInteger", name := "compareTo", desc := "(Ljava/math/BigInteger;)I" } : Jvm.MethodName)) ∈ lw_all := lw_g (lw_at lw_m7 130 rfl) rfl
theorem q1611 : (Jvm.Cond.code ({ cls := "java/math/BigInteger", name := "compareTo", desc := "(Ljava/math/BigInteger;)I" } : Jvm.MethodName) prog_27_method_121_code (2 : Nat) (Option.some Jvm.ClassFile.FieldType.int)) ∈ lw_all := lw_g (lw_at lw_m7 131 rfl) rfl
theorem in_J15 : ∀ w ∈ wsJ150, w ∈ lw_all := lw_in wsJ150 [1367, 1369, 1371, 1373, 1375, 1377] (by decide +kernel) (by decide +kernel)

/-! java/util/Arrays -/
set_option maxRecDepth 100000
def RJ16 : String := "java/util/Arrays"
abbrev cJ16_copyOf : ByteArray := prog_28_method_121_code
def yJ16_copyOf : MethodName := ⟨RJ16, "copyOf", "([BI)[B"⟩
def dkwJ16_copyOf_1 : List UInt8 := [27, 184, 1, 48, 184, 0, 150, 44, 176]
abbrev dktJ16_copyOf_1 : List UInt8 := dkwJ16_copyOf_1 ++ []
def dkwJ16_copyOf_0 : List UInt8 := [27, 42, 190, 160, 0, 11, 42, 182, 1, 54, 192, 1, 55, 176, 27, 188, 8, 77, 42, 3, 44, 3, 42, 190]
abbrev dktJ16_copyOf_0 : List UInt8 := dkwJ16_copyOf_0 ++ dktJ16_copyOf_1
theorem dksJ16_copyOf_0 : cJ16_copyOf.data.toList.drop 0 = dktJ16_copyOf_0 := by decide +kernel
theorem dksJ16_copyOf_1 : cJ16_copyOf.data.toList.drop 24 = dktJ16_copyOf_1 := dk_seg dksJ16_copyOf_0 24 rfl rfl
theorem dJ16_copyOf_0 : decode cJ16_copyOf 0 = .ok (.iload_n 1, 1) := dk_27 (dk_at dksJ16_copyOf_0 0 rfl rfl)
theorem dJ16_copyOf_1 : decode cJ16_copyOf 1 = .ok (.aload_n 0, 1) := dk_42 (dk_at dksJ16_copyOf_0 1 rfl rfl)
theorem dJ16_copyOf_2 : decode cJ16_copyOf 2 = .ok (.arraylength, 1) := dk_190 (dk_at dksJ16_copyOf_0 2 rfl rfl)
theorem dJ16_copyOf_3 : decode cJ16_copyOf 3 = .ok (.if_icmp .ne 11, 3) := dk_160 0 11 (dk_at dksJ16_copyOf_0 3 rfl rfl)
theorem dJ16_copyOf_6 : decode cJ16_copyOf 6 = .ok (.aload_n 0, 1) := dk_42 (dk_at dksJ16_copyOf_0 6 rfl rfl)
theorem dJ16_copyOf_7 : decode cJ16_copyOf 7 = .ok (.invokevirtual 310, 3) := dk_182 1 54 (dk_at dksJ16_copyOf_0 7 rfl rfl)
theorem dJ16_copyOf_10 : decode cJ16_copyOf 10 = .ok (.checkcast 311, 3) := dk_192 1 55 (dk_at dksJ16_copyOf_0 10 rfl rfl)
theorem dJ16_copyOf_13 : decode cJ16_copyOf 13 = .ok (.areturn, 1) := dk_176 (dk_at dksJ16_copyOf_0 13 rfl rfl)
theorem dJ16_copyOf_14 : decode cJ16_copyOf 14 = .ok (.iload_n 1, 1) := dk_27 (dk_at dksJ16_copyOf_0 14 rfl rfl)
theorem dJ16_copyOf_15 : decode cJ16_copyOf 15 = .ok (.newarray .byte, 2) := dk_188_8 (dk_at dksJ16_copyOf_0 15 rfl rfl)
theorem dJ16_copyOf_17 : decode cJ16_copyOf 17 = .ok (.astore_n 2, 1) := dk_77 (dk_at dksJ16_copyOf_0 17 rfl rfl)
theorem dJ16_copyOf_18 : decode cJ16_copyOf 18 = .ok (.aload_n 0, 1) := dk_42 (dk_at dksJ16_copyOf_0 18 rfl rfl)
theorem dJ16_copyOf_19 : decode cJ16_copyOf 19 = .ok (.iconst 0, 1) := dk_3 (dk_at dksJ16_copyOf_0 19 rfl rfl)
theorem dJ16_copyOf_20 : decode cJ16_copyOf 20 = .ok (.aload_n 2, 1) := dk_44 (dk_at dksJ16_copyOf_0 20 rfl rfl)
theorem dJ16_copyOf_21 : decode cJ16_copyOf 21 = .ok (.iconst 0, 1) := dk_3 (dk_at dksJ16_copyOf_0 21 rfl rfl)
theorem dJ16_copyOf_22 : decode cJ16_copyOf 22 = .ok (.aload_n 0, 1) := dk_42 (dk_at dksJ16_copyOf_0 22 rfl rfl)
theorem dJ16_copyOf_23 : decode cJ16_copyOf 23 = .ok (.arraylength, 1) := dk_190 (dk_at dksJ16_copyOf_0 23 rfl rfl)
theorem dJ16_copyOf_24 : decode cJ16_copyOf 24 = .ok (.iload_n 1, 1) := dk_27 (dk_at dksJ16_copyOf_1 0 rfl rfl)
theorem dJ16_copyOf_25 : decode cJ16_copyOf 25 = .ok (.invokestatic 304, 3) := dk_184 1 48 (dk_at dksJ16_copyOf_1 1 rfl rfl)
theorem dJ16_copyOf_28 : decode cJ16_copyOf 28 = .ok (.invokestatic 150, 3) := dk_184 0 150 (dk_at dksJ16_copyOf_1 4 rfl rfl)
theorem dJ16_copyOf_31 : decode cJ16_copyOf 31 = .ok (.aload_n 2, 1) := dk_44 (dk_at dksJ16_copyOf_1 7 rfl rfl)
theorem dJ16_copyOf_32 : decode cJ16_copyOf 32 = .ok (.areturn, 1) := dk_176 (dk_at dksJ16_copyOf_1 8 rfl rfl)
abbrev cJ16_copyOfRange : ByteArray := prog_28_method_132_code
def yJ16_copyOfRange : MethodName := ⟨RJ16, "copyOfRange", "([BII)[B"⟩
def dkwJ16_copyOfRange_1 : List UInt8 := [176]
abbrev dktJ16_copyOfRange_1 : List UInt8 := dkwJ16_copyOfRange_1 ++ []
def dkwJ16_copyOfRange_0 : List UInt8 := [27, 154, 0, 9, 28, 42, 190, 159, 0, 10, 42, 27, 28, 184, 1, 83, 176, 42, 182, 1, 54, 192, 1, 55]
abbrev dktJ16_copyOfRange_0 : List UInt8 := dkwJ16_copyOfRange_0 ++ dktJ16_copyOfRange_1
theorem dksJ16_copyOfRange_0 : cJ16_copyOfRange.data.toList.drop 0 = dktJ16_copyOfRange_0 := by decide +kernel
theorem dksJ16_copyOfRange_1 : cJ16_copyOfRange.data.toList.drop 24 = dktJ16_copyOfRange_1 := dk_seg dksJ16_copyOfRange_0 24 rfl rfl
theorem dJ16_copyOfRange_0 : decode cJ16_copyOfRange 0 = .ok (.iload_n 1, 1) := dk_27 (dk_at dksJ16_copyOfRange_0 0 rfl rfl)
theorem dJ16_copyOfRange_1 : decode cJ16_copyOfRange 1 = .ok (.ifCond .ne 9, 3) := dk_154 0 9 (dk_at dksJ16_copyOfRange_0 1 rfl rfl)
theorem dJ16_copyOfRange_4 : decode cJ16_copyOfRange 4 = .ok (.iload_n 2, 1) := dk_28 (dk_at dksJ16_copyOfRange_0 4 rfl rfl)
theorem dJ16_copyOfRange_5 : decode cJ16_copyOfRange 5 = .ok (.aload_n 0, 1) := dk_42 (dk_at dksJ16_copyOfRange_0 5 rfl rfl)
theorem dJ16_copyOfRange_6 : decode cJ16_copyOfRange 6 = .ok (.arraylength, 1) := dk_190 (dk_at dksJ16_copyOfRange_0 6 rfl rfl)
theorem dJ16_copyOfRange_7 : decode cJ16_copyOfRange 7 = .ok (.if_icmp .eq 10, 3) := dk_159 0 10 (dk_at dksJ16_copyOfRange_0 7 rfl rfl)
theorem dJ16_copyOfRange_10 : decode cJ16_copyOfRange 10 = .ok (.aload_n 0, 1) := dk_42 (dk_at dksJ16_copyOfRange_0 10 rfl rfl)
theorem dJ16_copyOfRange_11 : decode cJ16_copyOfRange 11 = .ok (.iload_n 1, 1) := dk_27 (dk_at dksJ16_copyOfRange_0 11 rfl rfl)
theorem dJ16_copyOfRange_12 : decode cJ16_copyOfRange 12 = .ok (.iload_n 2, 1) := dk_28 (dk_at dksJ16_copyOfRange_0 12 rfl rfl)
theorem dJ16_copyOfRange_13 : decode cJ16_copyOfRange 13 = .ok (.invokestatic 339, 3) := dk_184 1 83 (dk_at dksJ16_copyOfRange_0 13 rfl rfl)
theorem dJ16_copyOfRange_16 : decode cJ16_copyOfRange 16 = .ok (.areturn, 1) := dk_176 (dk_at dksJ16_copyOfRange_0 16 rfl rfl)
theorem dJ16_copyOfRange_17 : decode cJ16_copyOfRange 17 = .ok (.aload_n 0, 1) := dk_42 (dk_at dksJ16_copyOfRange_0 17 rfl rfl)
theorem dJ16_copyOfRange_18 : decode cJ16_copyOfRange 18 = .ok (.invokevirtual 310, 3) := dk_182 1 54 (dk_at dksJ16_copyOfRange_0 18 rfl rfl)
theorem dJ16_copyOfRange_21 : decode cJ16_copyOfRange 21 = .ok (.checkcast 311, 3) := dk_192 1 55 (dk_at dksJ16_copyOfRange_0 21 rfl rfl)
theorem dJ16_copyOfRange_24 : decode cJ16_copyOfRange 24 = .ok (.areturn, 1) := dk_176 (dk_at dksJ16_copyOfRange_1 0 rfl rfl)
abbrev cJ16_copyOfRangeByte : ByteArray := prog_28_method_133_code
def yJ16_copyOfRangeByte : MethodName := ⟨RJ16, "copyOfRangeByte", "([BII)[B"⟩
def dkwJ16_copyOfRangeByte_1 : List UInt8 := [184, 1, 48, 184, 0, 150, 25, 4, 176]
abbrev dktJ16_copyOfRangeByte_1 : List UInt8 := dkwJ16_copyOfRangeByte_1 ++ []
def dkwJ16_copyOfRangeByte_0 : List UInt8 := [27, 28, 184, 1, 87, 28, 27, 100, 62, 29, 188, 8, 58, 4, 42, 27, 25, 4, 3, 42, 190, 27, 100, 29]
abbrev dktJ16_copyOfRangeByte_0 : List UInt8 := dkwJ16_copyOfRangeByte_0 ++ dktJ16_copyOfRangeByte_1
theorem dksJ16_copyOfRangeByte_0 : cJ16_copyOfRangeByte.data.toList.drop 0 = dktJ16_copyOfRangeByte_0 := by decide +kernel
theorem dksJ16_copyOfRangeByte_1 : cJ16_copyOfRangeByte.data.toList.drop 24 = dktJ16_copyOfRangeByte_1 := dk_seg dksJ16_copyOfRangeByte_0 24 rfl rfl
theorem dJ16_copyOfRangeByte_0 : decode cJ16_copyOfRangeByte 0 = .ok (.iload_n 1, 1) := dk_27 (dk_at dksJ16_copyOfRangeByte_0 0 rfl rfl)
theorem dJ16_copyOfRangeByte_1 : decode cJ16_copyOfRangeByte 1 = .ok (.iload_n 2, 1) := dk_28 (dk_at dksJ16_copyOfRangeByte_0 1 rfl rfl)
theorem dJ16_copyOfRangeByte_2 : decode cJ16_copyOfRangeByte 2 = .ok (.invokestatic 343, 3) := dk_184 1 87 (dk_at dksJ16_copyOfRangeByte_0 2 rfl rfl)
theorem dJ16_copyOfRangeByte_5 : decode cJ16_copyOfRangeByte 5 = .ok (.iload_n 2, 1) := dk_28 (dk_at dksJ16_copyOfRangeByte_0 5 rfl rfl)
theorem dJ16_copyOfRangeByte_6 : decode cJ16_copyOfRangeByte 6 = .ok (.iload_n 1, 1) := dk_27 (dk_at dksJ16_copyOfRangeByte_0 6 rfl rfl)
theorem dJ16_copyOfRangeByte_7 : decode cJ16_copyOfRangeByte 7 = .ok (.isub, 1) := dk_100 (dk_at dksJ16_copyOfRangeByte_0 7 rfl rfl)
theorem dJ16_copyOfRangeByte_8 : decode cJ16_copyOfRangeByte 8 = .ok (.istore_n 3, 1) := dk_62 (dk_at dksJ16_copyOfRangeByte_0 8 rfl rfl)
theorem dJ16_copyOfRangeByte_9 : decode cJ16_copyOfRangeByte 9 = .ok (.iload_n 3, 1) := dk_29 (dk_at dksJ16_copyOfRangeByte_0 9 rfl rfl)
theorem dJ16_copyOfRangeByte_10 : decode cJ16_copyOfRangeByte 10 = .ok (.newarray .byte, 2) := dk_188_8 (dk_at dksJ16_copyOfRangeByte_0 10 rfl rfl)
theorem dJ16_copyOfRangeByte_12 : decode cJ16_copyOfRangeByte 12 = .ok (.astore 4, 2) := dk_58 4 (dk_at dksJ16_copyOfRangeByte_0 12 rfl rfl)
theorem dJ16_copyOfRangeByte_14 : decode cJ16_copyOfRangeByte 14 = .ok (.aload_n 0, 1) := dk_42 (dk_at dksJ16_copyOfRangeByte_0 14 rfl rfl)
theorem dJ16_copyOfRangeByte_15 : decode cJ16_copyOfRangeByte 15 = .ok (.iload_n 1, 1) := dk_27 (dk_at dksJ16_copyOfRangeByte_0 15 rfl rfl)
theorem dJ16_copyOfRangeByte_16 : decode cJ16_copyOfRangeByte 16 = .ok (.aload 4, 2) := dk_25 4 (dk_at dksJ16_copyOfRangeByte_0 16 rfl rfl)
theorem dJ16_copyOfRangeByte_18 : decode cJ16_copyOfRangeByte 18 = .ok (.iconst 0, 1) := dk_3 (dk_at dksJ16_copyOfRangeByte_0 18 rfl rfl)
theorem dJ16_copyOfRangeByte_19 : decode cJ16_copyOfRangeByte 19 = .ok (.aload_n 0, 1) := dk_42 (dk_at dksJ16_copyOfRangeByte_0 19 rfl rfl)
theorem dJ16_copyOfRangeByte_20 : decode cJ16_copyOfRangeByte 20 = .ok (.arraylength, 1) := dk_190 (dk_at dksJ16_copyOfRangeByte_0 20 rfl rfl)
theorem dJ16_copyOfRangeByte_21 : decode cJ16_copyOfRangeByte 21 = .ok (.iload_n 1, 1) := dk_27 (dk_at dksJ16_copyOfRangeByte_0 21 rfl rfl)
theorem dJ16_copyOfRangeByte_22 : decode cJ16_copyOfRangeByte 22 = .ok (.isub, 1) := dk_100 (dk_at dksJ16_copyOfRangeByte_0 22 rfl rfl)
theorem dJ16_copyOfRangeByte_23 : decode cJ16_copyOfRangeByte 23 = .ok (.iload_n 3, 1) := dk_29 (dk_at dksJ16_copyOfRangeByte_0 23 rfl rfl)
theorem dJ16_copyOfRangeByte_24 : decode cJ16_copyOfRangeByte 24 = .ok (.invokestatic 304, 3) := dk_184 1 48 (dk_at dksJ16_copyOfRangeByte_1 0 rfl rfl)
theorem dJ16_copyOfRangeByte_27 : decode cJ16_copyOfRangeByte 27 = .ok (.invokestatic 150, 3) := dk_184 0 150 (dk_at dksJ16_copyOfRangeByte_1 3 rfl rfl)
theorem dJ16_copyOfRangeByte_30 : decode cJ16_copyOfRangeByte 30 = .ok (.aload 4, 2) := dk_25 4 (dk_at dksJ16_copyOfRangeByte_1 6 rfl rfl)
theorem dJ16_copyOfRangeByte_32 : decode cJ16_copyOfRangeByte 32 = .ok (.areturn, 1) := dk_176 (dk_at dksJ16_copyOfRangeByte_1 8 rfl rfl)
abbrev cJ16_checkLength : ByteArray := prog_28_method_131_code
def yJ16_checkLength : MethodName := ⟨RJ16, "checkLength", "(II)V"⟩
def dkwJ16_checkLength_1 : List UInt8 := [182, 0, 50, 27, 182, 0, 54, 182, 0, 61, 183, 0, 65, 191, 177]
abbrev dktJ16_checkLength_1 : List UInt8 := dkwJ16_checkLength_1 ++ []
def dkwJ16_checkLength_0 : List UInt8 := [27, 26, 162, 0, 35, 187, 0, 43, 89, 187, 0, 45, 89, 183, 0, 47, 26, 182, 0, 54, 19, 1, 81]
abbrev dktJ16_checkLength_0 : List UInt8 := dkwJ16_checkLength_0 ++ dktJ16_checkLength_1
theorem dksJ16_checkLength_0 : cJ16_checkLength.data.toList.drop 0 = dktJ16_checkLength_0 := by decide +kernel
theorem dksJ16_checkLength_1 : cJ16_checkLength.data.toList.drop 23 = dktJ16_checkLength_1 := dk_seg dksJ16_checkLength_0 23 rfl rfl
theorem dJ16_checkLength_0 : decode cJ16_checkLength 0 = .ok (.iload_n 1, 1) := dk_27 (dk_at dksJ16_checkLength_0 0 rfl rfl)
theorem dJ16_checkLength_1 : decode cJ16_checkLength 1 = .ok (.iload_n 0, 1) := dk_26 (dk_at dksJ16_checkLength_0 1 rfl rfl)
theorem dJ16_checkLength_2 : decode cJ16_checkLength 2 = .ok (.if_icmp .ge 35, 3) := dk_162 0 35 (dk_at dksJ16_checkLength_0 2 rfl rfl)
theorem dJ16_checkLength_5 : decode cJ16_checkLength 5 = .ok (.new 43, 3) := dk_187 0 43 (dk_at dksJ16_checkLength_0 5 rfl rfl)
theorem dJ16_checkLength_8 : decode cJ16_checkLength 8 = .ok (.dup, 1) := dk_89 (dk_at dksJ16_checkLength_0 8 rfl rfl)
theorem dJ16_checkLength_9 : decode cJ16_checkLength 9 = .ok (.new 45, 3) := dk_187 0 45 (dk_at dksJ16_checkLength_0 9 rfl rfl)
theorem dJ16_checkLength_12 : decode cJ16_checkLength 12 = .ok (.dup, 1) := dk_89 (dk_at dksJ16_checkLength_0 12 rfl rfl)
theorem dJ16_checkLength_13 : decode cJ16_checkLength 13 = .ok (.invokespecial 47, 3) := dk_183 0 47 (dk_at dksJ16_checkLength_0 13 rfl rfl)
theorem dJ16_checkLength_16 : decode cJ16_checkLength 16 = .ok (.iload_n 0, 1) := dk_26 (dk_at dksJ16_checkLength_0 16 rfl rfl)
theorem dJ16_checkLength_17 : decode cJ16_checkLength 17 = .ok (.invokevirtual 54, 3) := dk_182 0 54 (dk_at dksJ16_checkLength_0 17 rfl rfl)
theorem dJ16_checkLength_20 : decode cJ16_checkLength 20 = .ok (.ldc_w 337, 3) := dk_19 1 81 (dk_at dksJ16_checkLength_0 20 rfl rfl)
theorem dJ16_checkLength_23 : decode cJ16_checkLength 23 = .ok (.invokevirtual 50, 3) := dk_182 0 50 (dk_at dksJ16_checkLength_1 0 rfl rfl)
theorem dJ16_checkLength_26 : decode cJ16_checkLength 26 = .ok (.iload_n 1, 1) := dk_27 (dk_at dksJ16_checkLength_1 3 rfl rfl)
theorem dJ16_checkLength_27 : decode cJ16_checkLength 27 = .ok (.invokevirtual 54, 3) := dk_182 0 54 (dk_at dksJ16_checkLength_1 4 rfl rfl)
theorem dJ16_checkLength_30 : decode cJ16_checkLength 30 = .ok (.invokevirtual 61, 3) := dk_182 0 61 (dk_at dksJ16_checkLength_1 7 rfl rfl)
theorem dJ16_checkLength_33 : decode cJ16_checkLength 33 = .ok (.invokespecial 65, 3) := dk_183 0 65 (dk_at dksJ16_checkLength_1 10 rfl rfl)
theorem dJ16_checkLength_36 : decode cJ16_checkLength 36 = .ok (.athrow, 1) := dk_191 (dk_at dksJ16_checkLength_1 13 rfl rfl)
theorem dJ16_checkLength_37 : decode cJ16_checkLength 37 = .ok (.return_, 1) := dk_177 (dk_at dksJ16_checkLength_1 14 rfl rfl)
abbrev cJ16_copyOf_2 : ByteArray := prog_28_method_123_code
def yJ16_copyOf_2 : MethodName := ⟨RJ16, "copyOf", "([II)[I"⟩
def dkwJ16_copyOf_2_1 : List UInt8 := [27, 184, 1, 48, 184, 0, 150, 44, 176]
abbrev dktJ16_copyOf_2_1 : List UInt8 := dkwJ16_copyOf_2_1 ++ []
def dkwJ16_copyOf_2_0 : List UInt8 := [27, 42, 190, 160, 0, 11, 42, 182, 1, 60, 192, 1, 61, 176, 27, 188, 10, 77, 42, 3, 44, 3, 42, 190]
abbrev dktJ16_copyOf_2_0 : List UInt8 := dkwJ16_copyOf_2_0 ++ dktJ16_copyOf_2_1
theorem dksJ16_copyOf_2_0 : cJ16_copyOf_2.data.toList.drop 0 = dktJ16_copyOf_2_0 := by decide +kernel
theorem dksJ16_copyOf_2_1 : cJ16_copyOf_2.data.toList.drop 24 = dktJ16_copyOf_2_1 := dk_seg dksJ16_copyOf_2_0 24 rfl rfl
theorem dJ16_copyOf_2_0 : decode cJ16_copyOf_2 0 = .ok (.iload_n 1, 1) := dk_27 (dk_at dksJ16_copyOf_2_0 0 rfl rfl)
theorem dJ16_copyOf_2_1 : decode cJ16_copyOf_2 1 = .ok (.aload_n 0, 1) := dk_42 (dk_at dksJ16_copyOf_2_0 1 rfl rfl)
theorem dJ16_copyOf_2_2 : decode cJ16_copyOf_2 2 = .ok (.arraylength, 1) := dk_190 (dk_at dksJ16_copyOf_2_0 2 rfl rfl)
theorem dJ16_copyOf_2_3 : decode cJ16_copyOf_2 3 = .ok (.if_icmp .ne 11, 3) := dk_160 0 11 (dk_at dksJ16_copyOf_2_0 3 rfl rfl)
theorem dJ16_copyOf_2_6 : decode cJ16_copyOf_2 6 = .ok (.aload_n 0, 1) := dk_42 (dk_at dksJ16_copyOf_2_0 6 rfl rfl)
theorem dJ16_copyOf_2_7 : decode cJ16_copyOf_2 7 = .ok (.invokevirtual 316, 3) := dk_182 1 60 (dk_at dksJ16_copyOf_2_0 7 rfl rfl)
theorem dJ16_copyOf_2_10 : decode cJ16_copyOf_2 10 = .ok (.checkcast 317, 3) := dk_192 1 61 (dk_at dksJ16_copyOf_2_0 10 rfl rfl)
theorem dJ16_copyOf_2_13 : decode cJ16_copyOf_2 13 = .ok (.areturn, 1) := dk_176 (dk_at dksJ16_copyOf_2_0 13 rfl rfl)
theorem dJ16_copyOf_2_14 : decode cJ16_copyOf_2 14 = .ok (.iload_n 1, 1) := dk_27 (dk_at dksJ16_copyOf_2_0 14 rfl rfl)
theorem dJ16_copyOf_2_15 : decode cJ16_copyOf_2 15 = .ok (.newarray .int, 2) := dk_188_10 (dk_at dksJ16_copyOf_2_0 15 rfl rfl)
theorem dJ16_copyOf_2_17 : decode cJ16_copyOf_2 17 = .ok (.astore_n 2, 1) := dk_77 (dk_at dksJ16_copyOf_2_0 17 rfl rfl)
theorem dJ16_copyOf_2_18 : decode cJ16_copyOf_2 18 = .ok (.aload_n 0, 1) := dk_42 (dk_at dksJ16_copyOf_2_0 18 rfl rfl)
theorem dJ16_copyOf_2_19 : decode cJ16_copyOf_2 19 = .ok (.iconst 0, 1) := dk_3 (dk_at dksJ16_copyOf_2_0 19 rfl rfl)
theorem dJ16_copyOf_2_20 : decode cJ16_copyOf_2 20 = .ok (.aload_n 2, 1) := dk_44 (dk_at dksJ16_copyOf_2_0 20 rfl rfl)
theorem dJ16_copyOf_2_21 : decode cJ16_copyOf_2 21 = .ok (.iconst 0, 1) := dk_3 (dk_at dksJ16_copyOf_2_0 21 rfl rfl)
theorem dJ16_copyOf_2_22 : decode cJ16_copyOf_2 22 = .ok (.aload_n 0, 1) := dk_42 (dk_at dksJ16_copyOf_2_0 22 rfl rfl)
theorem dJ16_copyOf_2_23 : decode cJ16_copyOf_2 23 = .ok (.arraylength, 1) := dk_190 (dk_at dksJ16_copyOf_2_0 23 rfl rfl)
theorem dJ16_copyOf_2_24 : decode cJ16_copyOf_2 24 = .ok (.iload_n 1, 1) := dk_27 (dk_at dksJ16_copyOf_2_1 0 rfl rfl)
theorem dJ16_copyOf_2_25 : decode cJ16_copyOf_2 25 = .ok (.invokestatic 304, 3) := dk_184 1 48 (dk_at dksJ16_copyOf_2_1 1 rfl rfl)
theorem dJ16_copyOf_2_28 : decode cJ16_copyOf_2 28 = .ok (.invokestatic 150, 3) := dk_184 0 150 (dk_at dksJ16_copyOf_2_1 4 rfl rfl)
theorem dJ16_copyOf_2_31 : decode cJ16_copyOf_2 31 = .ok (.aload_n 2, 1) := dk_44 (dk_at dksJ16_copyOf_2_1 7 rfl rfl)
theorem dJ16_copyOf_2_32 : decode cJ16_copyOf_2 32 = .ok (.areturn, 1) := dk_176 (dk_at dksJ16_copyOf_2_1 8 rfl rfl)
abbrev cJ16_copyOfRange_2 : ByteArray := prog_28_method_136_code
def yJ16_copyOfRange_2 : MethodName := ⟨RJ16, "copyOfRange", "([III)[I"⟩
def dkwJ16_copyOfRange_2_1 : List UInt8 := [176]
abbrev dktJ16_copyOfRange_2_1 : List UInt8 := dkwJ16_copyOfRange_2_1 ++ []
def dkwJ16_copyOfRange_2_0 : List UInt8 := [27, 154, 0, 9, 28, 42, 190, 159, 0, 10, 42, 27, 28, 184, 1, 95, 176, 42, 182, 1, 60, 192, 1, 61]
abbrev dktJ16_copyOfRange_2_0 : List UInt8 := dkwJ16_copyOfRange_2_0 ++ dktJ16_copyOfRange_2_1
theorem dksJ16_copyOfRange_2_0 : cJ16_copyOfRange_2.data.toList.drop 0 = dktJ16_copyOfRange_2_0 := by decide +kernel
theorem dksJ16_copyOfRange_2_1 : cJ16_copyOfRange_2.data.toList.drop 24 = dktJ16_copyOfRange_2_1 := dk_seg dksJ16_copyOfRange_2_0 24 rfl rfl
theorem dJ16_copyOfRange_2_0 : decode cJ16_copyOfRange_2 0 = .ok (.iload_n 1, 1) := dk_27 (dk_at dksJ16_copyOfRange_2_0 0 rfl rfl)
theorem dJ16_copyOfRange_2_1 : decode cJ16_copyOfRange_2 1 = .ok (.ifCond .ne 9, 3) := dk_154 0 9 (dk_at dksJ16_copyOfRange_2_0 1 rfl rfl)
theorem dJ16_copyOfRange_2_4 : decode cJ16_copyOfRange_2 4 = .ok (.iload_n 2, 1) := dk_28 (dk_at dksJ16_copyOfRange_2_0 4 rfl rfl)
theorem dJ16_copyOfRange_2_5 : decode cJ16_copyOfRange_2 5 = .ok (.aload_n 0, 1) := dk_42 (dk_at dksJ16_copyOfRange_2_0 5 rfl rfl)
theorem dJ16_copyOfRange_2_6 : decode cJ16_copyOfRange_2 6 = .ok (.arraylength, 1) := dk_190 (dk_at dksJ16_copyOfRange_2_0 6 rfl rfl)
theorem dJ16_copyOfRange_2_7 : decode cJ16_copyOfRange_2 7 = .ok (.if_icmp .eq 10, 3) := dk_159 0 10 (dk_at dksJ16_copyOfRange_2_0 7 rfl rfl)
theorem dJ16_copyOfRange_2_10 : decode cJ16_copyOfRange_2 10 = .ok (.aload_n 0, 1) := dk_42 (dk_at dksJ16_copyOfRange_2_0 10 rfl rfl)
theorem dJ16_copyOfRange_2_11 : decode cJ16_copyOfRange_2 11 = .ok (.iload_n 1, 1) := dk_27 (dk_at dksJ16_copyOfRange_2_0 11 rfl rfl)
theorem dJ16_copyOfRange_2_12 : decode cJ16_copyOfRange_2 12 = .ok (.iload_n 2, 1) := dk_28 (dk_at dksJ16_copyOfRange_2_0 12 rfl rfl)
theorem dJ16_copyOfRange_2_13 : decode cJ16_copyOfRange_2 13 = .ok (.invokestatic 351, 3) := dk_184 1 95 (dk_at dksJ16_copyOfRange_2_0 13 rfl rfl)
theorem dJ16_copyOfRange_2_16 : decode cJ16_copyOfRange_2 16 = .ok (.areturn, 1) := dk_176 (dk_at dksJ16_copyOfRange_2_0 16 rfl rfl)
theorem dJ16_copyOfRange_2_17 : decode cJ16_copyOfRange_2 17 = .ok (.aload_n 0, 1) := dk_42 (dk_at dksJ16_copyOfRange_2_0 17 rfl rfl)
theorem dJ16_copyOfRange_2_18 : decode cJ16_copyOfRange_2 18 = .ok (.invokevirtual 316, 3) := dk_182 1 60 (dk_at dksJ16_copyOfRange_2_0 18 rfl rfl)
theorem dJ16_copyOfRange_2_21 : decode cJ16_copyOfRange_2 21 = .ok (.checkcast 317, 3) := dk_192 1 61 (dk_at dksJ16_copyOfRange_2_0 21 rfl rfl)
theorem dJ16_copyOfRange_2_24 : decode cJ16_copyOfRange_2 24 = .ok (.areturn, 1) := dk_176 (dk_at dksJ16_copyOfRange_2_1 0 rfl rfl)
abbrev cJ16_copyOfRangeInt : ByteArray := prog_28_method_137_code
def yJ16_copyOfRangeInt : MethodName := ⟨RJ16, "copyOfRangeInt", "([III)[I"⟩
def dkwJ16_copyOfRangeInt_1 : List UInt8 := [184, 1, 48, 184, 0, 150, 25, 4, 176]
abbrev dktJ16_copyOfRangeInt_1 : List UInt8 := dkwJ16_copyOfRangeInt_1 ++ []
def dkwJ16_copyOfRangeInt_0 : List UInt8 := [27, 28, 184, 1, 87, 28, 27, 100, 62, 29, 188, 10, 58, 4, 42, 27, 25, 4, 3, 42, 190, 27, 100, 29]
abbrev dktJ16_copyOfRangeInt_0 : List UInt8 := dkwJ16_copyOfRangeInt_0 ++ dktJ16_copyOfRangeInt_1
theorem dksJ16_copyOfRangeInt_0 : cJ16_copyOfRangeInt.data.toList.drop 0 = dktJ16_copyOfRangeInt_0 := by decide +kernel
theorem dksJ16_copyOfRangeInt_1 : cJ16_copyOfRangeInt.data.toList.drop 24 = dktJ16_copyOfRangeInt_1 := dk_seg dksJ16_copyOfRangeInt_0 24 rfl rfl
theorem dJ16_copyOfRangeInt_0 : decode cJ16_copyOfRangeInt 0 = .ok (.iload_n 1, 1) := dk_27 (dk_at dksJ16_copyOfRangeInt_0 0 rfl rfl)
theorem dJ16_copyOfRangeInt_1 : decode cJ16_copyOfRangeInt 1 = .ok (.iload_n 2, 1) := dk_28 (dk_at dksJ16_copyOfRangeInt_0 1 rfl rfl)
theorem dJ16_copyOfRangeInt_2 : decode cJ16_copyOfRangeInt 2 = .ok (.invokestatic 343, 3) := dk_184 1 87 (dk_at dksJ16_copyOfRangeInt_0 2 rfl rfl)
theorem dJ16_copyOfRangeInt_5 : decode cJ16_copyOfRangeInt 5 = .ok (.iload_n 2, 1) := dk_28 (dk_at dksJ16_copyOfRangeInt_0 5 rfl rfl)
theorem dJ16_copyOfRangeInt_6 : decode cJ16_copyOfRangeInt 6 = .ok (.iload_n 1, 1) := dk_27 (dk_at dksJ16_copyOfRangeInt_0 6 rfl rfl)
theorem dJ16_copyOfRangeInt_7 : decode cJ16_copyOfRangeInt 7 = .ok (.isub, 1) := dk_100 (dk_at dksJ16_copyOfRangeInt_0 7 rfl rfl)
theorem dJ16_copyOfRangeInt_8 : decode cJ16_copyOfRangeInt 8 = .ok (.istore_n 3, 1) := dk_62 (dk_at dksJ16_copyOfRangeInt_0 8 rfl rfl)
theorem dJ16_copyOfRangeInt_9 : decode cJ16_copyOfRangeInt 9 = .ok (.iload_n 3, 1) := dk_29 (dk_at dksJ16_copyOfRangeInt_0 9 rfl rfl)
theorem dJ16_copyOfRangeInt_10 : decode cJ16_copyOfRangeInt 10 = .ok (.newarray .int, 2) := dk_188_10 (dk_at dksJ16_copyOfRangeInt_0 10 rfl rfl)
theorem dJ16_copyOfRangeInt_12 : decode cJ16_copyOfRangeInt 12 = .ok (.astore 4, 2) := dk_58 4 (dk_at dksJ16_copyOfRangeInt_0 12 rfl rfl)
theorem dJ16_copyOfRangeInt_14 : decode cJ16_copyOfRangeInt 14 = .ok (.aload_n 0, 1) := dk_42 (dk_at dksJ16_copyOfRangeInt_0 14 rfl rfl)
theorem dJ16_copyOfRangeInt_15 : decode cJ16_copyOfRangeInt 15 = .ok (.iload_n 1, 1) := dk_27 (dk_at dksJ16_copyOfRangeInt_0 15 rfl rfl)
theorem dJ16_copyOfRangeInt_16 : decode cJ16_copyOfRangeInt 16 = .ok (.aload 4, 2) := dk_25 4 (dk_at dksJ16_copyOfRangeInt_0 16 rfl rfl)
theorem dJ16_copyOfRangeInt_18 : decode cJ16_copyOfRangeInt 18 = .ok (.iconst 0, 1) := dk_3 (dk_at dksJ16_copyOfRangeInt_0 18 rfl rfl)
theorem dJ16_copyOfRangeInt_19 : decode cJ16_copyOfRangeInt 19 = .ok (.aload_n 0, 1) := dk_42 (dk_at dksJ16_copyOfRangeInt_0 19 rfl rfl)
theorem dJ16_copyOfRangeInt_20 : decode cJ16_copyOfRangeInt 20 = .ok (.arraylength, 1) := dk_190 (dk_at dksJ16_copyOfRangeInt_0 20 rfl rfl)
theorem dJ16_copyOfRangeInt_21 : decode cJ16_copyOfRangeInt 21 = .ok (.iload_n 1, 1) := dk_27 (dk_at dksJ16_copyOfRangeInt_0 21 rfl rfl)
theorem dJ16_copyOfRangeInt_22 : decode cJ16_copyOfRangeInt 22 = .ok (.isub, 1) := dk_100 (dk_at dksJ16_copyOfRangeInt_0 22 rfl rfl)
theorem dJ16_copyOfRangeInt_23 : decode cJ16_copyOfRangeInt 23 = .ok (.iload_n 3, 1) := dk_29 (dk_at dksJ16_copyOfRangeInt_0 23 rfl rfl)
theorem dJ16_copyOfRangeInt_24 : decode cJ16_copyOfRangeInt 24 = .ok (.invokestatic 304, 3) := dk_184 1 48 (dk_at dksJ16_copyOfRangeInt_1 0 rfl rfl)
theorem dJ16_copyOfRangeInt_27 : decode cJ16_copyOfRangeInt 27 = .ok (.invokestatic 150, 3) := dk_184 0 150 (dk_at dksJ16_copyOfRangeInt_1 3 rfl rfl)
theorem dJ16_copyOfRangeInt_30 : decode cJ16_copyOfRangeInt 30 = .ok (.aload 4, 2) := dk_25 4 (dk_at dksJ16_copyOfRangeInt_1 6 rfl rfl)
theorem dJ16_copyOfRangeInt_32 : decode cJ16_copyOfRangeInt 32 = .ok (.areturn, 1) := dk_176 (dk_at dksJ16_copyOfRangeInt_1 8 rfl rfl)
theorem q61 : (Jvm.Cond.initialized "java/util/Arrays") ∈ lw_all := lw_g (lw_at lw_m1 21 rfl) rfl
theorem q788 : (Jvm.Cond.static ({ cls := "java/util/Arrays", name := "copyOf", desc := "([BI)[B" } : Jvm.MethodName)) ∈ lw_all := lw_g (lw_at lw_m4 28 rfl) rfl
theorem q789 : (Jvm.Cond.code ({ cls := "java/util/Arrays", name := "copyOf", desc := "([BI)[B" } : Jvm.MethodName) prog_28_method_121_code (3 : Nat) (Option.some (Jvm.ClassFile.FieldType.array Jvm.ClassFile.FieldType.byte))) ∈ lw_all := lw_g (lw_at lw_m4 29 rfl) rfl
theorem q790 : (Jvm.Cond.methodLink "java/util/Arrays" (310 : Nat) ({ cls := "[B", name := "clone", desc := "()Ljava/lang/Object;" } : Jvm.MethodName)) ∈ lw_all := lw_g (lw_at lw_m4 30 rfl) rfl
theorem q796 : (Jvm.Cond.classLink "java/util/Arrays" (311 : Nat) "[B") ∈ lw_all := lw_g (lw_at lw_m4 36 rfl) rfl
theorem q797 : (Jvm.Cond.methodLink "java/util/Arrays" (304 : Nat) ({ cls := "java/lang/Math", name := "min", desc := "(II)I" } : Jvm.MethodName)) ∈ lw_all := lw_g (lw_at lw_m4 37 rfl) rfl
theorem q798 : (Jvm.Cond.methodLink "java/util/Arrays" (150 : Nat) ({ cls := "java/lang/System", name := "arraycopy", desc := "(Ljava/lang/Object;ILjava/lang/Object;II)V" } : Jvm.MethodName)) ∈ lw_all := lw_g (lw_at lw_m4 38 rfl) rfl
theorem q927 : (Jvm.Cond.static ({ cls := "java/util/Arrays", name := "copyOfRange", desc := "([BII)[B" } : Jvm.MethodName)) ∈ lw_all := lw_g (lw_at lw_m4 167 rfl) rfl
theorem q928 : (Jvm.Cond.code ({ cls := "java/util/Arrays", name := "copyOfRange", desc := "([BII)[B" } : Jvm.MethodName) prog_28_method_132_code (3 : Nat) (Option.some (Jvm.ClassFile.FieldType.array Jvm.ClassFile.FieldType.byte))) ∈ lw_all := lw_g (lw_at lw_m4 168 rfl) rfl
theorem q929 : (Jvm.Cond.methodLink "java/util/Arrays" (339 : Nat) ({ cls := "java/util/Arrays", name := "copyOfRangeByte", desc := "([BII)[B" } : Jvm.MethodName)) ∈ lw_all := lw_g (lw_at lw_m4 169 rfl) rfl
theorem q930 : (Jvm.Cond.static ({ cls := "java/util/Arrays", name := "copyOfRangeByte", desc := "([BII)[B" } : Jvm.MethodName)) ∈ lw_all := lw_g (lw_at lw_m4 170 rfl) rfl
theorem q931 : (Jvm.Cond.code ({ cls := "java/util/Arrays", name := "copyOfRangeByte", desc := "([BII)[B" } : Jvm.MethodName) prog_28_method_133_code (5 : Nat) (Option.some (Jvm.ClassFile.FieldType.array Jvm.ClassFile.FieldType.byte))) ∈ lw_all := lw_g (lw_at lw_m4 171 rfl) rfl
theorem q932 : (Jvm.Cond.methodLink "java/util/Arrays" (343 : Nat) ({ cls := "java/util/Arrays", name := "checkLength", desc := "(II)V" } : Jvm.MethodName)) ∈ lw_all := lw_g (lw_at lw_m4 172 rfl) rfl
theorem q933 : (Jvm.Cond.static ({ cls := "java/util/Arrays", name := "checkLength", desc := "(II)V" } : Jvm.MethodName)) ∈ lw_all := lw_g (lw_at lw_m4 173 rfl) rfl
theorem q934 : (Jvm.Cond.code ({ cls := "java/util/Arrays", name := "checkLength", desc := "(II)V" } : Jvm.MethodName) prog_28_method_131_code (2 : Nat) (Option.none : Option Jvm.ClassFile.FieldType)) ∈ lw_all := lw_g (lw_at lw_m4 174 rfl) rfl
theorem q935 : (Jvm.Cond.classLink "java/util/Arrays" (43 : Nat) "java/lang/IllegalArgumentException") ∈ lw_all := lw_g (lw_at lw_m4 175 rfl) rfl
theorem q936 : (Jvm.Cond.classLink "java/util/Arrays" (45 : Nat) "java/lang/StringBuilder") ∈ lw_all := lw_g (lw_at lw_m4 176 rfl) rfl
theorem q937 : (Jvm.Cond.methodLink "java/util/Arrays" (47 : Nat) ({ cls := "java/lang/StringBuilder", name := "<init>", desc := "()V" } : Jvm.MethodName)) ∈ lw_all := lw_g (lw_at lw_m4 177 rfl) rfl
theorem q938 : (Jvm.Cond.methodLink "java/util/Arrays" (54 : Nat) ({ cls := "java/lang/StringBuilder", name := "append", desc := "(I)Ljava/lang/StringBuilder;" } : Jvm.MethodName)) ∈ lw_all := lw_g (lw_at lw_m4 178 rfl) rfl
theorem q939 : (Jvm.Cond.stringRef "java/util/Arrays" (337 : Nat) " > ") ∈ lw_tbl := lw_at lw_m4 179 rfl
theorem q940 : (Jvm.Cond.methodLink "java/util/Arrays" (50 : Nat) ({ cls := "java/lang/StringBuilder", name := "append", desc := "(Ljava/lang/String;)Ljava/lang/StringBuilder;" } : Jvm.MethodName)) ∈ lw_all := lw_g (lw_at lw_m4 180 rfl) rfl
theorem q941 : (Jvm.Cond.methodLink "java/util/Arrays" (61 : Nat) ({ cls := "java/lang/StringBuilder", name := "toString", desc := "()Ljava/lang/String;" } : Jvm.MethodName)) ∈ lw_all := lw_g (lw_at lw_m4 181 rfl) rfl
theorem q942 : (Jvm.Cond.methodLink "java/util/Arrays" (65 : Nat) ({ cls := "java/lang/IllegalArgumentException", name := "<init>", desc := "(Ljava/lang/String;)V" } : Jvm.MethodName)) ∈ lw_all := lw_g (lw_at lw_m4 182 rfl) rfl
theorem q1389 : (Jvm.Cond.static ({ cls := "java/util/Arrays", name := "copyOf", desc := "([II)[I" } : Jvm.MethodName)) ∈ lw_all := lw_g (lw_at lw_m6 149 rfl) rfl
theorem q1390 : (Jvm.Cond.code ({ cls := "java/util/Arrays", name := "copyOf", desc := "([II)[I" } : Jvm.MethodName) prog_28_method_123_code (3 : Nat) (Option.some (Jvm.ClassFile.FieldType.array Jvm.ClassFile.FieldType.int))) ∈ lw_all := lw_g (lw_at lw_m6 150 rfl) rfl
theorem q1391 : (Jvm.Cond.methodLink "java/util/Arrays" (316 : Nat) ({ cls := "[I", name := "clone", desc := "()Ljava/lang/Object;" } : Jvm.MethodName)) ∈ lw_all := lw_g (lw_at lw_m6 151 rfl) rfl
theorem q1395 : (Jvm.Cond.classLink "java/util/Arrays" (317 : Nat) "[I") ∈ lw_all := lw_g (lw_at lw_m6 155 rfl) rfl
theorem q1527 : (Jvm.Cond.static ({ cls := "java/util/Arrays", name := "copyOfRange", desc := "([III)[I" } : Jvm.MethodName)) ∈ lw_all := lw_g (lw_at lw_m7 47 rfl) rfl
theorem q1528 : (Jvm.Cond.code ({ cls := "java/util/Arrays", name := "copyOfRange", desc := "([III)[I" } : Jvm.MethodName) prog_28_method_136_code (3 : Nat) (Option.some (Jvm.ClassFile.FieldType.array Jvm.ClassFile.FieldType.int))) ∈ lw_all := lw_g (lw_at lw_m7 48 rfl) rfl
theorem q1529 : (Jvm.Cond.methodLink "java/util/Arrays" (351 : Nat) ({ cls := "java/util/Arrays", name := "copyOfRangeInt", desc := "([III)[I" } : Jvm.MethodName)) ∈ lw_all := lw_g (lw_at lw_m7 49 rfl) rfl
theorem q1530 : (Jvm.Cond.static ({ cls := "java/util/Arrays", name := "copyOfRangeInt", desc := "([III)[I" } : Jvm.MethodName)) ∈ lw_all := lw_g (lw_at lw_m7 50 rfl) rfl
theorem q1531 : (Jvm.Cond.code ({ cls := "java/util/Arrays", name := "copyOfRangeInt", desc := "([III)[I" } : Jvm.MethodName) prog_28_method_137_code (5 : Nat) (Option.some (Jvm.ClassFile.FieldType.array Jvm.ClassFile.FieldType.int))) ∈ lw_all := lw_g (lw_at lw_m7 51 rfl) rfl

/-! java/util/Objects -/
set_option maxRecDepth 100000
def RJ17 : String := "java/util/Objects"
abbrev cJ17_checkFromToIndex : ByteArray := prog_29_method_18_code
def yJ17_checkFromToIndex : MethodName := ⟨RJ17, "checkFromToIndex", "(III)I"⟩
def dkwJ17_checkFromToIndex_0 : List UInt8 := [26, 27, 28, 1, 184, 0, 111, 172]
abbrev dktJ17_checkFromToIndex_0 : List UInt8 := dkwJ17_checkFromToIndex_0 ++ []
theorem dksJ17_checkFromToIndex_0 : cJ17_checkFromToIndex.data.toList.drop 0 = dktJ17_checkFromToIndex_0 := by decide +kernel
theorem dJ17_checkFromToIndex_0 : decode cJ17_checkFromToIndex 0 = .ok (.iload_n 0, 1) := dk_26 (dk_at dksJ17_checkFromToIndex_0 0 rfl rfl)
theorem dJ17_checkFromToIndex_1 : decode cJ17_checkFromToIndex 1 = .ok (.iload_n 1, 1) := dk_27 (dk_at dksJ17_checkFromToIndex_0 1 rfl rfl)
theorem dJ17_checkFromToIndex_2 : decode cJ17_checkFromToIndex 2 = .ok (.iload_n 2, 1) := dk_28 (dk_at dksJ17_checkFromToIndex_0 2 rfl rfl)
theorem dJ17_checkFromToIndex_3 : decode cJ17_checkFromToIndex 3 = .ok (.aconst_null, 1) := dk_1 (dk_at dksJ17_checkFromToIndex_0 3 rfl rfl)
theorem dJ17_checkFromToIndex_4 : decode cJ17_checkFromToIndex 4 = .ok (.invokestatic 111, 3) := dk_184 0 111 (dk_at dksJ17_checkFromToIndex_0 4 rfl rfl)
theorem dJ17_checkFromToIndex_7 : decode cJ17_checkFromToIndex 7 = .ok (.ireturn, 1) := dk_172 (dk_at dksJ17_checkFromToIndex_0 7 rfl rfl)
abbrev cJ17_requireNonNull : ByteArray := prog_29_method_10_code
def yJ17_requireNonNull : MethodName := ⟨RJ17, "requireNonNull", "(Ljava/lang/Object;)Ljava/lang/Object;"⟩
def dkwJ17_requireNonNull_0 : List UInt8 := [42, 199, 0, 11, 187, 0, 84, 89, 183, 0, 86, 191, 42, 176]
abbrev dktJ17_requireNonNull_0 : List UInt8 := dkwJ17_requireNonNull_0 ++ []
theorem dksJ17_requireNonNull_0 : cJ17_requireNonNull.data.toList.drop 0 = dktJ17_requireNonNull_0 := by decide +kernel
theorem dJ17_requireNonNull_0 : decode cJ17_requireNonNull 0 = .ok (.aload_n 0, 1) := dk_42 (dk_at dksJ17_requireNonNull_0 0 rfl rfl)
theorem dJ17_requireNonNull_1 : decode cJ17_requireNonNull 1 = .ok (.ifnonnull 11, 3) := dk_199 0 11 (dk_at dksJ17_requireNonNull_0 1 rfl rfl)
theorem dJ17_requireNonNull_4 : decode cJ17_requireNonNull 4 = .ok (.new 84, 3) := dk_187 0 84 (dk_at dksJ17_requireNonNull_0 4 rfl rfl)
theorem dJ17_requireNonNull_7 : decode cJ17_requireNonNull 7 = .ok (.dup, 1) := dk_89 (dk_at dksJ17_requireNonNull_0 7 rfl rfl)
theorem dJ17_requireNonNull_8 : decode cJ17_requireNonNull 8 = .ok (.invokespecial 86, 3) := dk_183 0 86 (dk_at dksJ17_requireNonNull_0 8 rfl rfl)
theorem dJ17_requireNonNull_11 : decode cJ17_requireNonNull 11 = .ok (.athrow, 1) := dk_191 (dk_at dksJ17_requireNonNull_0 11 rfl rfl)
theorem dJ17_requireNonNull_12 : decode cJ17_requireNonNull 12 = .ok (.aload_n 0, 1) := dk_42 (dk_at dksJ17_requireNonNull_0 12 rfl rfl)
theorem dJ17_requireNonNull_13 : decode cJ17_requireNonNull 13 = .ok (.areturn, 1) := dk_176 (dk_at dksJ17_requireNonNull_0 13 rfl rfl)
theorem q63 : (Jvm.Cond.initialized "java/util/Objects") ∈ lw_all := lw_g (lw_at lw_m1 23 rfl) rfl
theorem q1397 : (Jvm.Cond.static ({ cls := "java/util/Objects", name := "checkFromToIndex", desc := "(III)I" } : Jvm.MethodName)) ∈ lw_all := lw_g (lw_at lw_m6 157 rfl) rfl
theorem q1398 : (Jvm.Cond.code ({ cls := "java/util/Objects", name := "checkFromToIndex", desc := "(III)I" } : Jvm.MethodName) prog_29_method_18_code (3 : Nat) (Option.some Jvm.ClassFile.FieldType.int)) ∈ lw_all := lw_g (lw_at lw_m6 158 rfl) rfl
theorem q1399 : (Jvm.Cond.methodLink "java/util/Objects" (111 : Nat) ({ cls := "jdk/internal/util/Preconditions", name := "checkFromToIndex", desc := "(IIILjava/util/function/BiFunction;)I" } : Jvm.MethodName)) ∈ lw_all := lw_g (lw_at lw_m6 159 rfl) rfl
theorem q1588 : (Jvm.Cond.static ({ cls := "java/util/Objects", name := "requireNonNull", desc := "(Ljava/lang/Object;)Ljava/lang/Object;" } : Jvm.MethodName)) ∈ lw_all := lw_g (lw_at lw_m7 108 rfl) rfl
theorem q1589 : (Jvm.Cond.code ({ cls := "java/util/Objects", name := "requireNonNull", desc := "(Ljava/lang/Object;)Ljava/lang/Object;" } : Jvm.MethodName) prog_29_method_10_code (1 : Nat) (Option.some (Jvm.ClassFile.FieldType.object "java/lang/Object"))) ∈ lw_all := lw_g (lw_at lw_m7 109 rfl) rfl

/-! jdk/internal/util/Preconditions -/
set_option maxRecDepth 100000
def RJ18 : String := "jdk/internal/util/Preconditions"
abbrev cJ18_checkFromToIndex : ByteArray := prog_31_method_12_code
def yJ18_checkFromToIndex : MethodName := ⟨RJ18, "checkFromToIndex", "(IIILjava/util/function/BiFunction;)I"⟩
def dkwJ18_checkFromToIndex_0 : List UInt8 := [26, 155, 0, 13, 26, 27, 163, 0, 8, 27, 28, 164, 0, 11, 45, 26, 27, 28, 184, 0, 99, 191, 26, 172]
abbrev dktJ18_checkFromToIndex_0 : List UInt8 := dkwJ18_checkFromToIndex_0 ++ []
theorem dksJ18_checkFromToIndex_0 : cJ18_checkFromToIndex.data.toList.drop 0 = dktJ18_checkFromToIndex_0 := by decide +kernel
theorem dJ18_checkFromToIndex_0 : decode cJ18_checkFromToIndex 0 = .ok (.iload_n 0, 1) := dk_26 (dk_at dksJ18_checkFromToIndex_0 0 rfl rfl)
theorem dJ18_checkFromToIndex_1 : decode cJ18_checkFromToIndex 1 = .ok (.ifCond .lt 13, 3) := dk_155 0 13 (dk_at dksJ18_checkFromToIndex_0 1 rfl rfl)
theorem dJ18_checkFromToIndex_4 : decode cJ18_checkFromToIndex 4 = .ok (.iload_n 0, 1) := dk_26 (dk_at dksJ18_checkFromToIndex_0 4 rfl rfl)
theorem dJ18_checkFromToIndex_5 : decode cJ18_checkFromToIndex 5 = .ok (.iload_n 1, 1) := dk_27 (dk_at dksJ18_checkFromToIndex_0 5 rfl rfl)
theorem dJ18_checkFromToIndex_6 : decode cJ18_checkFromToIndex 6 = .ok (.if_icmp .gt 8, 3) := dk_163 0 8 (dk_at dksJ18_checkFromToIndex_0 6 rfl rfl)
theorem dJ18_checkFromToIndex_9 : decode cJ18_checkFromToIndex 9 = .ok (.iload_n 1, 1) := dk_27 (dk_at dksJ18_checkFromToIndex_0 9 rfl rfl)
theorem dJ18_checkFromToIndex_10 : decode cJ18_checkFromToIndex 10 = .ok (.iload_n 2, 1) := dk_28 (dk_at dksJ18_checkFromToIndex_0 10 rfl rfl)
theorem dJ18_checkFromToIndex_11 : decode cJ18_checkFromToIndex 11 = .ok (.if_icmp .le 11, 3) := dk_164 0 11 (dk_at dksJ18_checkFromToIndex_0 11 rfl rfl)
theorem dJ18_checkFromToIndex_14 : decode cJ18_checkFromToIndex 14 = .ok (.aload_n 3, 1) := dk_45 (dk_at dksJ18_checkFromToIndex_0 14 rfl rfl)
theorem dJ18_checkFromToIndex_15 : decode cJ18_checkFromToIndex 15 = .ok (.iload_n 0, 1) := dk_26 (dk_at dksJ18_checkFromToIndex_0 15 rfl rfl)
theorem dJ18_checkFromToIndex_16 : decode cJ18_checkFromToIndex 16 = .ok (.iload_n 1, 1) := dk_27 (dk_at dksJ18_checkFromToIndex_0 16 rfl rfl)
theorem dJ18_checkFromToIndex_17 : decode cJ18_checkFromToIndex 17 = .ok (.iload_n 2, 1) := dk_28 (dk_at dksJ18_checkFromToIndex_0 17 rfl rfl)
theorem dJ18_checkFromToIndex_18 : decode cJ18_checkFromToIndex 18 = .ok (.invokestatic 99, 3) := dk_184 0 99 (dk_at dksJ18_checkFromToIndex_0 18 rfl rfl)
theorem dJ18_checkFromToIndex_21 : decode cJ18_checkFromToIndex 21 = .ok (.athrow, 1) := dk_191 (dk_at dksJ18_checkFromToIndex_0 21 rfl rfl)
theorem dJ18_checkFromToIndex_22 : decode cJ18_checkFromToIndex 22 = .ok (.iload_n 0, 1) := dk_26 (dk_at dksJ18_checkFromToIndex_0 22 rfl rfl)
theorem dJ18_checkFromToIndex_23 : decode cJ18_checkFromToIndex 23 = .ok (.ireturn, 1) := dk_172 (dk_at dksJ18_checkFromToIndex_0 23 rfl rfl)
abbrev cJ18_checkFromIndexSize : ByteArray := prog_31_method_13_code
def yJ18_checkFromIndexSize : MethodName := ⟨RJ18, "checkFromIndexSize", "(IIILjava/util/function/BiFunction;)I"⟩
def dkwJ18_checkFromIndexSize_1 : List UInt8 := [172]
abbrev dktJ18_checkFromIndexSize_1 : List UInt8 := dkwJ18_checkFromIndexSize_1 ++ []
def dkwJ18_checkFromIndexSize_0 : List UInt8 := [28, 26, 128, 27, 128, 155, 0, 10, 27, 28, 26, 100, 164, 0, 11, 45, 26, 27, 28, 184, 0, 103, 191, 26]
abbrev dktJ18_checkFromIndexSize_0 : List UInt8 := dkwJ18_checkFromIndexSize_0 ++ dktJ18_checkFromIndexSize_1
theorem dksJ18_checkFromIndexSize_0 : cJ18_checkFromIndexSize.data.toList.drop 0 = dktJ18_checkFromIndexSize_0 := by decide +kernel
theorem dksJ18_checkFromIndexSize_1 : cJ18_checkFromIndexSize.data.toList.drop 24 = dktJ18_checkFromIndexSize_1 := dk_seg dksJ18_checkFromIndexSize_0 24 rfl rfl
theorem dJ18_checkFromIndexSize_0 : decode cJ18_checkFromIndexSize 0 = .ok (.iload_n 2, 1) := dk_28 (dk_at dksJ18_checkFromIndexSize_0 0 rfl rfl)
theorem dJ18_checkFromIndexSize_1 : decode cJ18_checkFromIndexSize 1 = .ok (.iload_n 0, 1) := dk_26 (dk_at dksJ18_checkFromIndexSize_0 1 rfl rfl)
theorem dJ18_checkFromIndexSize_2 : decode cJ18_checkFromIndexSize 2 = .ok (.ior, 1) := dk_128 (dk_at dksJ18_checkFromIndexSize_0 2 rfl rfl)
theorem dJ18_checkFromIndexSize_3 : decode cJ18_checkFromIndexSize 3 = .ok (.iload_n 1, 1) := dk_27 (dk_at dksJ18_checkFromIndexSize_0 3 rfl rfl)
theorem dJ18_checkFromIndexSize_4 : decode cJ18_checkFromIndexSize 4 = .ok (.ior, 1) := dk_128 (dk_at dksJ18_checkFromIndexSize_0 4 rfl rfl)
theorem dJ18_checkFromIndexSize_5 : decode cJ18_checkFromIndexSize 5 = .ok (.ifCond .lt 10, 3) := dk_155 0 10 (dk_at dksJ18_checkFromIndexSize_0 5 rfl rfl)
theorem dJ18_checkFromIndexSize_8 : decode cJ18_checkFromIndexSize 8 = .ok (.iload_n 1, 1) := dk_27 (dk_at dksJ18_checkFromIndexSize_0 8 rfl rfl)
theorem dJ18_checkFromIndexSize_9 : decode cJ18_checkFromIndexSize 9 = .ok (.iload_n 2, 1) := dk_28 (dk_at dksJ18_checkFromIndexSize_0 9 rfl rfl)
theorem dJ18_checkFromIndexSize_10 : decode cJ18_checkFromIndexSize 10 = .ok (.iload_n 0, 1) := dk_26 (dk_at dksJ18_checkFromIndexSize_0 10 rfl rfl)
theorem dJ18_checkFromIndexSize_11 : decode cJ18_checkFromIndexSize 11 = .ok (.isub, 1) := dk_100 (dk_at dksJ18_checkFromIndexSize_0 11 rfl rfl)
theorem dJ18_checkFromIndexSize_12 : decode cJ18_checkFromIndexSize 12 = .ok (.if_icmp .le 11, 3) := dk_164 0 11 (dk_at dksJ18_checkFromIndexSize_0 12 rfl rfl)
theorem dJ18_checkFromIndexSize_15 : decode cJ18_checkFromIndexSize 15 = .ok (.aload_n 3, 1) := dk_45 (dk_at dksJ18_checkFromIndexSize_0 15 rfl rfl)
theorem dJ18_checkFromIndexSize_16 : decode cJ18_checkFromIndexSize 16 = .ok (.iload_n 0, 1) := dk_26 (dk_at dksJ18_checkFromIndexSize_0 16 rfl rfl)
theorem dJ18_checkFromIndexSize_17 : decode cJ18_checkFromIndexSize 17 = .ok (.iload_n 1, 1) := dk_27 (dk_at dksJ18_checkFromIndexSize_0 17 rfl rfl)
theorem dJ18_checkFromIndexSize_18 : decode cJ18_checkFromIndexSize 18 = .ok (.iload_n 2, 1) := dk_28 (dk_at dksJ18_checkFromIndexSize_0 18 rfl rfl)
theorem dJ18_checkFromIndexSize_19 : decode cJ18_checkFromIndexSize 19 = .ok (.invokestatic 103, 3) := dk_184 0 103 (dk_at dksJ18_checkFromIndexSize_0 19 rfl rfl)
theorem dJ18_checkFromIndexSize_22 : decode cJ18_checkFromIndexSize 22 = .ok (.athrow, 1) := dk_191 (dk_at dksJ18_checkFromIndexSize_0 22 rfl rfl)
theorem dJ18_checkFromIndexSize_23 : decode cJ18_checkFromIndexSize 23 = .ok (.iload_n 0, 1) := dk_26 (dk_at dksJ18_checkFromIndexSize_0 23 rfl rfl)
theorem dJ18_checkFromIndexSize_24 : decode cJ18_checkFromIndexSize 24 = .ok (.ireturn, 1) := dk_172 (dk_at dksJ18_checkFromIndexSize_1 0 rfl rfl)
theorem q64 : (Jvm.Cond.initialized "jdk/internal/util/Preconditions") ∈ lw_all := lw_g (lw_at lw_m1 24 rfl) rfl
theorem q819 : (Jvm.Cond.laysStatic "jdk/internal/util/Preconditions" "SIOOBE_FORMATTER" "Ljava/util/function/BiFunction;") ∈ lw_tbl := lw_at lw_m4 59 rfl
theorem q821 : (Jvm.Cond.static ({ cls := "jdk/internal/util/Preconditions", name := "checkFromToIndex", desc := "(IIILjava/util/function/BiFunction;)I" } : Jvm.MethodName)) ∈ lw_all := lw_g (lw_at lw_m4 61 rfl) rfl
theorem q822 : (Jvm.Cond.code ({ cls := "jdk/internal/util/Preconditions", name := "checkFromToIndex", desc := "(IIILjava/util/function/BiFunction;)I" } : Jvm.MethodName) prog_31_method_12_code (4 : Nat) (Option.some Jvm.ClassFile.FieldType.int)) ∈ lw_all := lw_g (lw_at lw_m4 62 rfl) rfl
theorem q867 : (Jvm.Cond.static ({ cls := "jdk/internal/util/Preconditions", name := "checkFromIndexSize", desc := "(IIILjava/util/function/BiFunction;)I" } : Jvm.MethodName)) ∈ lw_all := lw_g (lw_at lw_m4 107 rfl) rfl
theorem q868 : (Jvm.Cond.code ({ cls := "jdk/internal/util/Preconditions", name := "checkFromIndexSize", desc := "(IIILjava/util/function/BiFunction;)I" } : Jvm.MethodName) prog_31_method_13_code (4 : Nat) (Option.some Jvm.ClassFile.FieldType.int)) ∈ lw_all := lw_g (lw_at lw_m4 108 rfl) rfl

/-! java/lang/AbstractStringBuilder -/
set_option maxRecDepth 100000
def RJ19 : String := "java/lang/AbstractStringBuilder"
abbrev cJ19_init : ByteArray := prog_6_method_2_code
def yJ19_init : MethodName := ⟨RJ19, "<init>", "(I)V"⟩
def dkwJ19_init_1 : List UInt8 := [167, 0, 16, 42, 27, 184, 0, 26, 181, 0, 15, 42, 4, 181, 0, 22, 177]
abbrev dktJ19_init_1 : List UInt8 := dkwJ19_init_1 ++ []
def dkwJ19_init_0 : List UInt8 := [42, 183, 0, 3, 178, 0, 18, 153, 0, 18, 42, 27, 188, 8, 181, 0, 15, 42, 3, 181, 0, 22]
abbrev dktJ19_init_0 : List UInt8 := dkwJ19_init_0 ++ dktJ19_init_1
theorem dksJ19_init_0 : cJ19_init.data.toList.drop 0 = dktJ19_init_0 := by decide +kernel
theorem dksJ19_init_1 : cJ19_init.data.toList.drop 22 = dktJ19_init_1 := dk_seg dksJ19_init_0 22 rfl rfl
theorem dJ19_init_0 : decode cJ19_init 0 = .ok (.aload_n 0, 1) := dk_42 (dk_at dksJ19_init_0 0 rfl rfl)
theorem dJ19_init_1 : decode cJ19_init 1 = .ok (.invokespecial 3, 3) := dk_183 0 3 (dk_at dksJ19_init_0 1 rfl rfl)
theorem dJ19_init_4 : decode cJ19_init 4 = .ok (.getstatic 18, 3) := dk_178 0 18 (dk_at dksJ19_init_0 4 rfl rfl)
theorem dJ19_init_7 : decode cJ19_init 7 = .ok (.ifCond .eq 18, 3) := dk_153 0 18 (dk_at dksJ19_init_0 7 rfl rfl)
theorem dJ19_init_10 : decode cJ19_init 10 = .ok (.aload_n 0, 1) := dk_42 (dk_at dksJ19_init_0 10 rfl rfl)
theorem dJ19_init_11 : decode cJ19_init 11 = .ok (.iload_n 1, 1) := dk_27 (dk_at dksJ19_init_0 11 rfl rfl)
theorem dJ19_init_12 : decode cJ19_init 12 = .ok (.newarray .byte, 2) := dk_188_8 (dk_at dksJ19_init_0 12 rfl rfl)
theorem dJ19_init_14 : decode cJ19_init 14 = .ok (.putfield 15, 3) := dk_181 0 15 (dk_at dksJ19_init_0 14 rfl rfl)
theorem dJ19_init_17 : decode cJ19_init 17 = .ok (.aload_n 0, 1) := dk_42 (dk_at dksJ19_init_0 17 rfl rfl)
theorem dJ19_init_18 : decode cJ19_init 18 = .ok (.iconst 0, 1) := dk_3 (dk_at dksJ19_init_0 18 rfl rfl)
theorem dJ19_init_19 : decode cJ19_init 19 = .ok (.putfield 22, 3) := dk_181 0 22 (dk_at dksJ19_init_0 19 rfl rfl)
theorem dJ19_init_22 : decode cJ19_init 22 = .ok (.goto 16, 3) := dk_167 0 16 (dk_at dksJ19_init_1 0 rfl rfl)
theorem dJ19_init_25 : decode cJ19_init 25 = .ok (.aload_n 0, 1) := dk_42 (dk_at dksJ19_init_1 3 rfl rfl)
theorem dJ19_init_26 : decode cJ19_init 26 = .ok (.iload_n 1, 1) := dk_27 (dk_at dksJ19_init_1 4 rfl rfl)
theorem dJ19_init_27 : decode cJ19_init 27 = .ok (.invokestatic 26, 3) := dk_184 0 26 (dk_at dksJ19_init_1 5 rfl rfl)
theorem dJ19_init_30 : decode cJ19_init 30 = .ok (.putfield 15, 3) := dk_181 0 15 (dk_at dksJ19_init_1 8 rfl rfl)
theorem dJ19_init_33 : decode cJ19_init 33 = .ok (.aload_n 0, 1) := dk_42 (dk_at dksJ19_init_1 11 rfl rfl)
theorem dJ19_init_34 : decode cJ19_init 34 = .ok (.iconst 1, 1) := dk_4 (dk_at dksJ19_init_1 12 rfl rfl)
theorem dJ19_init_35 : decode cJ19_init 35 = .ok (.putfield 22, 3) := dk_181 0 22 (dk_at dksJ19_init_1 13 rfl rfl)
theorem dJ19_init_38 : decode cJ19_init 38 = .ok (.return_, 1) := dk_177 (dk_at dksJ19_init_1 16 rfl rfl)
abbrev cJ19_append : ByteArray := prog_6_method_22_code
def yJ19_append : MethodName := ⟨RJ19, "append", "(Ljava/lang/String;)Ljava/lang/AbstractStringBuilder;"⟩
def dkwJ19_append_1 : List UInt8 := [42, 42, 180, 0, 79, 43, 182, 0, 208, 42, 89, 180, 0, 79, 28, 96, 181, 0, 79, 42, 176]
abbrev dktJ19_append_1 : List UInt8 := dkwJ19_append_1 ++ []
def dkwJ19_append_0 : List UInt8 := [43, 199, 0, 8, 42, 182, 0, 204, 176, 43, 182, 0, 32, 61, 42, 42, 180, 0, 79, 28, 96, 182, 0, 100]
abbrev dktJ19_append_0 : List UInt8 := dkwJ19_append_0 ++ dktJ19_append_1
theorem dksJ19_append_0 : cJ19_append.data.toList.drop 0 = dktJ19_append_0 := by decide +kernel
theorem dksJ19_append_1 : cJ19_append.data.toList.drop 24 = dktJ19_append_1 := dk_seg dksJ19_append_0 24 rfl rfl
theorem dJ19_append_0 : decode cJ19_append 0 = .ok (.aload_n 1, 1) := dk_43 (dk_at dksJ19_append_0 0 rfl rfl)
theorem dJ19_append_1 : decode cJ19_append 1 = .ok (.ifnonnull 8, 3) := dk_199 0 8 (dk_at dksJ19_append_0 1 rfl rfl)
theorem dJ19_append_4 : decode cJ19_append 4 = .ok (.aload_n 0, 1) := dk_42 (dk_at dksJ19_append_0 4 rfl rfl)
theorem dJ19_append_5 : decode cJ19_append 5 = .ok (.invokevirtual 204, 3) := dk_182 0 204 (dk_at dksJ19_append_0 5 rfl rfl)
theorem dJ19_append_8 : decode cJ19_append 8 = .ok (.areturn, 1) := dk_176 (dk_at dksJ19_append_0 8 rfl rfl)
theorem dJ19_append_9 : decode cJ19_append 9 = .ok (.aload_n 1, 1) := dk_43 (dk_at dksJ19_append_0 9 rfl rfl)
theorem dJ19_append_10 : decode cJ19_append 10 = .ok (.invokevirtual 32, 3) := dk_182 0 32 (dk_at dksJ19_append_0 10 rfl rfl)
theorem dJ19_append_13 : decode cJ19_append 13 = .ok (.istore_n 2, 1) := dk_61 (dk_at dksJ19_append_0 13 rfl rfl)
theorem dJ19_append_14 : decode cJ19_append 14 = .ok (.aload_n 0, 1) := dk_42 (dk_at dksJ19_append_0 14 rfl rfl)
theorem dJ19_append_15 : decode cJ19_append 15 = .ok (.aload_n 0, 1) := dk_42 (dk_at dksJ19_append_0 15 rfl rfl)
theorem dJ19_append_16 : decode cJ19_append 16 = .ok (.getfield 79, 3) := dk_180 0 79 (dk_at dksJ19_append_0 16 rfl rfl)
theorem dJ19_append_19 : decode cJ19_append 19 = .ok (.iload_n 2, 1) := dk_28 (dk_at dksJ19_append_0 19 rfl rfl)
theorem dJ19_append_20 : decode cJ19_append 20 = .ok (.iadd, 1) := dk_96 (dk_at dksJ19_append_0 20 rfl rfl)
theorem dJ19_append_21 : decode cJ19_append 21 = .ok (.invokevirtual 100, 3) := dk_182 0 100 (dk_at dksJ19_append_0 21 rfl rfl)
theorem dJ19_append_24 : decode cJ19_append 24 = .ok (.aload_n 0, 1) := dk_42 (dk_at dksJ19_append_1 0 rfl rfl)
theorem dJ19_append_25 : decode cJ19_append 25 = .ok (.aload_n 0, 1) := dk_42 (dk_at dksJ19_append_1 1 rfl rfl)
theorem dJ19_append_26 : decode cJ19_append 26 = .ok (.getfield 79, 3) := dk_180 0 79 (dk_at dksJ19_append_1 2 rfl rfl)
theorem dJ19_append_29 : decode cJ19_append 29 = .ok (.aload_n 1, 1) := dk_43 (dk_at dksJ19_append_1 5 rfl rfl)
theorem dJ19_append_30 : decode cJ19_append 30 = .ok (.invokevirtual 208, 3) := dk_182 0 208 (dk_at dksJ19_append_1 6 rfl rfl)
theorem dJ19_append_33 : decode cJ19_append 33 = .ok (.aload_n 0, 1) := dk_42 (dk_at dksJ19_append_1 9 rfl rfl)
theorem dJ19_append_34 : decode cJ19_append 34 = .ok (.dup, 1) := dk_89 (dk_at dksJ19_append_1 10 rfl rfl)
theorem dJ19_append_35 : decode cJ19_append 35 = .ok (.getfield 79, 3) := dk_180 0 79 (dk_at dksJ19_append_1 11 rfl rfl)
theorem dJ19_append_38 : decode cJ19_append 38 = .ok (.iload_n 2, 1) := dk_28 (dk_at dksJ19_append_1 14 rfl rfl)
theorem dJ19_append_39 : decode cJ19_append 39 = .ok (.iadd, 1) := dk_96 (dk_at dksJ19_append_1 15 rfl rfl)
theorem dJ19_append_40 : decode cJ19_append 40 = .ok (.putfield 79, 3) := dk_181 0 79 (dk_at dksJ19_append_1 16 rfl rfl)
theorem dJ19_append_43 : decode cJ19_append 43 = .ok (.aload_n 0, 1) := dk_42 (dk_at dksJ19_append_1 19 rfl rfl)
theorem dJ19_append_44 : decode cJ19_append 44 = .ok (.areturn, 1) := dk_176 (dk_at dksJ19_append_1 20 rfl rfl)
abbrev cJ19_appendNull : ByteArray := prog_6_method_26_code
def yJ19_appendNull : MethodName := ⟨RJ19, "appendNull", "()Ljava/lang/AbstractStringBuilder;"⟩
def dkwJ19_appendNull_3 : List UInt8 := [184, 0, 226, 60, 42, 27, 181, 0, 79, 42, 176]
abbrev dktJ19_appendNull_3 : List UInt8 := dkwJ19_appendNull_3 ++ []
def dkwJ19_appendNull_2 : List UInt8 := [16, 108, 84, 44, 27, 132, 1, 1, 16, 108, 84, 167, 0, 17, 44, 27, 16, 110, 16, 117, 16, 108, 16, 108]
abbrev dktJ19_appendNull_2 : List UInt8 := dkwJ19_appendNull_2 ++ dktJ19_appendNull_3
def dkwJ19_appendNull_1 : List UInt8 := [153, 0, 38, 44, 27, 132, 1, 1, 16, 110, 84, 44, 27, 132, 1, 1, 16, 117, 84, 44, 27, 132, 1, 1]
abbrev dktJ19_appendNull_1 : List UInt8 := dkwJ19_appendNull_1 ++ dktJ19_appendNull_2
def dkwJ19_appendNull_0 : List UInt8 := [42, 42, 180, 0, 79, 7, 96, 182, 0, 100, 42, 180, 0, 79, 60, 42, 180, 0, 15, 77, 42, 182, 0, 83]
abbrev dktJ19_appendNull_0 : List UInt8 := dkwJ19_appendNull_0 ++ dktJ19_appendNull_1
theorem dksJ19_appendNull_0 : cJ19_appendNull.data.toList.drop 0 = dktJ19_appendNull_0 := by decide +kernel
theorem dksJ19_appendNull_1 : cJ19_appendNull.data.toList.drop 24 = dktJ19_appendNull_1 := dk_seg dksJ19_appendNull_0 24 rfl rfl
theorem dksJ19_appendNull_2 : cJ19_appendNull.data.toList.drop 48 = dktJ19_appendNull_2 := dk_seg dksJ19_appendNull_1 24 rfl rfl
theorem dksJ19_appendNull_3 : cJ19_appendNull.data.toList.drop 72 = dktJ19_appendNull_3 := dk_seg dksJ19_appendNull_2 24 rfl rfl
theorem dJ19_appendNull_0 : decode cJ19_appendNull 0 = .ok (.aload_n 0, 1) := dk_42 (dk_at dksJ19_appendNull_0 0 rfl rfl)
theorem dJ19_appendNull_1 : decode cJ19_appendNull 1 = .ok (.aload_n 0, 1) := dk_42 (dk_at dksJ19_appendNull_0 1 rfl rfl)
theorem dJ19_appendNull_2 : decode cJ19_appendNull 2 = .ok (.getfield 79, 3) := dk_180 0 79 (dk_at dksJ19_appendNull_0 2 rfl rfl)
theorem dJ19_appendNull_5 : decode cJ19_appendNull 5 = .ok (.iconst 4, 1) := dk_7 (dk_at dksJ19_appendNull_0 5 rfl rfl)
theorem dJ19_appendNull_6 : decode cJ19_appendNull 6 = .ok (.iadd, 1) := dk_96 (dk_at dksJ19_appendNull_0 6 rfl rfl)
theorem dJ19_appendNull_7 : decode cJ19_appendNull 7 = .ok (.invokevirtual 100, 3) := dk_182 0 100 (dk_at dksJ19_appendNull_0 7 rfl rfl)
theorem dJ19_appendNull_10 : decode cJ19_appendNull 10 = .ok (.aload_n 0, 1) := dk_42 (dk_at dksJ19_appendNull_0 10 rfl rfl)
theorem dJ19_appendNull_11 : decode cJ19_appendNull 11 = .ok (.getfield 79, 3) := dk_180 0 79 (dk_at dksJ19_appendNull_0 11 rfl rfl)
theorem dJ19_appendNull_14 : decode cJ19_appendNull 14 = .ok (.istore_n 1, 1) := dk_60 (dk_at dksJ19_appendNull_0 14 rfl rfl)
theorem dJ19_appendNull_15 : decode cJ19_appendNull 15 = .ok (.aload_n 0, 1) := dk_42 (dk_at dksJ19_appendNull_0 15 rfl rfl)
theorem dJ19_appendNull_16 : decode cJ19_appendNull 16 = .ok (.getfield 15, 3) := dk_180 0 15 (dk_at dksJ19_appendNull_0 16 rfl rfl)
theorem dJ19_appendNull_19 : decode cJ19_appendNull 19 = .ok (.astore_n 2, 1) := dk_77 (dk_at dksJ19_appendNull_0 19 rfl rfl)
theorem dJ19_appendNull_20 : decode cJ19_appendNull 20 = .ok (.aload_n 0, 1) := dk_42 (dk_at dksJ19_appendNull_0 20 rfl rfl)
theorem dJ19_appendNull_21 : decode cJ19_appendNull 21 = .ok (.invokevirtual 83, 3) := dk_182 0 83 (dk_at dksJ19_appendNull_0 21 rfl rfl)
theorem dJ19_appendNull_24 : decode cJ19_appendNull 24 = .ok (.ifCond .eq 38, 3) := dk_153 0 38 (dk_at dksJ19_appendNull_1 0 rfl rfl)
theorem dJ19_appendNull_27 : decode cJ19_appendNull 27 = .ok (.aload_n 2, 1) := dk_44 (dk_at dksJ19_appendNull_1 3 rfl rfl)
theorem dJ19_appendNull_28 : decode cJ19_appendNull 28 = .ok (.iload_n 1, 1) := dk_27 (dk_at dksJ19_appendNull_1 4 rfl rfl)
theorem dJ19_appendNull_29 : decode cJ19_appendNull 29 = .ok (.iinc 1 1, 3) := dk_132 1 1 (dk_at dksJ19_appendNull_1 5 rfl rfl)
theorem dJ19_appendNull_32 : decode cJ19_appendNull 32 = .ok (.bipush 110, 2) := dk_16 110 (dk_at dksJ19_appendNull_1 8 rfl rfl)
theorem dJ19_appendNull_34 : decode cJ19_appendNull 34 = .ok (.bastore, 1) := dk_84 (dk_at dksJ19_appendNull_1 10 rfl rfl)
theorem dJ19_appendNull_35 : decode cJ19_appendNull 35 = .ok (.aload_n 2, 1) := dk_44 (dk_at dksJ19_appendNull_1 11 rfl rfl)
theorem dJ19_appendNull_36 : decode cJ19_appendNull 36 = .ok (.iload_n 1, 1) := dk_27 (dk_at dksJ19_appendNull_1 12 rfl rfl)
theorem dJ19_appendNull_37 : decode cJ19_appendNull 37 = .ok (.iinc 1 1, 3) := dk_132 1 1 (dk_at dksJ19_appendNull_1 13 rfl rfl)
theorem dJ19_appendNull_40 : decode cJ19_appendNull 40 = .ok (.bipush 117, 2) := dk_16 117 (dk_at dksJ19_appendNull_1 16 rfl rfl)
theorem dJ19_appendNull_42 : decode cJ19_appendNull 42 = .ok (.bastore, 1) := dk_84 (dk_at dksJ19_appendNull_1 18 rfl rfl)
theorem dJ19_appendNull_43 : decode cJ19_appendNull 43 = .ok (.aload_n 2, 1) := dk_44 (dk_at dksJ19_appendNull_1 19 rfl rfl)
theorem dJ19_appendNull_44 : decode cJ19_appendNull 44 = .ok (.iload_n 1, 1) := dk_27 (dk_at dksJ19_appendNull_1 20 rfl rfl)
theorem dJ19_appendNull_45 : decode cJ19_appendNull 45 = .ok (.iinc 1 1, 3) := dk_132 1 1 (dk_at dksJ19_appendNull_1 21 rfl rfl)
theorem dJ19_appendNull_48 : decode cJ19_appendNull 48 = .ok (.bipush 108, 2) := dk_16 108 (dk_at dksJ19_appendNull_2 0 rfl rfl)
theorem dJ19_appendNull_50 : decode cJ19_appendNull 50 = .ok (.bastore, 1) := dk_84 (dk_at dksJ19_appendNull_2 2 rfl rfl)
theorem dJ19_appendNull_51 : decode cJ19_appendNull 51 = .ok (.aload_n 2, 1) := dk_44 (dk_at dksJ19_appendNull_2 3 rfl rfl)
theorem dJ19_appendNull_52 : decode cJ19_appendNull 52 = .ok (.iload_n 1, 1) := dk_27 (dk_at dksJ19_appendNull_2 4 rfl rfl)
theorem dJ19_appendNull_53 : decode cJ19_appendNull 53 = .ok (.iinc 1 1, 3) := dk_132 1 1 (dk_at dksJ19_appendNull_2 5 rfl rfl)
theorem dJ19_appendNull_56 : decode cJ19_appendNull 56 = .ok (.bipush 108, 2) := dk_16 108 (dk_at dksJ19_appendNull_2 8 rfl rfl)
theorem dJ19_appendNull_58 : decode cJ19_appendNull 58 = .ok (.bastore, 1) := dk_84 (dk_at dksJ19_appendNull_2 10 rfl rfl)
theorem dJ19_appendNull_59 : decode cJ19_appendNull 59 = .ok (.goto 17, 3) := dk_167 0 17 (dk_at dksJ19_appendNull_2 11 rfl rfl)
theorem dJ19_appendNull_62 : decode cJ19_appendNull 62 = .ok (.aload_n 2, 1) := dk_44 (dk_at dksJ19_appendNull_2 14 rfl rfl)
theorem dJ19_appendNull_63 : decode cJ19_appendNull 63 = .ok (.iload_n 1, 1) := dk_27 (dk_at dksJ19_appendNull_2 15 rfl rfl)
theorem dJ19_appendNull_64 : decode cJ19_appendNull 64 = .ok (.bipush 110, 2) := dk_16 110 (dk_at dksJ19_appendNull_2 16 rfl rfl)
theorem dJ19_appendNull_66 : decode cJ19_appendNull 66 = .ok (.bipush 117, 2) := dk_16 117 (dk_at dksJ19_appendNull_2 18 rfl rfl)
theorem dJ19_appendNull_68 : decode cJ19_appendNull 68 = .ok (.bipush 108, 2) := dk_16 108 (dk_at dksJ19_appendNull_2 20 rfl rfl)
theorem dJ19_appendNull_70 : decode cJ19_appendNull 70 = .ok (.bipush 108, 2) := dk_16 108 (dk_at dksJ19_appendNull_2 22 rfl rfl)
theorem dJ19_appendNull_72 : decode cJ19_appendNull 72 = .ok (.invokestatic 226, 3) := dk_184 0 226 (dk_at dksJ19_appendNull_3 0 rfl rfl)
theorem dJ19_appendNull_75 : decode cJ19_appendNull 75 = .ok (.istore_n 1, 1) := dk_60 (dk_at dksJ19_appendNull_3 3 rfl rfl)
theorem dJ19_appendNull_76 : decode cJ19_appendNull 76 = .ok (.aload_n 0, 1) := dk_42 (dk_at dksJ19_appendNull_3 4 rfl rfl)
theorem dJ19_appendNull_77 : decode cJ19_appendNull 77 = .ok (.iload_n 1, 1) := dk_27 (dk_at dksJ19_appendNull_3 5 rfl rfl)
theorem dJ19_appendNull_78 : decode cJ19_appendNull 78 = .ok (.putfield 79, 3) := dk_181 0 79 (dk_at dksJ19_appendNull_3 6 rfl rfl)
theorem dJ19_appendNull_81 : decode cJ19_appendNull 81 = .ok (.aload_n 0, 1) := dk_42 (dk_at dksJ19_appendNull_3 9 rfl rfl)
theorem dJ19_appendNull_82 : decode cJ19_appendNull 82 = .ok (.areturn, 1) := dk_176 (dk_at dksJ19_appendNull_3 10 rfl rfl)
abbrev cJ19_ensureCapacityInternal : ByteArray := prog_6_method_9_code
def yJ19_ensureCapacityInternal : MethodName := ⟨RJ19, "ensureCapacityInternal", "(I)V"⟩
def dkwJ19_ensureCapacityInternal_1 : List UInt8 := [182, 0, 104, 42, 180, 0, 22, 120, 184, 0, 108, 181, 0, 15, 177]
abbrev dktJ19_ensureCapacityInternal_1 : List UInt8 := dkwJ19_ensureCapacityInternal_1 ++ []
def dkwJ19_ensureCapacityInternal_0 : List UInt8 := [42, 180, 0, 15, 190, 42, 180, 0, 22, 122, 61, 27, 28, 100, 158, 0, 24, 42, 42, 180, 0, 15, 42, 27]
abbrev dktJ19_ensureCapacityInternal_0 : List UInt8 := dkwJ19_ensureCapacityInternal_0 ++ dktJ19_ensureCapacityInternal_1
theorem dksJ19_ensureCapacityInternal_0 : cJ19_ensureCapacityInternal.data.toList.drop 0 = dktJ19_ensureCapacityInternal_0 := by decide +kernel
theorem dksJ19_ensureCapacityInternal_1 : cJ19_ensureCapacityInternal.data.toList.drop 24 = dktJ19_ensureCapacityInternal_1 := dk_seg dksJ19_ensureCapacityInternal_0 24 rfl rfl
theorem dJ19_ensureCapacityInternal_0 : decode cJ19_ensureCapacityInternal 0 = .ok (.aload_n 0, 1) := dk_42 (dk_at dksJ19_ensureCapacityInternal_0 0 rfl rfl)
theorem dJ19_ensureCapacityInternal_1 : decode cJ19_ensureCapacityInternal 1 = .ok (.getfield 15, 3) := dk_180 0 15 (dk_at dksJ19_ensureCapacityInternal_0 1 rfl rfl)
theorem dJ19_ensureCapacityInternal_4 : decode cJ19_ensureCapacityInternal 4 = .ok (.arraylength, 1) := dk_190 (dk_at dksJ19_ensureCapacityInternal_0 4 rfl rfl)
theorem dJ19_ensureCapacityInternal_5 : decode cJ19_ensureCapacityInternal 5 = .ok (.aload_n 0, 1) := dk_42 (dk_at dksJ19_ensureCapacityInternal_0 5 rfl rfl)
theorem dJ19_ensureCapacityInternal_6 : decode cJ19_ensureCapacityInternal 6 = .ok (.getfield 22, 3) := dk_180 0 22 (dk_at dksJ19_ensureCapacityInternal_0 6 rfl rfl)
theorem dJ19_ensureCapacityInternal_9 : decode cJ19_ensureCapacityInternal 9 = .ok (.ishr, 1) := dk_122 (dk_at dksJ19_ensureCapacityInternal_0 9 rfl rfl)
theorem dJ19_ensureCapacityInternal_10 : decode cJ19_ensureCapacityInternal 10 = .ok (.istore_n 2, 1) := dk_61 (dk_at dksJ19_ensureCapacityInternal_0 10 rfl rfl)
theorem dJ19_ensureCapacityInternal_11 : decode cJ19_ensureCapacityInternal 11 = .ok (.iload_n 1, 1) := dk_27 (dk_at dksJ19_ensureCapacityInternal_0 11 rfl rfl)
theorem dJ19_ensureCapacityInternal_12 : decode cJ19_ensureCapacityInternal 12 = .ok (.iload_n 2, 1) := dk_28 (dk_at dksJ19_ensureCapacityInternal_0 12 rfl rfl)
theorem dJ19_ensureCapacityInternal_13 : decode cJ19_ensureCapacityInternal 13 = .ok (.isub, 1) := dk_100 (dk_at dksJ19_ensureCapacityInternal_0 13 rfl rfl)
theorem dJ19_ensureCapacityInternal_14 : decode cJ19_ensureCapacityInternal 14 = .ok (.ifCond .le 24, 3) := dk_158 0 24 (dk_at dksJ19_ensureCapacityInternal_0 14 rfl rfl)
theorem dJ19_ensureCapacityInternal_17 : decode cJ19_ensureCapacityInternal 17 = .ok (.aload_n 0, 1) := dk_42 (dk_at dksJ19_ensureCapacityInternal_0 17 rfl rfl)
theorem dJ19_ensureCapacityInternal_18 : decode cJ19_ensureCapacityInternal 18 = .ok (.aload_n 0, 1) := dk_42 (dk_at dksJ19_ensureCapacityInternal_0 18 rfl rfl)
theorem dJ19_ensureCapacityInternal_19 : decode cJ19_ensureCapacityInternal 19 = .ok (.getfield 15, 3) := dk_180 0 15 (dk_at dksJ19_ensureCapacityInternal_0 19 rfl rfl)
theorem dJ19_ensureCapacityInternal_22 : decode cJ19_ensureCapacityInternal 22 = .ok (.aload_n 0, 1) := dk_42 (dk_at dksJ19_ensureCapacityInternal_0 22 rfl rfl)
theorem dJ19_ensureCapacityInternal_23 : decode cJ19_ensureCapacityInternal 23 = .ok (.iload_n 1, 1) := dk_27 (dk_at dksJ19_ensureCapacityInternal_0 23 rfl rfl)
theorem dJ19_ensureCapacityInternal_24 : decode cJ19_ensureCapacityInternal 24 = .ok (.invokevirtual 104, 3) := dk_182 0 104 (dk_at dksJ19_ensureCapacityInternal_1 0 rfl rfl)
theorem dJ19_ensureCapacityInternal_27 : decode cJ19_ensureCapacityInternal 27 = .ok (.aload_n 0, 1) := dk_42 (dk_at dksJ19_ensureCapacityInternal_1 3 rfl rfl)
theorem dJ19_ensureCapacityInternal_28 : decode cJ19_ensureCapacityInternal 28 = .ok (.getfield 22, 3) := dk_180 0 22 (dk_at dksJ19_ensureCapacityInternal_1 4 rfl rfl)
theorem dJ19_ensureCapacityInternal_31 : decode cJ19_ensureCapacityInternal 31 = .ok (.ishl, 1) := dk_120 (dk_at dksJ19_ensureCapacityInternal_1 7 rfl rfl)
theorem dJ19_ensureCapacityInternal_32 : decode cJ19_ensureCapacityInternal 32 = .ok (.invokestatic 108, 3) := dk_184 0 108 (dk_at dksJ19_ensureCapacityInternal_1 8 rfl rfl)
theorem dJ19_ensureCapacityInternal_35 : decode cJ19_ensureCapacityInternal 35 = .ok (.putfield 15, 3) := dk_181 0 15 (dk_at dksJ19_ensureCapacityInternal_1 11 rfl rfl)
theorem dJ19_ensureCapacityInternal_38 : decode cJ19_ensureCapacityInternal 38 = .ok (.return_, 1) := dk_177 (dk_at dksJ19_ensureCapacityInternal_1 14 rfl rfl)
abbrev cJ19_newCapacity : ByteArray := prog_6_method_10_code
def yJ19_newCapacity : MethodName := ⟨RJ19, "newCapacity", "(I)I"⟩
def dkwJ19_newCapacity_2 : List UInt8 := [183, 0, 124, 191, 21, 5, 42, 180, 0, 22, 122, 172]
abbrev dktJ19_newCapacity_2 : List UInt8 := dkwJ19_newCapacity_2 ++ []
def dkwJ19_newCapacity_1 : List UInt8 := [180, 0, 22, 120, 96, 184, 0, 114, 54, 5, 21, 5, 18, 39, 160, 0, 13, 187, 0, 120, 89, 18, 122]
abbrev dktJ19_newCapacity_1 : List UInt8 := dkwJ19_newCapacity_1 ++ dktJ19_newCapacity_2
def dkwJ19_newCapacity_0 : List UInt8 := [42, 180, 0, 15, 190, 61, 27, 42, 180, 0, 22, 120, 62, 29, 28, 100, 54, 4, 28, 21, 4, 28, 5, 42]
abbrev dktJ19_newCapacity_0 : List UInt8 := dkwJ19_newCapacity_0 ++ dktJ19_newCapacity_1
theorem dksJ19_newCapacity_0 : cJ19_newCapacity.data.toList.drop 0 = dktJ19_newCapacity_0 := by decide +kernel
theorem dksJ19_newCapacity_1 : cJ19_newCapacity.data.toList.drop 24 = dktJ19_newCapacity_1 := dk_seg dksJ19_newCapacity_0 24 rfl rfl
theorem dksJ19_newCapacity_2 : cJ19_newCapacity.data.toList.drop 47 = dktJ19_newCapacity_2 := dk_seg dksJ19_newCapacity_1 23 rfl rfl
theorem dJ19_newCapacity_0 : decode cJ19_newCapacity 0 = .ok (.aload_n 0, 1) := dk_42 (dk_at dksJ19_newCapacity_0 0 rfl rfl)
theorem dJ19_newCapacity_1 : decode cJ19_newCapacity 1 = .ok (.getfield 15, 3) := dk_180 0 15 (dk_at dksJ19_newCapacity_0 1 rfl rfl)
theorem dJ19_newCapacity_4 : decode cJ19_newCapacity 4 = .ok (.arraylength, 1) := dk_190 (dk_at dksJ19_newCapacity_0 4 rfl rfl)
theorem dJ19_newCapacity_5 : decode cJ19_newCapacity 5 = .ok (.istore_n 2, 1) := dk_61 (dk_at dksJ19_newCapacity_0 5 rfl rfl)
theorem dJ19_newCapacity_6 : decode cJ19_newCapacity 6 = .ok (.iload_n 1, 1) := dk_27 (dk_at dksJ19_newCapacity_0 6 rfl rfl)
theorem dJ19_newCapacity_7 : decode cJ19_newCapacity 7 = .ok (.aload_n 0, 1) := dk_42 (dk_at dksJ19_newCapacity_0 7 rfl rfl)
theorem dJ19_newCapacity_8 : decode cJ19_newCapacity 8 = .ok (.getfield 22, 3) := dk_180 0 22 (dk_at dksJ19_newCapacity_0 8 rfl rfl)
theorem dJ19_newCapacity_11 : decode cJ19_newCapacity 11 = .ok (.ishl, 1) := dk_120 (dk_at dksJ19_newCapacity_0 11 rfl rfl)
theorem dJ19_newCapacity_12 : decode cJ19_newCapacity 12 = .ok (.istore_n 3, 1) := dk_62 (dk_at dksJ19_newCapacity_0 12 rfl rfl)
theorem dJ19_newCapacity_13 : decode cJ19_newCapacity 13 = .ok (.iload_n 3, 1) := dk_29 (dk_at dksJ19_newCapacity_0 13 rfl rfl)
theorem dJ19_newCapacity_14 : decode cJ19_newCapacity 14 = .ok (.iload_n 2, 1) := dk_28 (dk_at dksJ19_newCapacity_0 14 rfl rfl)
theorem dJ19_newCapacity_15 : decode cJ19_newCapacity 15 = .ok (.isub, 1) := dk_100 (dk_at dksJ19_newCapacity_0 15 rfl rfl)
theorem dJ19_newCapacity_16 : decode cJ19_newCapacity 16 = .ok (.istore 4, 2) := dk_54 4 (dk_at dksJ19_newCapacity_0 16 rfl rfl)
theorem dJ19_newCapacity_18 : decode cJ19_newCapacity 18 = .ok (.iload_n 2, 1) := dk_28 (dk_at dksJ19_newCapacity_0 18 rfl rfl)
theorem dJ19_newCapacity_19 : decode cJ19_newCapacity 19 = .ok (.iload 4, 2) := dk_21 4 (dk_at dksJ19_newCapacity_0 19 rfl rfl)
theorem dJ19_newCapacity_21 : decode cJ19_newCapacity 21 = .ok (.iload_n 2, 1) := dk_28 (dk_at dksJ19_newCapacity_0 21 rfl rfl)
theorem dJ19_newCapacity_22 : decode cJ19_newCapacity 22 = .ok (.iconst 2, 1) := dk_5 (dk_at dksJ19_newCapacity_0 22 rfl rfl)
theorem dJ19_newCapacity_23 : decode cJ19_newCapacity 23 = .ok (.aload_n 0, 1) := dk_42 (dk_at dksJ19_newCapacity_0 23 rfl rfl)
theorem dJ19_newCapacity_24 : decode cJ19_newCapacity 24 = .ok (.getfield 22, 3) := dk_180 0 22 (dk_at dksJ19_newCapacity_1 0 rfl rfl)
theorem dJ19_newCapacity_27 : decode cJ19_newCapacity 27 = .ok (.ishl, 1) := dk_120 (dk_at dksJ19_newCapacity_1 3 rfl rfl)
theorem dJ19_newCapacity_28 : decode cJ19_newCapacity 28 = .ok (.iadd, 1) := dk_96 (dk_at dksJ19_newCapacity_1 4 rfl rfl)
theorem dJ19_newCapacity_29 : decode cJ19_newCapacity 29 = .ok (.invokestatic 114, 3) := dk_184 0 114 (dk_at dksJ19_newCapacity_1 5 rfl rfl)
theorem dJ19_newCapacity_32 : decode cJ19_newCapacity 32 = .ok (.istore 5, 2) := dk_54 5 (dk_at dksJ19_newCapacity_1 8 rfl rfl)
theorem dJ19_newCapacity_34 : decode cJ19_newCapacity 34 = .ok (.iload 5, 2) := dk_21 5 (dk_at dksJ19_newCapacity_1 10 rfl rfl)
theorem dJ19_newCapacity_36 : decode cJ19_newCapacity 36 = .ok (.ldc 39, 2) := dk_18 39 (dk_at dksJ19_newCapacity_1 12 rfl rfl)
theorem dJ19_newCapacity_38 : decode cJ19_newCapacity 38 = .ok (.if_icmp .ne 13, 3) := dk_160 0 13 (dk_at dksJ19_newCapacity_1 14 rfl rfl)
theorem dJ19_newCapacity_41 : decode cJ19_newCapacity 41 = .ok (.new 120, 3) := dk_187 0 120 (dk_at dksJ19_newCapacity_1 17 rfl rfl)
theorem dJ19_newCapacity_44 : decode cJ19_newCapacity 44 = .ok (.dup, 1) := dk_89 (dk_at dksJ19_newCapacity_1 20 rfl rfl)
theorem dJ19_newCapacity_45 : decode cJ19_newCapacity 45 = .ok (.ldc 122, 2) := dk_18 122 (dk_at dksJ19_newCapacity_1 21 rfl rfl)
theorem dJ19_newCapacity_47 : decode cJ19_newCapacity 47 = .ok (.invokespecial 124, 3) := dk_183 0 124 (dk_at dksJ19_newCapacity_2 0 rfl rfl)
theorem dJ19_newCapacity_50 : decode cJ19_newCapacity 50 = .ok (.athrow, 1) := dk_191 (dk_at dksJ19_newCapacity_2 3 rfl rfl)
theorem dJ19_newCapacity_51 : decode cJ19_newCapacity 51 = .ok (.iload 5, 2) := dk_21 5 (dk_at dksJ19_newCapacity_2 4 rfl rfl)
theorem dJ19_newCapacity_53 : decode cJ19_newCapacity 53 = .ok (.aload_n 0, 1) := dk_42 (dk_at dksJ19_newCapacity_2 6 rfl rfl)
theorem dJ19_newCapacity_54 : decode cJ19_newCapacity 54 = .ok (.getfield 22, 3) := dk_180 0 22 (dk_at dksJ19_newCapacity_2 7 rfl rfl)
theorem dJ19_newCapacity_57 : decode cJ19_newCapacity 57 = .ok (.ishr, 1) := dk_122 (dk_at dksJ19_newCapacity_2 10 rfl rfl)
theorem dJ19_newCapacity_58 : decode cJ19_newCapacity 58 = .ok (.ireturn, 1) := dk_172 (dk_at dksJ19_newCapacity_2 11 rfl rfl)
abbrev cJ19_isLatin1 : ByteArray := prog_6_method_68_code
def yJ19_isLatin1 : MethodName := ⟨RJ19, "isLatin1", "()Z"⟩
def dkwJ19_isLatin1_0 : List UInt8 := [178, 0, 18, 153, 0, 14, 42, 180, 0, 22, 154, 0, 7, 4, 167, 0, 4, 3, 172]
abbrev dktJ19_isLatin1_0 : List UInt8 := dkwJ19_isLatin1_0 ++ []
theorem dksJ19_isLatin1_0 : cJ19_isLatin1.data.toList.drop 0 = dktJ19_isLatin1_0 := by decide +kernel
theorem dJ19_isLatin1_0 : decode cJ19_isLatin1 0 = .ok (.getstatic 18, 3) := dk_178 0 18 (dk_at dksJ19_isLatin1_0 0 rfl rfl)
theorem dJ19_isLatin1_3 : decode cJ19_isLatin1 3 = .ok (.ifCond .eq 14, 3) := dk_153 0 14 (dk_at dksJ19_isLatin1_0 3 rfl rfl)
theorem dJ19_isLatin1_6 : decode cJ19_isLatin1 6 = .ok (.aload_n 0, 1) := dk_42 (dk_at dksJ19_isLatin1_0 6 rfl rfl)
theorem dJ19_isLatin1_7 : decode cJ19_isLatin1 7 = .ok (.getfield 22, 3) := dk_180 0 22 (dk_at dksJ19_isLatin1_0 7 rfl rfl)
theorem dJ19_isLatin1_10 : decode cJ19_isLatin1 10 = .ok (.ifCond .ne 7, 3) := dk_154 0 7 (dk_at dksJ19_isLatin1_0 10 rfl rfl)
theorem dJ19_isLatin1_13 : decode cJ19_isLatin1 13 = .ok (.iconst 1, 1) := dk_4 (dk_at dksJ19_isLatin1_0 13 rfl rfl)
theorem dJ19_isLatin1_14 : decode cJ19_isLatin1 14 = .ok (.goto 4, 3) := dk_167 0 4 (dk_at dksJ19_isLatin1_0 14 rfl rfl)
theorem dJ19_isLatin1_17 : decode cJ19_isLatin1 17 = .ok (.iconst 0, 1) := dk_3 (dk_at dksJ19_isLatin1_0 17 rfl rfl)
theorem dJ19_isLatin1_18 : decode cJ19_isLatin1 18 = .ok (.ireturn, 1) := dk_172 (dk_at dksJ19_isLatin1_0 18 rfl rfl)
abbrev cJ19_putStringAt : ByteArray := prog_6_method_73_code
def yJ19_putStringAt : MethodName := ⟨RJ19, "putStringAt", "(ILjava/lang/String;)V"⟩
def dkwJ19_putStringAt_0 : List UInt8 := [42, 44, 182, 1, 141, 44, 42, 180, 0, 15, 27, 42, 180, 0, 22, 182, 1, 143, 177]
abbrev dktJ19_putStringAt_0 : List UInt8 := dkwJ19_putStringAt_0 ++ []
theorem dksJ19_putStringAt_0 : cJ19_putStringAt.data.toList.drop 0 = dktJ19_putStringAt_0 := by decide +kernel
theorem dJ19_putStringAt_0 : decode cJ19_putStringAt 0 = .ok (.aload_n 0, 1) := dk_42 (dk_at dksJ19_putStringAt_0 0 rfl rfl)
theorem dJ19_putStringAt_1 : decode cJ19_putStringAt 1 = .ok (.aload_n 2, 1) := dk_44 (dk_at dksJ19_putStringAt_0 1 rfl rfl)
theorem dJ19_putStringAt_2 : decode cJ19_putStringAt 2 = .ok (.invokevirtual 397, 3) := dk_182 1 141 (dk_at dksJ19_putStringAt_0 2 rfl rfl)
theorem dJ19_putStringAt_5 : decode cJ19_putStringAt 5 = .ok (.aload_n 2, 1) := dk_44 (dk_at dksJ19_putStringAt_0 5 rfl rfl)
theorem dJ19_putStringAt_6 : decode cJ19_putStringAt 6 = .ok (.aload_n 0, 1) := dk_42 (dk_at dksJ19_putStringAt_0 6 rfl rfl)
theorem dJ19_putStringAt_7 : decode cJ19_putStringAt 7 = .ok (.getfield 15, 3) := dk_180 0 15 (dk_at dksJ19_putStringAt_0 7 rfl rfl)
theorem dJ19_putStringAt_10 : decode cJ19_putStringAt 10 = .ok (.iload_n 1, 1) := dk_27 (dk_at dksJ19_putStringAt_0 10 rfl rfl)
theorem dJ19_putStringAt_11 : decode cJ19_putStringAt 11 = .ok (.aload_n 0, 1) := dk_42 (dk_at dksJ19_putStringAt_0 11 rfl rfl)
theorem dJ19_putStringAt_12 : decode cJ19_putStringAt 12 = .ok (.getfield 22, 3) := dk_180 0 22 (dk_at dksJ19_putStringAt_0 12 rfl rfl)
theorem dJ19_putStringAt_15 : decode cJ19_putStringAt 15 = .ok (.invokevirtual 399, 3) := dk_182 1 143 (dk_at dksJ19_putStringAt_0 15 rfl rfl)
theorem dJ19_putStringAt_18 : decode cJ19_putStringAt 18 = .ok (.return_, 1) := dk_177 (dk_at dksJ19_putStringAt_0 18 rfl rfl)
abbrev cJ19_inflateIfNeededFor : ByteArray := prog_6_method_71_code
def yJ19_inflateIfNeededFor : MethodName := ⟨RJ19, "inflateIfNeededFor", "(Ljava/lang/String;)V"⟩
def dkwJ19_inflateIfNeededFor_0 : List UInt8 := [178, 0, 18, 153, 0, 18, 42, 180, 0, 22, 43, 182, 0, 40, 159, 0, 7, 42, 182, 0, 195, 177]
abbrev dktJ19_inflateIfNeededFor_0 : List UInt8 := dkwJ19_inflateIfNeededFor_0 ++ []
theorem dksJ19_inflateIfNeededFor_0 : cJ19_inflateIfNeededFor.data.toList.drop 0 = dktJ19_inflateIfNeededFor_0 := by decide +kernel
theorem dJ19_inflateIfNeededFor_0 : decode cJ19_inflateIfNeededFor 0 = .ok (.getstatic 18, 3) := dk_178 0 18 (dk_at dksJ19_inflateIfNeededFor_0 0 rfl rfl)
theorem dJ19_inflateIfNeededFor_3 : decode cJ19_inflateIfNeededFor 3 = .ok (.ifCond .eq 18, 3) := dk_153 0 18 (dk_at dksJ19_inflateIfNeededFor_0 3 rfl rfl)
theorem dJ19_inflateIfNeededFor_6 : decode cJ19_inflateIfNeededFor 6 = .ok (.aload_n 0, 1) := dk_42 (dk_at dksJ19_inflateIfNeededFor_0 6 rfl rfl)
theorem dJ19_inflateIfNeededFor_7 : decode cJ19_inflateIfNeededFor 7 = .ok (.getfield 22, 3) := dk_180 0 22 (dk_at dksJ19_inflateIfNeededFor_0 7 rfl rfl)
theorem dJ19_inflateIfNeededFor_10 : decode cJ19_inflateIfNeededFor 10 = .ok (.aload_n 1, 1) := dk_43 (dk_at dksJ19_inflateIfNeededFor_0 10 rfl rfl)
theorem dJ19_inflateIfNeededFor_11 : decode cJ19_inflateIfNeededFor 11 = .ok (.invokevirtual 40, 3) := dk_182 0 40 (dk_at dksJ19_inflateIfNeededFor_0 11 rfl rfl)
theorem dJ19_inflateIfNeededFor_14 : decode cJ19_inflateIfNeededFor 14 = .ok (.if_icmp .eq 7, 3) := dk_159 0 7 (dk_at dksJ19_inflateIfNeededFor_0 14 rfl rfl)
theorem dJ19_inflateIfNeededFor_17 : decode cJ19_inflateIfNeededFor 17 = .ok (.aload_n 0, 1) := dk_42 (dk_at dksJ19_inflateIfNeededFor_0 17 rfl rfl)
theorem dJ19_inflateIfNeededFor_18 : decode cJ19_inflateIfNeededFor 18 = .ok (.invokevirtual 195, 3) := dk_182 0 195 (dk_at dksJ19_inflateIfNeededFor_0 18 rfl rfl)
theorem dJ19_inflateIfNeededFor_21 : decode cJ19_inflateIfNeededFor 21 = .ok (.return_, 1) := dk_177 (dk_at dksJ19_inflateIfNeededFor_0 21 rfl rfl)
abbrev cJ19_inflate : ByteArray := prog_6_method_11_code
def yJ19_inflate : MethodName := ⟨RJ19, "inflate", "()V"⟩
def dkwJ19_inflate_1 : List UInt8 := [42, 180, 0, 79, 184, 0, 125, 42, 43, 181, 0, 15, 42, 4, 181, 0, 22, 177]
abbrev dktJ19_inflate_1 : List UInt8 := dkwJ19_inflate_1 ++ []
def dkwJ19_inflate_0 : List UInt8 := [42, 182, 0, 83, 154, 0, 4, 177, 42, 180, 0, 15, 190, 184, 0, 26, 76, 42, 180, 0, 15, 3, 43, 3]
abbrev dktJ19_inflate_0 : List UInt8 := dkwJ19_inflate_0 ++ dktJ19_inflate_1
theorem dksJ19_inflate_0 : cJ19_inflate.data.toList.drop 0 = dktJ19_inflate_0 := by decide +kernel
theorem dksJ19_inflate_1 : cJ19_inflate.data.toList.drop 24 = dktJ19_inflate_1 := dk_seg dksJ19_inflate_0 24 rfl rfl
theorem dJ19_inflate_0 : decode cJ19_inflate 0 = .ok (.aload_n 0, 1) := dk_42 (dk_at dksJ19_inflate_0 0 rfl rfl)
theorem dJ19_inflate_1 : decode cJ19_inflate 1 = .ok (.invokevirtual 83, 3) := dk_182 0 83 (dk_at dksJ19_inflate_0 1 rfl rfl)
theorem dJ19_inflate_4 : decode cJ19_inflate 4 = .ok (.ifCond .ne 4, 3) := dk_154 0 4 (dk_at dksJ19_inflate_0 4 rfl rfl)
theorem dJ19_inflate_7 : decode cJ19_inflate 7 = .ok (.return_, 1) := dk_177 (dk_at dksJ19_inflate_0 7 rfl rfl)
theorem dJ19_inflate_8 : decode cJ19_inflate 8 = .ok (.aload_n 0, 1) := dk_42 (dk_at dksJ19_inflate_0 8 rfl rfl)
theorem dJ19_inflate_9 : decode cJ19_inflate 9 = .ok (.getfield 15, 3) := dk_180 0 15 (dk_at dksJ19_inflate_0 9 rfl rfl)
theorem dJ19_inflate_12 : decode cJ19_inflate 12 = .ok (.arraylength, 1) := dk_190 (dk_at dksJ19_inflate_0 12 rfl rfl)
theorem dJ19_inflate_13 : decode cJ19_inflate 13 = .ok (.invokestatic 26, 3) := dk_184 0 26 (dk_at dksJ19_inflate_0 13 rfl rfl)
theorem dJ19_inflate_16 : decode cJ19_inflate 16 = .ok (.astore_n 1, 1) := dk_76 (dk_at dksJ19_inflate_0 16 rfl rfl)
theorem dJ19_inflate_17 : decode cJ19_inflate 17 = .ok (.aload_n 0, 1) := dk_42 (dk_at dksJ19_inflate_0 17 rfl rfl)
theorem dJ19_inflate_18 : decode cJ19_inflate 18 = .ok (.getfield 15, 3) := dk_180 0 15 (dk_at dksJ19_inflate_0 18 rfl rfl)
theorem dJ19_inflate_21 : decode cJ19_inflate 21 = .ok (.iconst 0, 1) := dk_3 (dk_at dksJ19_inflate_0 21 rfl rfl)
theorem dJ19_inflate_22 : decode cJ19_inflate 22 = .ok (.aload_n 1, 1) := dk_43 (dk_at dksJ19_inflate_0 22 rfl rfl)
theorem dJ19_inflate_23 : decode cJ19_inflate 23 = .ok (.iconst 0, 1) := dk_3 (dk_at dksJ19_inflate_0 23 rfl rfl)
theorem dJ19_inflate_24 : decode cJ19_inflate 24 = .ok (.aload_n 0, 1) := dk_42 (dk_at dksJ19_inflate_1 0 rfl rfl)
theorem dJ19_inflate_25 : decode cJ19_inflate 25 = .ok (.getfield 79, 3) := dk_180 0 79 (dk_at dksJ19_inflate_1 1 rfl rfl)
theorem dJ19_inflate_28 : decode cJ19_inflate 28 = .ok (.invokestatic 125, 3) := dk_184 0 125 (dk_at dksJ19_inflate_1 4 rfl rfl)
theorem dJ19_inflate_31 : decode cJ19_inflate 31 = .ok (.aload_n 0, 1) := dk_42 (dk_at dksJ19_inflate_1 7 rfl rfl)
theorem dJ19_inflate_32 : decode cJ19_inflate 32 = .ok (.aload_n 1, 1) := dk_43 (dk_at dksJ19_inflate_1 8 rfl rfl)
theorem dJ19_inflate_33 : decode cJ19_inflate 33 = .ok (.putfield 15, 3) := dk_181 0 15 (dk_at dksJ19_inflate_1 9 rfl rfl)
theorem dJ19_inflate_36 : decode cJ19_inflate 36 = .ok (.aload_n 0, 1) := dk_42 (dk_at dksJ19_inflate_1 12 rfl rfl)
theorem dJ19_inflate_37 : decode cJ19_inflate 37 = .ok (.iconst 1, 1) := dk_4 (dk_at dksJ19_inflate_1 13 rfl rfl)
theorem dJ19_inflate_38 : decode cJ19_inflate 38 = .ok (.putfield 22, 3) := dk_181 0 22 (dk_at dksJ19_inflate_1 14 rfl rfl)
theorem dJ19_inflate_41 : decode cJ19_inflate 41 = .ok (.return_, 1) := dk_177 (dk_at dksJ19_inflate_1 17 rfl rfl)
abbrev cJ19_append_2 : ByteArray := prog_6_method_32_code
def yJ19_append_2 : MethodName := ⟨RJ19, "append", "(I)Ljava/lang/AbstractStringBuilder;"⟩
def dkwJ19_append_2_2 : List UInt8 := [42, 29, 181, 0, 79, 42, 176]
abbrev dktJ19_append_2_2 : List UInt8 := dkwJ19_append_2_2 ++ []
def dkwJ19_append_2_1 : List UInt8 := [27, 29, 42, 180, 0, 15, 184, 0, 248, 87, 167, 0, 14, 27, 28, 29, 42, 180, 0, 15, 184, 0, 251, 87]
abbrev dktJ19_append_2_1 : List UInt8 := dkwJ19_append_2_1 ++ dktJ19_append_2_2
def dkwJ19_append_2_0 : List UInt8 := [42, 180, 0, 79, 61, 28, 27, 184, 0, 245, 96, 62, 42, 29, 182, 0, 100, 42, 182, 0, 83, 153, 0, 16]
abbrev dktJ19_append_2_0 : List UInt8 := dkwJ19_append_2_0 ++ dktJ19_append_2_1
theorem dksJ19_append_2_0 : cJ19_append_2.data.toList.drop 0 = dktJ19_append_2_0 := by decide +kernel
theorem dksJ19_append_2_1 : cJ19_append_2.data.toList.drop 24 = dktJ19_append_2_1 := dk_seg dksJ19_append_2_0 24 rfl rfl
theorem dksJ19_append_2_2 : cJ19_append_2.data.toList.drop 48 = dktJ19_append_2_2 := dk_seg dksJ19_append_2_1 24 rfl rfl
theorem dJ19_append_2_0 : decode cJ19_append_2 0 = .ok (.aload_n 0, 1) := dk_42 (dk_at dksJ19_append_2_0 0 rfl rfl)
theorem dJ19_append_2_1 : decode cJ19_append_2 1 = .ok (.getfield 79, 3) := dk_180 0 79 (dk_at dksJ19_append_2_0 1 rfl rfl)
theorem dJ19_append_2_4 : decode cJ19_append_2 4 = .ok (.istore_n 2, 1) := dk_61 (dk_at dksJ19_append_2_0 4 rfl rfl)
theorem dJ19_append_2_5 : decode cJ19_append_2 5 = .ok (.iload_n 2, 1) := dk_28 (dk_at dksJ19_append_2_0 5 rfl rfl)
theorem dJ19_append_2_6 : decode cJ19_append_2 6 = .ok (.iload_n 1, 1) := dk_27 (dk_at dksJ19_append_2_0 6 rfl rfl)
theorem dJ19_append_2_7 : decode cJ19_append_2 7 = .ok (.invokestatic 245, 3) := dk_184 0 245 (dk_at dksJ19_append_2_0 7 rfl rfl)
theorem dJ19_append_2_10 : decode cJ19_append_2 10 = .ok (.iadd, 1) := dk_96 (dk_at dksJ19_append_2_0 10 rfl rfl)
theorem dJ19_append_2_11 : decode cJ19_append_2 11 = .ok (.istore_n 3, 1) := dk_62 (dk_at dksJ19_append_2_0 11 rfl rfl)
theorem dJ19_append_2_12 : decode cJ19_append_2 12 = .ok (.aload_n 0, 1) := dk_42 (dk_at dksJ19_append_2_0 12 rfl rfl)
theorem dJ19_append_2_13 : decode cJ19_append_2 13 = .ok (.iload_n 3, 1) := dk_29 (dk_at dksJ19_append_2_0 13 rfl rfl)
theorem dJ19_append_2_14 : decode cJ19_append_2 14 = .ok (.invokevirtual 100, 3) := dk_182 0 100 (dk_at dksJ19_append_2_0 14 rfl rfl)
theorem dJ19_append_2_17 : decode cJ19_append_2 17 = .ok (.aload_n 0, 1) := dk_42 (dk_at dksJ19_append_2_0 17 rfl rfl)
theorem dJ19_append_2_18 : decode cJ19_append_2 18 = .ok (.invokevirtual 83, 3) := dk_182 0 83 (dk_at dksJ19_append_2_0 18 rfl rfl)
theorem dJ19_append_2_21 : decode cJ19_append_2 21 = .ok (.ifCond .eq 16, 3) := dk_153 0 16 (dk_at dksJ19_append_2_0 21 rfl rfl)
theorem dJ19_append_2_24 : decode cJ19_append_2 24 = .ok (.iload_n 1, 1) := dk_27 (dk_at dksJ19_append_2_1 0 rfl rfl)
theorem dJ19_append_2_25 : decode cJ19_append_2 25 = .ok (.iload_n 3, 1) := dk_29 (dk_at dksJ19_append_2_1 1 rfl rfl)
theorem dJ19_append_2_26 : decode cJ19_append_2 26 = .ok (.aload_n 0, 1) := dk_42 (dk_at dksJ19_append_2_1 2 rfl rfl)
theorem dJ19_append_2_27 : decode cJ19_append_2 27 = .ok (.getfield 15, 3) := dk_180 0 15 (dk_at dksJ19_append_2_1 3 rfl rfl)
theorem dJ19_append_2_30 : decode cJ19_append_2 30 = .ok (.invokestatic 248, 3) := dk_184 0 248 (dk_at dksJ19_append_2_1 6 rfl rfl)
theorem dJ19_append_2_33 : decode cJ19_append_2 33 = .ok (.pop, 1) := dk_87 (dk_at dksJ19_append_2_1 9 rfl rfl)
theorem dJ19_append_2_34 : decode cJ19_append_2 34 = .ok (.goto 14, 3) := dk_167 0 14 (dk_at dksJ19_append_2_1 10 rfl rfl)
theorem dJ19_append_2_37 : decode cJ19_append_2 37 = .ok (.iload_n 1, 1) := dk_27 (dk_at dksJ19_append_2_1 13 rfl rfl)
theorem dJ19_append_2_38 : decode cJ19_append_2 38 = .ok (.iload_n 2, 1) := dk_28 (dk_at dksJ19_append_2_1 14 rfl rfl)
theorem dJ19_append_2_39 : decode cJ19_append_2 39 = .ok (.iload_n 3, 1) := dk_29 (dk_at dksJ19_append_2_1 15 rfl rfl)
theorem dJ19_append_2_40 : decode cJ19_append_2 40 = .ok (.aload_n 0, 1) := dk_42 (dk_at dksJ19_append_2_1 16 rfl rfl)
theorem dJ19_append_2_41 : decode cJ19_append_2 41 = .ok (.getfield 15, 3) := dk_180 0 15 (dk_at dksJ19_append_2_1 17 rfl rfl)
theorem dJ19_append_2_44 : decode cJ19_append_2 44 = .ok (.invokestatic 251, 3) := dk_184 0 251 (dk_at dksJ19_append_2_1 20 rfl rfl)
theorem dJ19_append_2_47 : decode cJ19_append_2 47 = .ok (.pop, 1) := dk_87 (dk_at dksJ19_append_2_1 23 rfl rfl)
theorem dJ19_append_2_48 : decode cJ19_append_2 48 = .ok (.aload_n 0, 1) := dk_42 (dk_at dksJ19_append_2_2 0 rfl rfl)
theorem dJ19_append_2_49 : decode cJ19_append_2 49 = .ok (.iload_n 3, 1) := dk_29 (dk_at dksJ19_append_2_2 1 rfl rfl)
theorem dJ19_append_2_50 : decode cJ19_append_2 50 = .ok (.putfield 79, 3) := dk_181 0 79 (dk_at dksJ19_append_2_2 2 rfl rfl)
theorem dJ19_append_2_53 : decode cJ19_append_2 53 = .ok (.aload_n 0, 1) := dk_42 (dk_at dksJ19_append_2_2 5 rfl rfl)
theorem dJ19_append_2_54 : decode cJ19_append_2 54 = .ok (.areturn, 1) := dk_176 (dk_at dksJ19_append_2_2 6 rfl rfl)
abbrev cJ19_getValue : ByteArray := prog_6_method_64_code
def yJ19_getValue : MethodName := ⟨RJ19, "getValue", "()[B"⟩
theorem dJ19_getValue_0 : decode cJ19_getValue 0 = .ok (.aload_n 0, 1) := by decide +kernel
theorem dJ19_getValue_1 : decode cJ19_getValue 1 = .ok (.getfield 15, 3) := by decide +kernel
theorem dJ19_getValue_4 : decode cJ19_getValue 4 = .ok (.areturn, 1) := by decide +kernel
abbrev cJ19_length : ByteArray := prog_6_method_6_code
def yJ19_length : MethodName := ⟨RJ19, "length", "()I"⟩
theorem dJ19_length_0 : decode cJ19_length 0 = .ok (.aload_n 0, 1) := by decide +kernel
theorem dJ19_length_1 : decode cJ19_length 1 = .ok (.getfield 79, 3) := by decide +kernel
theorem dJ19_length_4 : decode cJ19_length 4 = .ok (.ireturn, 1) := by decide +kernel
theorem q65 : (Jvm.Cond.initialized "java/lang/AbstractStringBuilder") ∈ lw_all := lw_g (lw_at lw_m1 25 rfl) rfl
theorem q725 : (Jvm.Cond.instanceMethod ({ cls := "java/lang/AbstractStringBuilder", name := "<init>", desc := "(I)V" } : Jvm.MethodName)) ∈ lw_all := lw_g (lw_at lw_m3 205 rfl) rfl
theorem q726 : (Jvm.Cond.code ({ cls := "java/lang/AbstractStringBuilder", name := "<init>", desc := "(I)V" } : Jvm.MethodName) prog_6_method_2_code (2 : Nat) (Option.none : Option Jvm.ClassFile.FieldType)) ∈ lw_all := lw_g (lw_at lw_m3 206 rfl) rfl
theorem q727 : (Jvm.Cond.methodLink "java/lang/AbstractStringBuilder" (3 : Nat) ({ cls := "java/lang/Object", name := "<init>", desc := "()V" } : Jvm.MethodName)) ∈ lw_all := lw_g (lw_at lw_m3 207 rfl) rfl
theorem q728 : (Jvm.Cond.fieldLink "java/lang/AbstractStringBuilder" (18 : Nat) "java/lang/String" "COMPACT_STRINGS" "Z") ∈ lw_all := lw_g (lw_at lw_m3 208 rfl) rfl
theorem q730 : (Jvm.Cond.methodLink "java/lang/AbstractStringBuilder" (26 : Nat) ({ cls := "java/lang/StringUTF16", name := "newBytesFor", desc := "(I)[B" } : Jvm.MethodName)) ∈ lw_all := lw_g (lw_at lw_m3 210 rfl) rfl
theorem q737 : (Jvm.Cond.fieldLink "java/lang/AbstractStringBuilder" (15 : Nat) "java/lang/AbstractStringBuilder" "value" "[B") ∈ lw_all := lw_g (lw_at lw_m3 217 rfl) rfl
theorem q738 : (Jvm.Cond.fieldLink "java/lang/AbstractStringBuilder" (22 : Nat) "java/lang/AbstractStringBuilder" "coder" "B") ∈ lw_all := lw_g (lw_at lw_m3 218 rfl) rfl
theorem q740 : (Jvm.Cond.fieldLink "java/lang/AbstractStringBuilder" (79 : Nat) "java/lang/AbstractStringBuilder" "count" "I") ∈ lw_all := lw_g (lw_at lw_m3 220 rfl) rfl
theorem q742 : (Jvm.Cond.soleField "java/lang/AbstractStringBuilder" "value") ∈ lw_all := lw_g (lw_at lw_m3 222 rfl) rfl
theorem q744 : (Jvm.Cond.soleField "java/lang/AbstractStringBuilder" "coder") ∈ lw_all := lw_g (lw_at lw_m3 224 rfl) rfl
theorem q746 : (Jvm.Cond.soleField "java/lang/AbstractStringBuilder" "maybeLatin1") ∈ lw_all := lw_g (lw_at lw_m3 226 rfl) rfl
theorem q748 : (Jvm.Cond.soleField "java/lang/AbstractStringBuilder" "count") ∈ lw_all := lw_g (lw_at lw_m3 228 rfl) rfl
theorem q762 : (Jvm.Cond.instanceMethod ({ cls := "java/lang/AbstractStringBuilder", name := "append", desc := "(Ljava/lang/String;)Ljava/lang/AbstractStringBuilder;" } : Jvm.MethodName)) ∈ lw_all := lw_g (lw_at lw_m4 2 rfl) rfl
theorem q763 : (Jvm.Cond.code ({ cls := "java/lang/AbstractStringBuilder", name := "append", desc := "(Ljava/lang/String;)Ljava/lang/AbstractStringBuilder;" } : Jvm.MethodName) prog_6_method_22_code (3 : Nat) (Option.some (Jvm.ClassFile.FieldType.object "java/lang/AbstractStringBuilder"))) ∈ lw_all := lw_g (lw_at lw_m4 3 rfl) rfl
theorem q764 : (Jvm.Cond.methodLink "java/lang/AbstractStringBuilder" (204 : Nat) ({ cls := "java/lang/AbstractStringBuilder", name := "appendNull", desc := "()Ljava/lang/AbstractStringBuilder;" } : Jvm.MethodName)) ∈ lw_all := lw_g (lw_at lw_m4 4 rfl) rfl
theorem q765 : (Jvm.Cond.privateMethod ({ cls := "java/lang/AbstractStringBuilder", name := "appendNull", desc := "()Ljava/lang/AbstractStringBuilder;" } : Jvm.MethodName)) ∈ lw_tbl := lw_at lw_m4 5 rfl
theorem q766 : (Jvm.Cond.instanceMethod ({ cls := "java/lang/AbstractStringBuilder", name := "appendNull", desc := "()Ljava/lang/AbstractStringBuilder;" } : Jvm.MethodName)) ∈ lw_all := lw_g (lw_at lw_m4 6 rfl) rfl
theorem q767 : (Jvm.Cond.code ({ cls := "java/lang/AbstractStringBuilder", name := "appendNull", desc := "()Ljava/lang/AbstractStringBuilder;" } : Jvm.MethodName) prog_6_method_26_code (3 : Nat) (Option.some (Jvm.ClassFile.FieldType.object "java/lang/AbstractStringBuilder"))) ∈ lw_all := lw_g (lw_at lw_m4 7 rfl) rfl
theorem q768 : (Jvm.Cond.methodLink "java/lang/AbstractStringBuilder" (100 : Nat) ({ cls := "java/lang/AbstractStringBuilder", name := "ensureCapacityInternal", desc := "(I)V" } : Jvm.MethodName)) ∈ lw_all := lw_g (lw_at lw_m4 8 rfl) rfl
theorem q769 : (Jvm.Cond.privateMethod ({ cls := "java/lang/AbstractStringBuilder", name := "ensureCapacityInternal", desc := "(I)V" } : Jvm.MethodName)) ∈ lw_tbl := lw_at lw_m4 9 rfl
theorem q770 : (Jvm.Cond.instanceMethod ({ cls := "java/lang/AbstractStringBuilder", name := "ensureCapacityInternal", desc := "(I)V" } : Jvm.MethodName)) ∈ lw_all := lw_g (lw_at lw_m4 10 rfl) rfl
theorem q771 : (Jvm.Cond.code ({ cls := "java/lang/AbstractStringBuilder", name := "ensureCapacityInternal", desc := "(I)V" } : Jvm.MethodName) prog_6_method_9_code (3 : Nat) (Option.none : Option Jvm.ClassFile.FieldType)) ∈ lw_all := lw_g (lw_at lw_m4 11 rfl) rfl
theorem q772 : (Jvm.Cond.methodLink "java/lang/AbstractStringBuilder" (104 : Nat) ({ cls := "java/lang/AbstractStringBuilder", name := "newCapacity", desc := "(I)I" } : Jvm.MethodName)) ∈ lw_all := lw_g (lw_at lw_m4 12 rfl) rfl
theorem q773 : (Jvm.Cond.privateMethod ({ cls := "java/lang/AbstractStringBuilder", name := "newCapacity", desc := "(I)I" } : Jvm.MethodName)) ∈ lw_tbl := lw_at lw_m4 13 rfl
theorem q774 : (Jvm.Cond.instanceMethod ({ cls := "java/lang/AbstractStringBuilder", name := "newCapacity", desc := "(I)I" } : Jvm.MethodName)) ∈ lw_all := lw_g (lw_at lw_m4 14 rfl) rfl
theorem q775 : (Jvm.Cond.code ({ cls := "java/lang/AbstractStringBuilder", name := "newCapacity", desc := "(I)I" } : Jvm.MethodName) prog_6_method_10_code (6 : Nat) (Option.some Jvm.ClassFile.FieldType.int)) ∈ lw_all := lw_g (lw_at lw_m4 15 rfl) rfl
theorem q776 : (Jvm.Cond.methodLink "java/lang/AbstractStringBuilder" (114 : Nat) ({ cls := "jdk/internal/util/ArraysSupport", name := "newLength", desc := "(III)I" } : Jvm.MethodName)) ∈ lw_all := lw_g (lw_at lw_m4 16 rfl) rfl
theorem q786 : (Jvm.Cond.constant "java/lang/AbstractStringBuilder" (39 : Nat) (2147483647 : Int32)) ∈ lw_all := lw_g (lw_at lw_m4 26 rfl) rfl
theorem q787 : (Jvm.Cond.methodLink "java/lang/AbstractStringBuilder" (108 : Nat) ({ cls := "java/util/Arrays", name := "copyOf", desc := "([BI)[B" } : Jvm.MethodName)) ∈ lw_all := lw_g (lw_at lw_m4 27 rfl) rfl
theorem q801 : (Jvm.Cond.methodLink "java/lang/AbstractStringBuilder" (83 : Nat) ({ cls := "java/lang/AbstractStringBuilder", name := "isLatin1", desc := "()Z" } : Jvm.MethodName)) ∈ lw_all := lw_g (lw_at lw_m4 41 rfl) rfl
theorem q802 : (Jvm.Cond.instanceMethod ({ cls := "java/lang/AbstractStringBuilder", name := "isLatin1", desc := "()Z" } : Jvm.MethodName)) ∈ lw_all := lw_g (lw_at lw_m4 42 rfl) rfl
theorem q803 : (Jvm.Cond.sameMethod "java/lang/AbstractStringBuilder" "java/lang/AbstractStringBuilder" "isLatin1" "()Z") ∈ lw_all := lw_g (lw_at lw_m4 43 rfl) rfl
theorem q805 : (Jvm.Cond.code ({ cls := "java/lang/AbstractStringBuilder", name := "isLatin1", desc := "()Z" } : Jvm.MethodName) prog_6_method_68_code (1 : Nat) (Option.some Jvm.ClassFile.FieldType.boolean)) ∈ lw_all := lw_g (lw_at lw_m4 45 rfl) rfl
theorem q806 : (Jvm.Cond.methodLink "java/lang/AbstractStringBuilder" (226 : Nat) ({ cls := "java/lang/StringUTF16", name := "putCharsAt", desc := "([BICCCC)I" } : Jvm.MethodName)) ∈ lw_all := lw_g (lw_at lw_m4 46 rfl) rfl
theorem q832 : (Jvm.Cond.methodLink "java/lang/AbstractStringBuilder" (32 : Nat) ({ cls := "java/lang/String", name := "length", desc := "()I" } : Jvm.MethodName)) ∈ lw_all := lw_g (lw_at lw_m4 72 rfl) rfl
theorem q841 : (Jvm.Cond.methodLink "java/lang/AbstractStringBuilder" (208 : Nat) ({ cls := "java/lang/AbstractStringBuilder", name := "putStringAt", desc := "(ILjava/lang/String;)V" } : Jvm.MethodName)) ∈ lw_all := lw_g (lw_at lw_m4 81 rfl) rfl
theorem q842 : (Jvm.Cond.privateMethod ({ cls := "java/lang/AbstractStringBuilder", name := "putStringAt", desc := "(ILjava/lang/String;)V" } : Jvm.MethodName)) ∈ lw_tbl := lw_at lw_m4 82 rfl
theorem q843 : (Jvm.Cond.instanceMethod ({ cls := "java/lang/AbstractStringBuilder", name := "putStringAt", desc := "(ILjava/lang/String;)V" } : Jvm.MethodName)) ∈ lw_all := lw_g (lw_at lw_m4 83 rfl) rfl
theorem q844 : (Jvm.Cond.code ({ cls := "java/lang/AbstractStringBuilder", name := "putStringAt", desc := "(ILjava/lang/String;)V" } : Jvm.MethodName) prog_6_method_73_code (3 : Nat) (Option.none : Option Jvm.ClassFile.FieldType)) ∈ lw_all := lw_g (lw_at lw_m4 84 rfl) rfl
theorem q845 : (Jvm.Cond.methodLink "java/lang/AbstractStringBuilder" (397 : Nat) ({ cls := "java/lang/AbstractStringBuilder", name := "inflateIfNeededFor", desc := "(Ljava/lang/String;)V" } : Jvm.MethodName)) ∈ lw_all := lw_g (lw_at lw_m4 85 rfl) rfl
theorem q846 : (Jvm.Cond.privateMethod ({ cls := "java/lang/AbstractStringBuilder", name := "inflateIfNeededFor", desc := "(Ljava/lang/String;)V" } : Jvm.MethodName)) ∈ lw_tbl := lw_at lw_m4 86 rfl
theorem q847 : (Jvm.Cond.instanceMethod ({ cls := "java/lang/AbstractStringBuilder", name := "inflateIfNeededFor", desc := "(Ljava/lang/String;)V" } : Jvm.MethodName)) ∈ lw_all := lw_g (lw_at lw_m4 87 rfl) rfl
theorem q848 : (Jvm.Cond.code ({ cls := "java/lang/AbstractStringBuilder", name := "inflateIfNeededFor", desc := "(Ljava/lang/String;)V" } : Jvm.MethodName) prog_6_method_71_code (2 : Nat) (Option.none : Option Jvm.ClassFile.FieldType)) ∈ lw_all := lw_g (lw_at lw_m4 88 rfl) rfl
theorem q849 : (Jvm.Cond.methodLink "java/lang/AbstractStringBuilder" (40 : Nat) ({ cls := "java/lang/String", name := "coder", desc := "()B" } : Jvm.MethodName)) ∈ lw_all := lw_g (lw_at lw_m4 89 rfl) rfl
theorem q850 : (Jvm.Cond.methodLink "java/lang/AbstractStringBuilder" (195 : Nat) ({ cls := "java/lang/AbstractStringBuilder", name := "inflate", desc := "()V" } : Jvm.MethodName)) ∈ lw_all := lw_g (lw_at lw_m4 90 rfl) rfl
theorem q851 : (Jvm.Cond.privateMethod ({ cls := "java/lang/AbstractStringBuilder", name := "inflate", desc := "()V" } : Jvm.MethodName)) ∈ lw_tbl := lw_at lw_m4 91 rfl
theorem q852 : (Jvm.Cond.instanceMethod ({ cls := "java/lang/AbstractStringBuilder", name := "inflate", desc := "()V" } : Jvm.MethodName)) ∈ lw_all := lw_g (lw_at lw_m4 92 rfl) rfl
theorem q853 : (Jvm.Cond.code ({ cls := "java/lang/AbstractStringBuilder", name := "inflate", desc := "()V" } : Jvm.MethodName) prog_6_method_11_code (2 : Nat) (Option.none : Option Jvm.ClassFile.FieldType)) ∈ lw_all := lw_g (lw_at lw_m4 93 rfl) rfl
theorem q854 : (Jvm.Cond.methodLink "java/lang/AbstractStringBuilder" (125 : Nat) ({ cls := "java/lang/StringLatin1", name := "inflate", desc := "([BI[BII)V" } : Jvm.MethodName)) ∈ lw_all := lw_g (lw_at lw_m4 94 rfl) rfl
theorem q869 : (Jvm.Cond.methodLink "java/lang/AbstractStringBuilder" (399 : Nat) ({ cls := "java/lang/String", name := "getBytes", desc := "([BIB)V" } : Jvm.MethodName)) ∈ lw_all := lw_g (lw_at lw_m4 109 rfl) rfl
theorem q880 : (Jvm.Cond.instanceMethod ({ cls := "java/lang/AbstractStringBuilder", name := "append", desc := "(I)Ljava/lang/AbstractStringBuilder;" } : Jvm.MethodName)) ∈ lw_all := lw_g (lw_at lw_m4 120 rfl) rfl
theorem q881 : (Jvm.Cond.code ({ cls := "java/lang/AbstractStringBuilder", name := "append", desc := "(I)Ljava/lang/AbstractStringBuilder;" } : Jvm.MethodName) prog_6_method_32_code (4 : Nat) (Option.some (Jvm.ClassFile.FieldType.object "java/lang/AbstractStringBuilder"))) ∈ lw_all := lw_g (lw_at lw_m4 121 rfl) rfl
theorem q882 : (Jvm.Cond.methodLink "java/lang/AbstractStringBuilder" (245 : Nat) ({ cls := "java/lang/Integer", name := "stringSize", desc := "(I)I" } : Jvm.MethodName)) ∈ lw_all := lw_g (lw_at lw_m4 122 rfl) rfl
theorem q885 : (Jvm.Cond.methodLink "java/lang/AbstractStringBuilder" (248 : Nat) ({ cls := "java/lang/Integer", name := "getChars", desc := "(II[B)I" } : Jvm.MethodName)) ∈ lw_all := lw_g (lw_at lw_m4 125 rfl) rfl
theorem q892 : (Jvm.Cond.methodLink "java/lang/AbstractStringBuilder" (251 : Nat) ({ cls := "java/lang/StringUTF16", name := "getChars", desc := "(III[B)I" } : Jvm.MethodName)) ∈ lw_all := lw_g (lw_at lw_m4 132 rfl) rfl
theorem q913 : (Jvm.Cond.instanceMethod ({ cls := "java/lang/AbstractStringBuilder", name := "getValue", desc := "()[B" } : Jvm.MethodName)) ∈ lw_all := lw_g (lw_at lw_m4 153 rfl) rfl
theorem q914 : (Jvm.Cond.sameMethod "java/lang/AbstractStringBuilder" "java/lang/AbstractStringBuilder" "getValue" "()[B") ∈ lw_all := lw_g (lw_at lw_m4 154 rfl) rfl
theorem q916 : (Jvm.Cond.code ({ cls := "java/lang/AbstractStringBuilder", name := "getValue", desc := "()[B" } : Jvm.MethodName) prog_6_method_64_code (1 : Nat) (Option.some (Jvm.ClassFile.FieldType.array Jvm.ClassFile.FieldType.byte))) ∈ lw_all := lw_g (lw_at lw_m4 156 rfl) rfl
theorem q918 : (Jvm.Cond.instanceMethod ({ cls := "java/lang/AbstractStringBuilder", name := "length", desc := "()I" } : Jvm.MethodName)) ∈ lw_all := lw_g (lw_at lw_m4 158 rfl) rfl
theorem q919 : (Jvm.Cond.sameMethod "java/lang/AbstractStringBuilder" "java/lang/AbstractStringBuilder" "length" "()I") ∈ lw_all := lw_g (lw_at lw_m4 159 rfl) rfl
theorem q924 : (Jvm.Cond.code ({ cls := "java/lang/AbstractStringBuilder", name := "length", desc := "()I" } : Jvm.MethodName) prog_6_method_6_code (1 : Nat) (Option.some Jvm.ClassFile.FieldType.int)) ∈ lw_all := lw_g (lw_at lw_m4 164 rfl) rfl
theorem q1856 : (Jvm.Cond.sameMethod "java/lang/AbstractStringBuilder" "java/lang/AbstractStringBuilder" "append" "(Ljava/lang/String;)Ljava/lang/AbstractStringBuilder;") ∈ lw_all := lw_g (lw_at lw_m8 136 rfl) rfl
theorem q1857 : (Jvm.Cond.sameMethod "java/lang/AbstractStringBuilder" "java/lang/AbstractStringBuilder" "appendNull" "()Ljava/lang/AbstractStringBuilder;") ∈ lw_all := lw_g (lw_at lw_m8 137 rfl) rfl
theorem q1858 : (Jvm.Cond.sameMethod "java/lang/AbstractStringBuilder" "java/lang/AbstractStringBuilder" "ensureCapacityInternal" "(I)V") ∈ lw_all := lw_g (lw_at lw_m8 138 rfl) rfl
theorem q1859 : (Jvm.Cond.sameMethod "java/lang/AbstractStringBuilder" "java/lang/AbstractStringBuilder" "newCapacity" "(I)I") ∈ lw_all := lw_g (lw_at lw_m8 139 rfl) rfl
theorem q1860 : (Jvm.Cond.sameMethod "java/lang/AbstractStringBuilder" "java/lang/AbstractStringBuilder" "putStringAt" "(ILjava/lang/String;)V") ∈ lw_all := lw_g (lw_at lw_m8 140 rfl) rfl
theorem q1861 : (Jvm.Cond.sameMethod "java/lang/AbstractStringBuilder" "java/lang/AbstractStringBuilder" "inflateIfNeededFor" "(Ljava/lang/String;)V") ∈ lw_all := lw_g (lw_at lw_m8 141 rfl) rfl
theorem q1862 : (Jvm.Cond.sameMethod "java/lang/AbstractStringBuilder" "java/lang/AbstractStringBuilder" "inflate" "()V") ∈ lw_all := lw_g (lw_at lw_m8 142 rfl) rfl
theorem q1863 : (Jvm.Cond.sameMethod "java/lang/AbstractStringBuilder" "java/lang/AbstractStringBuilder" "append" "(I)Ljava/lang/AbstractStringBuilder;") ∈ lw_all := lw_g (lw_at lw_m8 143 rfl) rfl

/-! java/lang/StringBuilder -/
set_option maxRecDepth 100000
def RJ20 : String := "java/lang/StringBuilder"
def TJ20 : u_T := fun k => match k with
  | 0 => ("java/lang/AbstractStringBuilder", "value", "[B", false)
  | 1 => ("java/lang/AbstractStringBuilder", "coder", "B", false)
  | 2 => ("java/lang/AbstractStringBuilder", "maybeLatin1", "Z", false)
  | _ => ("java/lang/AbstractStringBuilder", "count", "I", false)
def tyJ20 : Nat → FieldType := fun k => match k with
  | 0 => .array .byte
  | 1 => .byte
  | 2 => .boolean
  | _ => .int
abbrev wsJ200 : List Cond := u_ws RJ20 TJ20 4
theorem nmJ20 : ∀ a, a < 4 → ∀ b, b < 4 → a ≠ b → (TJ20 a).2.1 ≠ (TJ20 b).2.1 := by decide +kernel
theorem tyJ20_ok : ∀ k, k < 4 → parseFieldDescriptor (TJ20 k).2.2.1 = some (tyJ20 k) := by decide +kernel
abbrev cJ20_init : ByteArray := prog_22_method_1_code
def yJ20_init : MethodName := ⟨RJ20, "<init>", "()V"⟩
def dkwJ20_init_0 : List UInt8 := [42, 16, 16, 183, 0, 1, 177]
abbrev dktJ20_init_0 : List UInt8 := dkwJ20_init_0 ++ []
theorem dksJ20_init_0 : cJ20_init.data.toList.drop 0 = dktJ20_init_0 := by decide +kernel
theorem dJ20_init_0 : decode cJ20_init 0 = .ok (.aload_n 0, 1) := dk_42 (dk_at dksJ20_init_0 0 rfl rfl)
theorem dJ20_init_1 : decode cJ20_init 1 = .ok (.bipush 16, 2) := dk_16 16 (dk_at dksJ20_init_0 1 rfl rfl)
theorem dJ20_init_3 : decode cJ20_init 3 = .ok (.invokespecial 1, 3) := dk_183 0 1 (dk_at dksJ20_init_0 3 rfl rfl)
theorem dJ20_init_6 : decode cJ20_init 6 = .ok (.return_, 1) := dk_177 (dk_at dksJ20_init_0 6 rfl rfl)
abbrev cJ20_append : ByteArray := prog_22_method_7_code
def yJ20_append : MethodName := ⟨RJ20, "append", "(Ljava/lang/String;)Ljava/lang/StringBuilder;"⟩
def dkwJ20_append_0 : List UInt8 := [42, 43, 183, 0, 29, 87, 42, 176]
abbrev dktJ20_append_0 : List UInt8 := dkwJ20_append_0 ++ []
theorem dksJ20_append_0 : cJ20_append.data.toList.drop 0 = dktJ20_append_0 := by decide +kernel
theorem dJ20_append_0 : decode cJ20_append 0 = .ok (.aload_n 0, 1) := dk_42 (dk_at dksJ20_append_0 0 rfl rfl)
theorem dJ20_append_1 : decode cJ20_append 1 = .ok (.aload_n 1, 1) := dk_43 (dk_at dksJ20_append_0 1 rfl rfl)
theorem dJ20_append_2 : decode cJ20_append 2 = .ok (.invokespecial 29, 3) := dk_183 0 29 (dk_at dksJ20_append_0 2 rfl rfl)
theorem dJ20_append_5 : decode cJ20_append 5 = .ok (.pop, 1) := dk_87 (dk_at dksJ20_append_0 5 rfl rfl)
theorem dJ20_append_6 : decode cJ20_append 6 = .ok (.aload_n 0, 1) := dk_42 (dk_at dksJ20_append_0 6 rfl rfl)
theorem dJ20_append_7 : decode cJ20_append 7 = .ok (.areturn, 1) := dk_176 (dk_at dksJ20_append_0 7 rfl rfl)
abbrev cJ20_append_2 : ByteArray := prog_22_method_15_code
def yJ20_append_2 : MethodName := ⟨RJ20, "append", "(I)Ljava/lang/StringBuilder;"⟩
def dkwJ20_append_2_0 : List UInt8 := [42, 27, 183, 0, 53, 87, 42, 176]
abbrev dktJ20_append_2_0 : List UInt8 := dkwJ20_append_2_0 ++ []
theorem dksJ20_append_2_0 : cJ20_append_2.data.toList.drop 0 = dktJ20_append_2_0 := by decide +kernel
theorem dJ20_append_2_0 : decode cJ20_append_2 0 = .ok (.aload_n 0, 1) := dk_42 (dk_at dksJ20_append_2_0 0 rfl rfl)
theorem dJ20_append_2_1 : decode cJ20_append_2 1 = .ok (.iload_n 1, 1) := dk_27 (dk_at dksJ20_append_2_0 1 rfl rfl)
theorem dJ20_append_2_2 : decode cJ20_append_2 2 = .ok (.invokespecial 53, 3) := dk_183 0 53 (dk_at dksJ20_append_2_0 2 rfl rfl)
theorem dJ20_append_2_5 : decode cJ20_append_2 5 = .ok (.pop, 1) := dk_87 (dk_at dksJ20_append_2_0 5 rfl rfl)
theorem dJ20_append_2_6 : decode cJ20_append_2 6 = .ok (.aload_n 0, 1) := dk_42 (dk_at dksJ20_append_2_0 6 rfl rfl)
theorem dJ20_append_2_7 : decode cJ20_append_2 7 = .ok (.areturn, 1) := dk_176 (dk_at dksJ20_append_2_0 7 rfl rfl)
abbrev cJ20_toString : ByteArray := prog_22_method_42_code
def yJ20_toString : MethodName := ⟨RJ20, "toString", "()Ljava/lang/String;"⟩
def dkwJ20_toString_0 : List UInt8 := [187, 0, 18, 89, 42, 183, 0, 137, 176]
abbrev dktJ20_toString_0 : List UInt8 := dkwJ20_toString_0 ++ []
theorem dksJ20_toString_0 : cJ20_toString.data.toList.drop 0 = dktJ20_toString_0 := by decide +kernel
theorem dJ20_toString_0 : decode cJ20_toString 0 = .ok (.new 18, 3) := dk_187 0 18 (dk_at dksJ20_toString_0 0 rfl rfl)
theorem dJ20_toString_3 : decode cJ20_toString 3 = .ok (.dup, 1) := dk_89 (dk_at dksJ20_toString_0 3 rfl rfl)
theorem dJ20_toString_4 : decode cJ20_toString 4 = .ok (.aload_n 0, 1) := dk_42 (dk_at dksJ20_toString_0 4 rfl rfl)
theorem dJ20_toString_5 : decode cJ20_toString 5 = .ok (.invokespecial 137, 3) := dk_183 0 137 (dk_at dksJ20_toString_0 5 rfl rfl)
theorem dJ20_toString_8 : decode cJ20_toString 8 = .ok (.areturn, 1) := dk_176 (dk_at dksJ20_toString_0 8 rfl rfl)
abbrev cJ20_length : ByteArray := prog_22_method_93_code
def yJ20_length : MethodName := ⟨RJ20, "length", "()I"⟩
theorem dJ20_length_0 : decode cJ20_length 0 = .ok (.aload_n 0, 1) := by decide +kernel
theorem dJ20_length_1 : decode cJ20_length 1 = .ok (.invokespecial 343, 3) := by decide +kernel
theorem dJ20_length_4 : decode cJ20_length 4 = .ok (.ireturn, 1) := by decide +kernel
theorem q66 : (Jvm.Cond.initialized "java/lang/StringBuilder") ∈ lw_all := lw_g (lw_at lw_m1 26 rfl) rfl
theorem q720 : (Jvm.Cond.instantiable "java/lang/StringBuilder" (4 : Nat)) ∈ lw_all := lw_g (lw_at lw_m3 200 rfl) rfl
theorem q722 : (Jvm.Cond.instanceMethod ({ cls := "java/lang/StringBuilder", name := "<init>", desc := "()V" } : Jvm.MethodName)) ∈ lw_all := lw_g (lw_at lw_m3 202 rfl) rfl
theorem q723 : (Jvm.Cond.code ({ cls := "java/lang/StringBuilder", name := "<init>", desc := "()V" } : Jvm.MethodName) prog_22_method_1_code (1 : Nat) (Option.none : Option Jvm.ClassFile.FieldType)) ∈ lw_all := lw_g (lw_at lw_m3 203 rfl) rfl
theorem q724 : (Jvm.Cond.methodLink "java/lang/StringBuilder" (1 : Nat) ({ cls := "java/lang/AbstractStringBuilder", name := "<init>", desc := "(I)V" } : Jvm.MethodName)) ∈ lw_all := lw_g (lw_at lw_m3 204 rfl) rfl
theorem q741 : (Jvm.Cond.lays "java/lang/StringBuilder" "java/lang/AbstractStringBuilder" "value" "[B") ∈ lw_all := lw_g (lw_at lw_m3 221 rfl) rfl
theorem q743 : (Jvm.Cond.lays "java/lang/StringBuilder" "java/lang/AbstractStringBuilder" "coder" "B") ∈ lw_all := lw_g (lw_at lw_m3 223 rfl) rfl
theorem q745 : (Jvm.Cond.lays "java/lang/StringBuilder" "java/lang/AbstractStringBuilder" "maybeLatin1" "Z") ∈ lw_all := lw_g (lw_at lw_m3 225 rfl) rfl
theorem q747 : (Jvm.Cond.lays "java/lang/StringBuilder" "java/lang/AbstractStringBuilder" "count" "I") ∈ lw_all := lw_g (lw_at lw_m3 227 rfl) rfl
theorem q749 : (Jvm.Cond.superclass "java/lang/StringBuilder" "java/lang/AbstractStringBuilder") ∈ lw_all := lw_g (lw_at lw_m3 229 rfl) rfl
theorem q758 : (Jvm.Cond.instanceMethod ({ cls := "java/lang/StringBuilder", name := "append", desc := "(Ljava/lang/String;)Ljava/lang/StringBuilder;" } : Jvm.MethodName)) ∈ lw_all := lw_g (lw_at lw_m3 238 rfl) rfl
theorem q759 : (Jvm.Cond.selects "java/lang/StringBuilder" ({ cls := "java/lang/StringBuilder", name := "append", desc := "(Ljava/lang/String;)Ljava/lang/StringBuilder;" } : Jvm.MethodName) ({ cls := "java/lang/StringBuilder", name := "append", desc := "(Ljava/lang/String;)Ljava/lang/StringBuilder;" } : Jvm.MethodName)) ∈ lw_all := lw_g (lw_at lw_m3 239 rfl) rfl
theorem q760 : (Jvm.Cond.code ({ cls := "java/lang/StringBuilder", name := "append", desc := "(Ljava/lang/String;)Ljava/lang/StringBuilder;" } : Jvm.MethodName) prog_22_method_7_code (2 : Nat) (Option.some (Jvm.ClassFile.FieldType.object "java/lang/StringBuilder"))) ∈ lw_all := lw_g (lw_at lw_m4 0 rfl) rfl
theorem q761 : (Jvm.Cond.methodLink "java/lang/StringBuilder" (29 : Nat) ({ cls := "java/lang/AbstractStringBuilder", name := "append", desc := "(Ljava/lang/String;)Ljava/lang/AbstractStringBuilder;" } : Jvm.MethodName)) ∈ lw_all := lw_g (lw_at lw_m4 1 rfl) rfl
theorem q804 : (Jvm.Cond.selects "java/lang/StringBuilder" ({ cls := "java/lang/AbstractStringBuilder", name := "isLatin1", desc := "()Z" } : Jvm.MethodName) ({ cls := "java/lang/AbstractStringBuilder", name := "isLatin1", desc := "()Z" } : Jvm.MethodName)) ∈ lw_all := lw_g (lw_at lw_m4 44 rfl) rfl
theorem q876 : (Jvm.Cond.instanceMethod ({ cls := "java/lang/StringBuilder", name := "append", desc := "(I)Ljava/lang/StringBuilder;" } : Jvm.MethodName)) ∈ lw_all := lw_g (lw_at lw_m4 116 rfl) rfl
theorem q877 : (Jvm.Cond.selects "java/lang/StringBuilder" ({ cls := "java/lang/StringBuilder", name := "append", desc := "(I)Ljava/lang/StringBuilder;" } : Jvm.MethodName) ({ cls := "java/lang/StringBuilder", name := "append", desc := "(I)Ljava/lang/StringBuilder;" } : Jvm.MethodName)) ∈ lw_all := lw_g (lw_at lw_m4 117 rfl) rfl
theorem q878 : (Jvm.Cond.code ({ cls := "java/lang/StringBuilder", name := "append", desc := "(I)Ljava/lang/StringBuilder;" } : Jvm.MethodName) prog_22_method_15_code (2 : Nat) (Option.some (Jvm.ClassFile.FieldType.object "java/lang/StringBuilder"))) ∈ lw_all := lw_g (lw_at lw_m4 118 rfl) rfl
theorem q879 : (Jvm.Cond.methodLink "java/lang/StringBuilder" (53 : Nat) ({ cls := "java/lang/AbstractStringBuilder", name := "append", desc := "(I)Ljava/lang/AbstractStringBuilder;" } : Jvm.MethodName)) ∈ lw_all := lw_g (lw_at lw_m4 119 rfl) rfl
theorem q901 : (Jvm.Cond.instanceMethod ({ cls := "java/lang/StringBuilder", name := "toString", desc := "()Ljava/lang/String;" } : Jvm.MethodName)) ∈ lw_all := lw_g (lw_at lw_m4 141 rfl) rfl
theorem q902 : (Jvm.Cond.selects "java/lang/StringBuilder" ({ cls := "java/lang/StringBuilder", name := "toString", desc := "()Ljava/lang/String;" } : Jvm.MethodName) ({ cls := "java/lang/StringBuilder", name := "toString", desc := "()Ljava/lang/String;" } : Jvm.MethodName)) ∈ lw_all := lw_g (lw_at lw_m4 142 rfl) rfl
theorem q903 : (Jvm.Cond.code ({ cls := "java/lang/StringBuilder", name := "toString", desc := "()Ljava/lang/String;" } : Jvm.MethodName) prog_22_method_42_code (1 : Nat) (Option.some (Jvm.ClassFile.FieldType.object "java/lang/String"))) ∈ lw_all := lw_g (lw_at lw_m4 143 rfl) rfl
theorem q904 : (Jvm.Cond.classLink "java/lang/StringBuilder" (18 : Nat) "java/lang/String") ∈ lw_all := lw_g (lw_at lw_m4 144 rfl) rfl
theorem q905 : (Jvm.Cond.methodLink "java/lang/StringBuilder" (137 : Nat) ({ cls := "java/lang/String", name := "<init>", desc := "(Ljava/lang/StringBuilder;)V" } : Jvm.MethodName)) ∈ lw_all := lw_g (lw_at lw_m4 145 rfl) rfl
theorem q915 : (Jvm.Cond.selects "java/lang/StringBuilder" ({ cls := "java/lang/AbstractStringBuilder", name := "getValue", desc := "()[B" } : Jvm.MethodName) ({ cls := "java/lang/AbstractStringBuilder", name := "getValue", desc := "()[B" } : Jvm.MethodName)) ∈ lw_all := lw_g (lw_at lw_m4 155 rfl) rfl
theorem q920 : (Jvm.Cond.selects "java/lang/StringBuilder" ({ cls := "java/lang/AbstractStringBuilder", name := "length", desc := "()I" } : Jvm.MethodName) ({ cls := "java/lang/StringBuilder", name := "length", desc := "()I" } : Jvm.MethodName)) ∈ lw_all := lw_g (lw_at lw_m4 160 rfl) rfl
theorem q921 : (Jvm.Cond.instanceMethod ({ cls := "java/lang/StringBuilder", name := "length", desc := "()I" } : Jvm.MethodName)) ∈ lw_all := lw_g (lw_at lw_m4 161 rfl) rfl
theorem q922 : (Jvm.Cond.code ({ cls := "java/lang/StringBuilder", name := "length", desc := "()I" } : Jvm.MethodName) prog_22_method_93_code (1 : Nat) (Option.some Jvm.ClassFile.FieldType.int)) ∈ lw_all := lw_g (lw_at lw_m4 162 rfl) rfl
theorem q923 : (Jvm.Cond.methodLink "java/lang/StringBuilder" (343 : Nat) ({ cls := "java/lang/AbstractStringBuilder", name := "length", desc := "()I" } : Jvm.MethodName)) ∈ lw_all := lw_g (lw_at lw_m4 163 rfl) rfl
theorem in_J20 : ∀ w ∈ wsJ200, w ∈ lw_all := lw_in wsJ200 [741, 743, 745, 747] (by decide +kernel) (by decide +kernel)

/-! java/lang/StringUTF16 -/
set_option maxRecDepth 100000
def RJ21 : String := "java/lang/StringUTF16"
abbrev cJ21_newBytesFor : ByteArray := prog_24_method_2_code
def yJ21_newBytesFor : MethodName := ⟨RJ21, "newBytesFor", "(I)[B"⟩
def dkwJ21_newBytesFor_0 : List UInt8 := [26, 184, 0, 11, 188, 8, 176]
abbrev dktJ21_newBytesFor_0 : List UInt8 := dkwJ21_newBytesFor_0 ++ []
theorem dksJ21_newBytesFor_0 : cJ21_newBytesFor.data.toList.drop 0 = dktJ21_newBytesFor_0 := by decide +kernel
theorem dJ21_newBytesFor_0 : decode cJ21_newBytesFor 0 = .ok (.iload_n 0, 1) := dk_26 (dk_at dksJ21_newBytesFor_0 0 rfl rfl)
theorem dJ21_newBytesFor_1 : decode cJ21_newBytesFor 1 = .ok (.invokestatic 11, 3) := dk_184 0 11 (dk_at dksJ21_newBytesFor_0 1 rfl rfl)
theorem dJ21_newBytesFor_4 : decode cJ21_newBytesFor 4 = .ok (.newarray .byte, 2) := dk_188_8 (dk_at dksJ21_newBytesFor_0 4 rfl rfl)
theorem dJ21_newBytesFor_6 : decode cJ21_newBytesFor 6 = .ok (.areturn, 1) := dk_176 (dk_at dksJ21_newBytesFor_0 6 rfl rfl)
abbrev cJ21_newBytesLength : ByteArray := prog_24_method_3_code
def yJ21_newBytesLength : MethodName := ⟨RJ21, "newBytesLength", "(I)I"⟩
def dkwJ21_newBytesLength_2 : List UInt8 := [182, 0, 32, 182, 0, 37, 183, 0, 41, 191, 26, 4, 120, 172]
abbrev dktJ21_newBytesLength_2 : List UInt8 := dkwJ21_newBytesLength_2 ++ []
def dkwJ21_newBytesLength_1 : List UInt8 := [187, 0, 23, 89, 183, 0, 25, 18, 26, 182, 0, 28, 26, 182, 0, 32, 18, 35, 182, 0, 28, 18, 20]
abbrev dktJ21_newBytesLength_1 : List UInt8 := dkwJ21_newBytesLength_1 ++ dktJ21_newBytesLength_2
def dkwJ21_newBytesLength_0 : List UInt8 := [26, 156, 0, 11, 187, 0, 17, 89, 183, 0, 19, 191, 26, 18, 20, 161, 0, 40, 187, 0, 21, 89]
abbrev dktJ21_newBytesLength_0 : List UInt8 := dkwJ21_newBytesLength_0 ++ dktJ21_newBytesLength_1
theorem dksJ21_newBytesLength_0 : cJ21_newBytesLength.data.toList.drop 0 = dktJ21_newBytesLength_0 := by decide +kernel
theorem dksJ21_newBytesLength_1 : cJ21_newBytesLength.data.toList.drop 22 = dktJ21_newBytesLength_1 := dk_seg dksJ21_newBytesLength_0 22 rfl rfl
theorem dksJ21_newBytesLength_2 : cJ21_newBytesLength.data.toList.drop 45 = dktJ21_newBytesLength_2 := dk_seg dksJ21_newBytesLength_1 23 rfl rfl
theorem dJ21_newBytesLength_0 : decode cJ21_newBytesLength 0 = .ok (.iload_n 0, 1) := dk_26 (dk_at dksJ21_newBytesLength_0 0 rfl rfl)
theorem dJ21_newBytesLength_1 : decode cJ21_newBytesLength 1 = .ok (.ifCond .ge 11, 3) := dk_156 0 11 (dk_at dksJ21_newBytesLength_0 1 rfl rfl)
theorem dJ21_newBytesLength_4 : decode cJ21_newBytesLength 4 = .ok (.new 17, 3) := dk_187 0 17 (dk_at dksJ21_newBytesLength_0 4 rfl rfl)
theorem dJ21_newBytesLength_7 : decode cJ21_newBytesLength 7 = .ok (.dup, 1) := dk_89 (dk_at dksJ21_newBytesLength_0 7 rfl rfl)
theorem dJ21_newBytesLength_8 : decode cJ21_newBytesLength 8 = .ok (.invokespecial 19, 3) := dk_183 0 19 (dk_at dksJ21_newBytesLength_0 8 rfl rfl)
theorem dJ21_newBytesLength_11 : decode cJ21_newBytesLength 11 = .ok (.athrow, 1) := dk_191 (dk_at dksJ21_newBytesLength_0 11 rfl rfl)
theorem dJ21_newBytesLength_12 : decode cJ21_newBytesLength 12 = .ok (.iload_n 0, 1) := dk_26 (dk_at dksJ21_newBytesLength_0 12 rfl rfl)
theorem dJ21_newBytesLength_13 : decode cJ21_newBytesLength 13 = .ok (.ldc 20, 2) := dk_18 20 (dk_at dksJ21_newBytesLength_0 13 rfl rfl)
theorem dJ21_newBytesLength_15 : decode cJ21_newBytesLength 15 = .ok (.if_icmp .lt 40, 3) := dk_161 0 40 (dk_at dksJ21_newBytesLength_0 15 rfl rfl)
theorem dJ21_newBytesLength_18 : decode cJ21_newBytesLength 18 = .ok (.new 21, 3) := dk_187 0 21 (dk_at dksJ21_newBytesLength_0 18 rfl rfl)
theorem dJ21_newBytesLength_21 : decode cJ21_newBytesLength 21 = .ok (.dup, 1) := dk_89 (dk_at dksJ21_newBytesLength_0 21 rfl rfl)
theorem dJ21_newBytesLength_22 : decode cJ21_newBytesLength 22 = .ok (.new 23, 3) := dk_187 0 23 (dk_at dksJ21_newBytesLength_1 0 rfl rfl)
theorem dJ21_newBytesLength_25 : decode cJ21_newBytesLength 25 = .ok (.dup, 1) := dk_89 (dk_at dksJ21_newBytesLength_1 3 rfl rfl)
theorem dJ21_newBytesLength_26 : decode cJ21_newBytesLength 26 = .ok (.invokespecial 25, 3) := dk_183 0 25 (dk_at dksJ21_newBytesLength_1 4 rfl rfl)
theorem dJ21_newBytesLength_29 : decode cJ21_newBytesLength 29 = .ok (.ldc 26, 2) := dk_18 26 (dk_at dksJ21_newBytesLength_1 7 rfl rfl)
theorem dJ21_newBytesLength_31 : decode cJ21_newBytesLength 31 = .ok (.invokevirtual 28, 3) := dk_182 0 28 (dk_at dksJ21_newBytesLength_1 9 rfl rfl)
theorem dJ21_newBytesLength_34 : decode cJ21_newBytesLength 34 = .ok (.iload_n 0, 1) := dk_26 (dk_at dksJ21_newBytesLength_1 12 rfl rfl)
theorem dJ21_newBytesLength_35 : decode cJ21_newBytesLength 35 = .ok (.invokevirtual 32, 3) := dk_182 0 32 (dk_at dksJ21_newBytesLength_1 13 rfl rfl)
theorem dJ21_newBytesLength_38 : decode cJ21_newBytesLength 38 = .ok (.ldc 35, 2) := dk_18 35 (dk_at dksJ21_newBytesLength_1 16 rfl rfl)
theorem dJ21_newBytesLength_40 : decode cJ21_newBytesLength 40 = .ok (.invokevirtual 28, 3) := dk_182 0 28 (dk_at dksJ21_newBytesLength_1 18 rfl rfl)
theorem dJ21_newBytesLength_43 : decode cJ21_newBytesLength 43 = .ok (.ldc 20, 2) := dk_18 20 (dk_at dksJ21_newBytesLength_1 21 rfl rfl)
theorem dJ21_newBytesLength_45 : decode cJ21_newBytesLength 45 = .ok (.invokevirtual 32, 3) := dk_182 0 32 (dk_at dksJ21_newBytesLength_2 0 rfl rfl)
theorem dJ21_newBytesLength_48 : decode cJ21_newBytesLength 48 = .ok (.invokevirtual 37, 3) := dk_182 0 37 (dk_at dksJ21_newBytesLength_2 3 rfl rfl)
theorem dJ21_newBytesLength_51 : decode cJ21_newBytesLength 51 = .ok (.invokespecial 41, 3) := dk_183 0 41 (dk_at dksJ21_newBytesLength_2 6 rfl rfl)
theorem dJ21_newBytesLength_54 : decode cJ21_newBytesLength 54 = .ok (.athrow, 1) := dk_191 (dk_at dksJ21_newBytesLength_2 9 rfl rfl)
theorem dJ21_newBytesLength_55 : decode cJ21_newBytesLength 55 = .ok (.iload_n 0, 1) := dk_26 (dk_at dksJ21_newBytesLength_2 10 rfl rfl)
theorem dJ21_newBytesLength_56 : decode cJ21_newBytesLength 56 = .ok (.iconst 1, 1) := dk_4 (dk_at dksJ21_newBytesLength_2 11 rfl rfl)
theorem dJ21_newBytesLength_57 : decode cJ21_newBytesLength 57 = .ok (.ishl, 1) := dk_120 (dk_at dksJ21_newBytesLength_2 12 rfl rfl)
theorem dJ21_newBytesLength_58 : decode cJ21_newBytesLength 58 = .ok (.ireturn, 1) := dk_172 (dk_at dksJ21_newBytesLength_2 13 rfl rfl)
abbrev cJ21_putCharsAt : ByteArray := prog_24_method_81_code
def yJ21_putCharsAt : MethodName := ⟨RJ21, "putCharsAt", "([BICCCC)I"⟩
def dkwJ21_putCharsAt_3 : List UInt8 := [21, 6, 172]
abbrev dktJ21_putCharsAt_3 : List UInt8 := dkwJ21_putCharsAt_3 ++ []
def dkwJ21_putCharsAt_2 : List UInt8 := [184, 0, 111, 178, 0, 44, 154, 0, 17, 27, 21, 6, 159, 0, 11, 187, 0, 52, 89, 183, 0, 66, 191]
abbrev dktJ21_putCharsAt_2 : List UInt8 := dkwJ21_putCharsAt_2 ++ dktJ21_putCharsAt_3
def dkwJ21_putCharsAt_1 : List UInt8 := [132, 1, 1, 29, 184, 0, 111, 42, 27, 132, 1, 1, 21, 4, 184, 0, 111, 42, 27, 132, 1, 1, 21, 5]
abbrev dktJ21_putCharsAt_1 : List UInt8 := dkwJ21_putCharsAt_1 ++ dktJ21_putCharsAt_2
def dkwJ21_putCharsAt_0 : List UInt8 := [27, 7, 96, 54, 6, 27, 21, 6, 42, 184, 0, 96, 42, 27, 132, 1, 1, 28, 184, 0, 111, 42, 27]
abbrev dktJ21_putCharsAt_0 : List UInt8 := dkwJ21_putCharsAt_0 ++ dktJ21_putCharsAt_1
theorem dksJ21_putCharsAt_0 : cJ21_putCharsAt.data.toList.drop 0 = dktJ21_putCharsAt_0 := by decide +kernel
theorem dksJ21_putCharsAt_1 : cJ21_putCharsAt.data.toList.drop 23 = dktJ21_putCharsAt_1 := dk_seg dksJ21_putCharsAt_0 23 rfl rfl
theorem dksJ21_putCharsAt_2 : cJ21_putCharsAt.data.toList.drop 47 = dktJ21_putCharsAt_2 := dk_seg dksJ21_putCharsAt_1 24 rfl rfl
theorem dksJ21_putCharsAt_3 : cJ21_putCharsAt.data.toList.drop 70 = dktJ21_putCharsAt_3 := dk_seg dksJ21_putCharsAt_2 23 rfl rfl
theorem dJ21_putCharsAt_0 : decode cJ21_putCharsAt 0 = .ok (.iload_n 1, 1) := dk_27 (dk_at dksJ21_putCharsAt_0 0 rfl rfl)
theorem dJ21_putCharsAt_1 : decode cJ21_putCharsAt 1 = .ok (.iconst 4, 1) := dk_7 (dk_at dksJ21_putCharsAt_0 1 rfl rfl)
theorem dJ21_putCharsAt_2 : decode cJ21_putCharsAt 2 = .ok (.iadd, 1) := dk_96 (dk_at dksJ21_putCharsAt_0 2 rfl rfl)
theorem dJ21_putCharsAt_3 : decode cJ21_putCharsAt 3 = .ok (.istore 6, 2) := dk_54 6 (dk_at dksJ21_putCharsAt_0 3 rfl rfl)
theorem dJ21_putCharsAt_5 : decode cJ21_putCharsAt 5 = .ok (.iload_n 1, 1) := dk_27 (dk_at dksJ21_putCharsAt_0 5 rfl rfl)
theorem dJ21_putCharsAt_6 : decode cJ21_putCharsAt 6 = .ok (.iload 6, 2) := dk_21 6 (dk_at dksJ21_putCharsAt_0 6 rfl rfl)
theorem dJ21_putCharsAt_8 : decode cJ21_putCharsAt 8 = .ok (.aload_n 0, 1) := dk_42 (dk_at dksJ21_putCharsAt_0 8 rfl rfl)
theorem dJ21_putCharsAt_9 : decode cJ21_putCharsAt 9 = .ok (.invokestatic 96, 3) := dk_184 0 96 (dk_at dksJ21_putCharsAt_0 9 rfl rfl)
theorem dJ21_putCharsAt_12 : decode cJ21_putCharsAt 12 = .ok (.aload_n 0, 1) := dk_42 (dk_at dksJ21_putCharsAt_0 12 rfl rfl)
theorem dJ21_putCharsAt_13 : decode cJ21_putCharsAt 13 = .ok (.iload_n 1, 1) := dk_27 (dk_at dksJ21_putCharsAt_0 13 rfl rfl)
theorem dJ21_putCharsAt_14 : decode cJ21_putCharsAt 14 = .ok (.iinc 1 1, 3) := dk_132 1 1 (dk_at dksJ21_putCharsAt_0 14 rfl rfl)
theorem dJ21_putCharsAt_17 : decode cJ21_putCharsAt 17 = .ok (.iload_n 2, 1) := dk_28 (dk_at dksJ21_putCharsAt_0 17 rfl rfl)
theorem dJ21_putCharsAt_18 : decode cJ21_putCharsAt 18 = .ok (.invokestatic 111, 3) := dk_184 0 111 (dk_at dksJ21_putCharsAt_0 18 rfl rfl)
theorem dJ21_putCharsAt_21 : decode cJ21_putCharsAt 21 = .ok (.aload_n 0, 1) := dk_42 (dk_at dksJ21_putCharsAt_0 21 rfl rfl)
theorem dJ21_putCharsAt_22 : decode cJ21_putCharsAt 22 = .ok (.iload_n 1, 1) := dk_27 (dk_at dksJ21_putCharsAt_0 22 rfl rfl)
theorem dJ21_putCharsAt_23 : decode cJ21_putCharsAt 23 = .ok (.iinc 1 1, 3) := dk_132 1 1 (dk_at dksJ21_putCharsAt_1 0 rfl rfl)
theorem dJ21_putCharsAt_26 : decode cJ21_putCharsAt 26 = .ok (.iload_n 3, 1) := dk_29 (dk_at dksJ21_putCharsAt_1 3 rfl rfl)
theorem dJ21_putCharsAt_27 : decode cJ21_putCharsAt 27 = .ok (.invokestatic 111, 3) := dk_184 0 111 (dk_at dksJ21_putCharsAt_1 4 rfl rfl)
theorem dJ21_putCharsAt_30 : decode cJ21_putCharsAt 30 = .ok (.aload_n 0, 1) := dk_42 (dk_at dksJ21_putCharsAt_1 7 rfl rfl)
theorem dJ21_putCharsAt_31 : decode cJ21_putCharsAt 31 = .ok (.iload_n 1, 1) := dk_27 (dk_at dksJ21_putCharsAt_1 8 rfl rfl)
theorem dJ21_putCharsAt_32 : decode cJ21_putCharsAt 32 = .ok (.iinc 1 1, 3) := dk_132 1 1 (dk_at dksJ21_putCharsAt_1 9 rfl rfl)
theorem dJ21_putCharsAt_35 : decode cJ21_putCharsAt 35 = .ok (.iload 4, 2) := dk_21 4 (dk_at dksJ21_putCharsAt_1 12 rfl rfl)
theorem dJ21_putCharsAt_37 : decode cJ21_putCharsAt 37 = .ok (.invokestatic 111, 3) := dk_184 0 111 (dk_at dksJ21_putCharsAt_1 14 rfl rfl)
theorem dJ21_putCharsAt_40 : decode cJ21_putCharsAt 40 = .ok (.aload_n 0, 1) := dk_42 (dk_at dksJ21_putCharsAt_1 17 rfl rfl)
theorem dJ21_putCharsAt_41 : decode cJ21_putCharsAt 41 = .ok (.iload_n 1, 1) := dk_27 (dk_at dksJ21_putCharsAt_1 18 rfl rfl)
theorem dJ21_putCharsAt_42 : decode cJ21_putCharsAt 42 = .ok (.iinc 1 1, 3) := dk_132 1 1 (dk_at dksJ21_putCharsAt_1 19 rfl rfl)
theorem dJ21_putCharsAt_45 : decode cJ21_putCharsAt 45 = .ok (.iload 5, 2) := dk_21 5 (dk_at dksJ21_putCharsAt_1 22 rfl rfl)
theorem dJ21_putCharsAt_47 : decode cJ21_putCharsAt 47 = .ok (.invokestatic 111, 3) := dk_184 0 111 (dk_at dksJ21_putCharsAt_2 0 rfl rfl)
theorem dJ21_putCharsAt_50 : decode cJ21_putCharsAt 50 = .ok (.getstatic 44, 3) := dk_178 0 44 (dk_at dksJ21_putCharsAt_2 3 rfl rfl)
theorem dJ21_putCharsAt_53 : decode cJ21_putCharsAt 53 = .ok (.ifCond .ne 17, 3) := dk_154 0 17 (dk_at dksJ21_putCharsAt_2 6 rfl rfl)
theorem dJ21_putCharsAt_56 : decode cJ21_putCharsAt 56 = .ok (.iload_n 1, 1) := dk_27 (dk_at dksJ21_putCharsAt_2 9 rfl rfl)
theorem dJ21_putCharsAt_57 : decode cJ21_putCharsAt 57 = .ok (.iload 6, 2) := dk_21 6 (dk_at dksJ21_putCharsAt_2 10 rfl rfl)
theorem dJ21_putCharsAt_59 : decode cJ21_putCharsAt 59 = .ok (.if_icmp .eq 11, 3) := dk_159 0 11 (dk_at dksJ21_putCharsAt_2 12 rfl rfl)
theorem dJ21_putCharsAt_62 : decode cJ21_putCharsAt 62 = .ok (.new 52, 3) := dk_187 0 52 (dk_at dksJ21_putCharsAt_2 15 rfl rfl)
theorem dJ21_putCharsAt_65 : decode cJ21_putCharsAt 65 = .ok (.dup, 1) := dk_89 (dk_at dksJ21_putCharsAt_2 18 rfl rfl)
theorem dJ21_putCharsAt_66 : decode cJ21_putCharsAt 66 = .ok (.invokespecial 66, 3) := dk_183 0 66 (dk_at dksJ21_putCharsAt_2 19 rfl rfl)
theorem dJ21_putCharsAt_69 : decode cJ21_putCharsAt 69 = .ok (.athrow, 1) := dk_191 (dk_at dksJ21_putCharsAt_2 22 rfl rfl)
theorem dJ21_putCharsAt_70 : decode cJ21_putCharsAt 70 = .ok (.iload 6, 2) := dk_21 6 (dk_at dksJ21_putCharsAt_3 0 rfl rfl)
theorem dJ21_putCharsAt_72 : decode cJ21_putCharsAt 72 = .ok (.ireturn, 1) := dk_172 (dk_at dksJ21_putCharsAt_3 2 rfl rfl)
abbrev cJ21_checkBoundsBeginEnd : ByteArray := prog_24_method_93_code
def yJ21_checkBoundsBeginEnd : MethodName := ⟨RJ21, "checkBoundsBeginEnd", "(II[B)V"⟩
def dkwJ21_checkBoundsBeginEnd_0 : List UInt8 := [26, 27, 44, 184, 0, 48, 184, 0, 241, 177]
abbrev dktJ21_checkBoundsBeginEnd_0 : List UInt8 := dkwJ21_checkBoundsBeginEnd_0 ++ []
theorem dksJ21_checkBoundsBeginEnd_0 : cJ21_checkBoundsBeginEnd.data.toList.drop 0 = dktJ21_checkBoundsBeginEnd_0 := by decide +kernel
theorem dJ21_checkBoundsBeginEnd_0 : decode cJ21_checkBoundsBeginEnd 0 = .ok (.iload_n 0, 1) := dk_26 (dk_at dksJ21_checkBoundsBeginEnd_0 0 rfl rfl)
theorem dJ21_checkBoundsBeginEnd_1 : decode cJ21_checkBoundsBeginEnd 1 = .ok (.iload_n 1, 1) := dk_27 (dk_at dksJ21_checkBoundsBeginEnd_0 1 rfl rfl)
theorem dJ21_checkBoundsBeginEnd_2 : decode cJ21_checkBoundsBeginEnd 2 = .ok (.aload_n 2, 1) := dk_44 (dk_at dksJ21_checkBoundsBeginEnd_0 2 rfl rfl)
theorem dJ21_checkBoundsBeginEnd_3 : decode cJ21_checkBoundsBeginEnd 3 = .ok (.invokestatic 48, 3) := dk_184 0 48 (dk_at dksJ21_checkBoundsBeginEnd_0 3 rfl rfl)
theorem dJ21_checkBoundsBeginEnd_6 : decode cJ21_checkBoundsBeginEnd 6 = .ok (.invokestatic 241, 3) := dk_184 0 241 (dk_at dksJ21_checkBoundsBeginEnd_0 6 rfl rfl)
theorem dJ21_checkBoundsBeginEnd_9 : decode cJ21_checkBoundsBeginEnd 9 = .ok (.return_, 1) := dk_177 (dk_at dksJ21_checkBoundsBeginEnd_0 9 rfl rfl)
abbrev cJ21_length : ByteArray := prog_24_method_6_code
def yJ21_length : MethodName := ⟨RJ21, "length", "([B)I"⟩
def dkwJ21_length_0 : List UInt8 := [42, 190, 4, 122, 172]
abbrev dktJ21_length_0 : List UInt8 := dkwJ21_length_0 ++ []
theorem dksJ21_length_0 : cJ21_length.data.toList.drop 0 = dktJ21_length_0 := by decide +kernel
theorem dJ21_length_0 : decode cJ21_length 0 = .ok (.aload_n 0, 1) := dk_42 (dk_at dksJ21_length_0 0 rfl rfl)
theorem dJ21_length_1 : decode cJ21_length 1 = .ok (.arraylength, 1) := dk_190 (dk_at dksJ21_length_0 1 rfl rfl)
theorem dJ21_length_2 : decode cJ21_length 2 = .ok (.iconst 1, 1) := dk_4 (dk_at dksJ21_length_0 2 rfl rfl)
theorem dJ21_length_3 : decode cJ21_length 3 = .ok (.ishr, 1) := dk_122 (dk_at dksJ21_length_0 3 rfl rfl)
theorem dJ21_length_4 : decode cJ21_length 4 = .ok (.ireturn, 1) := dk_172 (dk_at dksJ21_length_0 4 rfl rfl)
abbrev cJ21_putChar : ByteArray := prog_24_method_4_code
def yJ21_putChar : MethodName := ⟨RJ21, "putChar", "([BII)V"⟩
def dkwJ21_putChar_2 : List UInt8 := [178, 0, 63, 122, 145, 84, 177]
abbrev dktJ21_putChar_2 : List UInt8 := dkwJ21_putChar_2 ++ []
def dkwJ21_putChar_1 : List UInt8 := [183, 0, 56, 191, 27, 4, 120, 60, 42, 27, 132, 1, 1, 28, 178, 0, 59, 122, 145, 84, 42, 27, 28]
abbrev dktJ21_putChar_1 : List UInt8 := dkwJ21_putChar_1 ++ dktJ21_putChar_2
def dkwJ21_putChar_0 : List UInt8 := [178, 0, 44, 154, 0, 25, 27, 155, 0, 11, 27, 42, 184, 0, 48, 161, 0, 13, 187, 0, 52, 89, 18, 54]
abbrev dktJ21_putChar_0 : List UInt8 := dkwJ21_putChar_0 ++ dktJ21_putChar_1
theorem dksJ21_putChar_0 : cJ21_putChar.data.toList.drop 0 = dktJ21_putChar_0 := by decide +kernel
theorem dksJ21_putChar_1 : cJ21_putChar.data.toList.drop 24 = dktJ21_putChar_1 := dk_seg dksJ21_putChar_0 24 rfl rfl
theorem dksJ21_putChar_2 : cJ21_putChar.data.toList.drop 47 = dktJ21_putChar_2 := dk_seg dksJ21_putChar_1 23 rfl rfl
theorem dJ21_putChar_0 : decode cJ21_putChar 0 = .ok (.getstatic 44, 3) := dk_178 0 44 (dk_at dksJ21_putChar_0 0 rfl rfl)
theorem dJ21_putChar_3 : decode cJ21_putChar 3 = .ok (.ifCond .ne 25, 3) := dk_154 0 25 (dk_at dksJ21_putChar_0 3 rfl rfl)
theorem dJ21_putChar_6 : decode cJ21_putChar 6 = .ok (.iload_n 1, 1) := dk_27 (dk_at dksJ21_putChar_0 6 rfl rfl)
theorem dJ21_putChar_7 : decode cJ21_putChar 7 = .ok (.ifCond .lt 11, 3) := dk_155 0 11 (dk_at dksJ21_putChar_0 7 rfl rfl)
theorem dJ21_putChar_10 : decode cJ21_putChar 10 = .ok (.iload_n 1, 1) := dk_27 (dk_at dksJ21_putChar_0 10 rfl rfl)
theorem dJ21_putChar_11 : decode cJ21_putChar 11 = .ok (.aload_n 0, 1) := dk_42 (dk_at dksJ21_putChar_0 11 rfl rfl)
theorem dJ21_putChar_12 : decode cJ21_putChar 12 = .ok (.invokestatic 48, 3) := dk_184 0 48 (dk_at dksJ21_putChar_0 12 rfl rfl)
theorem dJ21_putChar_15 : decode cJ21_putChar 15 = .ok (.if_icmp .lt 13, 3) := dk_161 0 13 (dk_at dksJ21_putChar_0 15 rfl rfl)
theorem dJ21_putChar_18 : decode cJ21_putChar 18 = .ok (.new 52, 3) := dk_187 0 52 (dk_at dksJ21_putChar_0 18 rfl rfl)
theorem dJ21_putChar_21 : decode cJ21_putChar 21 = .ok (.dup, 1) := dk_89 (dk_at dksJ21_putChar_0 21 rfl rfl)
theorem dJ21_putChar_22 : decode cJ21_putChar 22 = .ok (.ldc 54, 2) := dk_18 54 (dk_at dksJ21_putChar_0 22 rfl rfl)
theorem dJ21_putChar_24 : decode cJ21_putChar 24 = .ok (.invokespecial 56, 3) := dk_183 0 56 (dk_at dksJ21_putChar_1 0 rfl rfl)
theorem dJ21_putChar_27 : decode cJ21_putChar 27 = .ok (.athrow, 1) := dk_191 (dk_at dksJ21_putChar_1 3 rfl rfl)
theorem dJ21_putChar_28 : decode cJ21_putChar 28 = .ok (.iload_n 1, 1) := dk_27 (dk_at dksJ21_putChar_1 4 rfl rfl)
theorem dJ21_putChar_29 : decode cJ21_putChar 29 = .ok (.iconst 1, 1) := dk_4 (dk_at dksJ21_putChar_1 5 rfl rfl)
theorem dJ21_putChar_30 : decode cJ21_putChar 30 = .ok (.ishl, 1) := dk_120 (dk_at dksJ21_putChar_1 6 rfl rfl)
theorem dJ21_putChar_31 : decode cJ21_putChar 31 = .ok (.istore_n 1, 1) := dk_60 (dk_at dksJ21_putChar_1 7 rfl rfl)
theorem dJ21_putChar_32 : decode cJ21_putChar 32 = .ok (.aload_n 0, 1) := dk_42 (dk_at dksJ21_putChar_1 8 rfl rfl)
theorem dJ21_putChar_33 : decode cJ21_putChar 33 = .ok (.iload_n 1, 1) := dk_27 (dk_at dksJ21_putChar_1 9 rfl rfl)
theorem dJ21_putChar_34 : decode cJ21_putChar 34 = .ok (.iinc 1 1, 3) := dk_132 1 1 (dk_at dksJ21_putChar_1 10 rfl rfl)
theorem dJ21_putChar_37 : decode cJ21_putChar 37 = .ok (.iload_n 2, 1) := dk_28 (dk_at dksJ21_putChar_1 13 rfl rfl)
theorem dJ21_putChar_38 : decode cJ21_putChar 38 = .ok (.getstatic 59, 3) := dk_178 0 59 (dk_at dksJ21_putChar_1 14 rfl rfl)
theorem dJ21_putChar_41 : decode cJ21_putChar 41 = .ok (.ishr, 1) := dk_122 (dk_at dksJ21_putChar_1 17 rfl rfl)
theorem dJ21_putChar_42 : decode cJ21_putChar 42 = .ok (.i2b, 1) := dk_145 (dk_at dksJ21_putChar_1 18 rfl rfl)
theorem dJ21_putChar_43 : decode cJ21_putChar 43 = .ok (.bastore, 1) := dk_84 (dk_at dksJ21_putChar_1 19 rfl rfl)
theorem dJ21_putChar_44 : decode cJ21_putChar 44 = .ok (.aload_n 0, 1) := dk_42 (dk_at dksJ21_putChar_1 20 rfl rfl)
theorem dJ21_putChar_45 : decode cJ21_putChar 45 = .ok (.iload_n 1, 1) := dk_27 (dk_at dksJ21_putChar_1 21 rfl rfl)
theorem dJ21_putChar_46 : decode cJ21_putChar 46 = .ok (.iload_n 2, 1) := dk_28 (dk_at dksJ21_putChar_1 22 rfl rfl)
theorem dJ21_putChar_47 : decode cJ21_putChar 47 = .ok (.getstatic 63, 3) := dk_178 0 63 (dk_at dksJ21_putChar_2 0 rfl rfl)
theorem dJ21_putChar_50 : decode cJ21_putChar 50 = .ok (.ishr, 1) := dk_122 (dk_at dksJ21_putChar_2 3 rfl rfl)
theorem dJ21_putChar_51 : decode cJ21_putChar 51 = .ok (.i2b, 1) := dk_145 (dk_at dksJ21_putChar_2 4 rfl rfl)
theorem dJ21_putChar_52 : decode cJ21_putChar 52 = .ok (.bastore, 1) := dk_84 (dk_at dksJ21_putChar_2 5 rfl rfl)
theorem dJ21_putChar_53 : decode cJ21_putChar 53 = .ok (.return_, 1) := dk_177 (dk_at dksJ21_putChar_2 6 rfl rfl)
abbrev cJ21_inflate : ByteArray := prog_24_method_86_code
def yJ21_inflate : MethodName := ⟨RJ21, "inflate", "([BI[BII)V"⟩
def dkwJ21_inflate_1 : List UInt8 := [132, 1, 1, 51, 17, 0, 255, 126, 184, 0, 111, 132, 5, 1, 167, 255, 228, 177]
abbrev dktJ21_inflate_1 : List UInt8 := dkwJ21_inflate_1 ++ []
def dkwJ21_inflate_0 : List UInt8 := [29, 21, 4, 44, 184, 0, 173, 3, 54, 5, 21, 5, 21, 4, 162, 0, 27, 44, 29, 132, 3, 1, 42, 27]
abbrev dktJ21_inflate_0 : List UInt8 := dkwJ21_inflate_0 ++ dktJ21_inflate_1
theorem dksJ21_inflate_0 : cJ21_inflate.data.toList.drop 0 = dktJ21_inflate_0 := by decide +kernel
theorem dksJ21_inflate_1 : cJ21_inflate.data.toList.drop 24 = dktJ21_inflate_1 := dk_seg dksJ21_inflate_0 24 rfl rfl
theorem dJ21_inflate_0 : decode cJ21_inflate 0 = .ok (.iload_n 3, 1) := dk_29 (dk_at dksJ21_inflate_0 0 rfl rfl)
theorem dJ21_inflate_1 : decode cJ21_inflate 1 = .ok (.iload 4, 2) := dk_21 4 (dk_at dksJ21_inflate_0 1 rfl rfl)
theorem dJ21_inflate_3 : decode cJ21_inflate 3 = .ok (.aload_n 2, 1) := dk_44 (dk_at dksJ21_inflate_0 3 rfl rfl)
theorem dJ21_inflate_4 : decode cJ21_inflate 4 = .ok (.invokestatic 173, 3) := dk_184 0 173 (dk_at dksJ21_inflate_0 4 rfl rfl)
theorem dJ21_inflate_7 : decode cJ21_inflate 7 = .ok (.iconst 0, 1) := dk_3 (dk_at dksJ21_inflate_0 7 rfl rfl)
theorem dJ21_inflate_8 : decode cJ21_inflate 8 = .ok (.istore 5, 2) := dk_54 5 (dk_at dksJ21_inflate_0 8 rfl rfl)
theorem dJ21_inflate_10 : decode cJ21_inflate 10 = .ok (.iload 5, 2) := dk_21 5 (dk_at dksJ21_inflate_0 10 rfl rfl)
theorem dJ21_inflate_12 : decode cJ21_inflate 12 = .ok (.iload 4, 2) := dk_21 4 (dk_at dksJ21_inflate_0 12 rfl rfl)
theorem dJ21_inflate_14 : decode cJ21_inflate 14 = .ok (.if_icmp .ge 27, 3) := dk_162 0 27 (dk_at dksJ21_inflate_0 14 rfl rfl)
theorem dJ21_inflate_17 : decode cJ21_inflate 17 = .ok (.aload_n 2, 1) := dk_44 (dk_at dksJ21_inflate_0 17 rfl rfl)
theorem dJ21_inflate_18 : decode cJ21_inflate 18 = .ok (.iload_n 3, 1) := dk_29 (dk_at dksJ21_inflate_0 18 rfl rfl)
theorem dJ21_inflate_19 : decode cJ21_inflate 19 = .ok (.iinc 3 1, 3) := dk_132 3 1 (dk_at dksJ21_inflate_0 19 rfl rfl)
theorem dJ21_inflate_22 : decode cJ21_inflate 22 = .ok (.aload_n 0, 1) := dk_42 (dk_at dksJ21_inflate_0 22 rfl rfl)
theorem dJ21_inflate_23 : decode cJ21_inflate 23 = .ok (.iload_n 1, 1) := dk_27 (dk_at dksJ21_inflate_0 23 rfl rfl)
theorem dJ21_inflate_24 : decode cJ21_inflate 24 = .ok (.iinc 1 1, 3) := dk_132 1 1 (dk_at dksJ21_inflate_1 0 rfl rfl)
theorem dJ21_inflate_27 : decode cJ21_inflate 27 = .ok (.baload, 1) := dk_51 (dk_at dksJ21_inflate_1 3 rfl rfl)
theorem dJ21_inflate_28 : decode cJ21_inflate 28 = .ok (.sipush 255, 3) := dk_17 0 255 (dk_at dksJ21_inflate_1 4 rfl rfl)
theorem dJ21_inflate_31 : decode cJ21_inflate 31 = .ok (.iand, 1) := dk_126 (dk_at dksJ21_inflate_1 7 rfl rfl)
theorem dJ21_inflate_32 : decode cJ21_inflate 32 = .ok (.invokestatic 111, 3) := dk_184 0 111 (dk_at dksJ21_inflate_1 8 rfl rfl)
theorem dJ21_inflate_35 : decode cJ21_inflate 35 = .ok (.iinc 5 1, 3) := dk_132 5 1 (dk_at dksJ21_inflate_1 11 rfl rfl)
theorem dJ21_inflate_38 : decode cJ21_inflate 38 = .ok (.goto (-28), 3) := dk_167 255 228 (dk_at dksJ21_inflate_1 14 rfl rfl)
theorem dJ21_inflate_41 : decode cJ21_inflate 41 = .ok (.return_, 1) := dk_177 (dk_at dksJ21_inflate_1 17 rfl rfl)
abbrev cJ21_checkBoundsOffCount : ByteArray := prog_24_method_94_code
def yJ21_checkBoundsOffCount : MethodName := ⟨RJ21, "checkBoundsOffCount", "(II[B)V"⟩
def dkwJ21_checkBoundsOffCount_0 : List UInt8 := [26, 27, 44, 184, 0, 48, 184, 1, 163, 87, 177]
abbrev dktJ21_checkBoundsOffCount_0 : List UInt8 := dkwJ21_checkBoundsOffCount_0 ++ []
theorem dksJ21_checkBoundsOffCount_0 : cJ21_checkBoundsOffCount.data.toList.drop 0 = dktJ21_checkBoundsOffCount_0 := by decide +kernel
theorem dJ21_checkBoundsOffCount_0 : decode cJ21_checkBoundsOffCount 0 = .ok (.iload_n 0, 1) := dk_26 (dk_at dksJ21_checkBoundsOffCount_0 0 rfl rfl)
theorem dJ21_checkBoundsOffCount_1 : decode cJ21_checkBoundsOffCount 1 = .ok (.iload_n 1, 1) := dk_27 (dk_at dksJ21_checkBoundsOffCount_0 1 rfl rfl)
theorem dJ21_checkBoundsOffCount_2 : decode cJ21_checkBoundsOffCount 2 = .ok (.aload_n 2, 1) := dk_44 (dk_at dksJ21_checkBoundsOffCount_0 2 rfl rfl)
theorem dJ21_checkBoundsOffCount_3 : decode cJ21_checkBoundsOffCount 3 = .ok (.invokestatic 48, 3) := dk_184 0 48 (dk_at dksJ21_checkBoundsOffCount_0 3 rfl rfl)
theorem dJ21_checkBoundsOffCount_6 : decode cJ21_checkBoundsOffCount 6 = .ok (.invokestatic 419, 3) := dk_184 1 163 (dk_at dksJ21_checkBoundsOffCount_0 6 rfl rfl)
theorem dJ21_checkBoundsOffCount_9 : decode cJ21_checkBoundsOffCount 9 = .ok (.pop, 1) := dk_87 (dk_at dksJ21_checkBoundsOffCount_0 9 rfl rfl)
theorem dJ21_checkBoundsOffCount_10 : decode cJ21_checkBoundsOffCount 10 = .ok (.return_, 1) := dk_177 (dk_at dksJ21_checkBoundsOffCount_0 10 rfl rfl)
abbrev cJ21_getChars : ByteArray := prog_24_method_77_code
def yJ21_getChars : MethodName := ⟨RJ21, "getChars", "(III[B)I"⟩
def dkwJ21_getChars_1 : List UInt8 := [159, 0, 11, 187, 0, 52, 89, 183, 0, 66, 191, 21, 4, 172]
abbrev dktJ21_getChars_1 : List UInt8 := dkwJ21_getChars_1 ++ []
def dkwJ21_getChars_0 : List UInt8 := [27, 28, 45, 184, 0, 96, 26, 28, 45, 184, 1, 137, 54, 4, 178, 0, 44, 154, 0, 17, 27, 21, 4]
abbrev dktJ21_getChars_0 : List UInt8 := dkwJ21_getChars_0 ++ dktJ21_getChars_1
theorem dksJ21_getChars_0 : cJ21_getChars.data.toList.drop 0 = dktJ21_getChars_0 := by decide +kernel
theorem dksJ21_getChars_1 : cJ21_getChars.data.toList.drop 23 = dktJ21_getChars_1 := dk_seg dksJ21_getChars_0 23 rfl rfl
theorem dJ21_getChars_0 : decode cJ21_getChars 0 = .ok (.iload_n 1, 1) := dk_27 (dk_at dksJ21_getChars_0 0 rfl rfl)
theorem dJ21_getChars_1 : decode cJ21_getChars 1 = .ok (.iload_n 2, 1) := dk_28 (dk_at dksJ21_getChars_0 1 rfl rfl)
theorem dJ21_getChars_2 : decode cJ21_getChars 2 = .ok (.aload_n 3, 1) := dk_45 (dk_at dksJ21_getChars_0 2 rfl rfl)
theorem dJ21_getChars_3 : decode cJ21_getChars 3 = .ok (.invokestatic 96, 3) := dk_184 0 96 (dk_at dksJ21_getChars_0 3 rfl rfl)
theorem dJ21_getChars_6 : decode cJ21_getChars 6 = .ok (.iload_n 0, 1) := dk_26 (dk_at dksJ21_getChars_0 6 rfl rfl)
theorem dJ21_getChars_7 : decode cJ21_getChars 7 = .ok (.iload_n 2, 1) := dk_28 (dk_at dksJ21_getChars_0 7 rfl rfl)
theorem dJ21_getChars_8 : decode cJ21_getChars 8 = .ok (.aload_n 3, 1) := dk_45 (dk_at dksJ21_getChars_0 8 rfl rfl)
theorem dJ21_getChars_9 : decode cJ21_getChars 9 = .ok (.invokestatic 393, 3) := dk_184 1 137 (dk_at dksJ21_getChars_0 9 rfl rfl)
theorem dJ21_getChars_12 : decode cJ21_getChars 12 = .ok (.istore 4, 2) := dk_54 4 (dk_at dksJ21_getChars_0 12 rfl rfl)
theorem dJ21_getChars_14 : decode cJ21_getChars 14 = .ok (.getstatic 44, 3) := dk_178 0 44 (dk_at dksJ21_getChars_0 14 rfl rfl)
theorem dJ21_getChars_17 : decode cJ21_getChars 17 = .ok (.ifCond .ne 17, 3) := dk_154 0 17 (dk_at dksJ21_getChars_0 17 rfl rfl)
theorem dJ21_getChars_20 : decode cJ21_getChars 20 = .ok (.iload_n 1, 1) := dk_27 (dk_at dksJ21_getChars_0 20 rfl rfl)
theorem dJ21_getChars_21 : decode cJ21_getChars 21 = .ok (.iload 4, 2) := dk_21 4 (dk_at dksJ21_getChars_0 21 rfl rfl)
theorem dJ21_getChars_23 : decode cJ21_getChars 23 = .ok (.if_icmp .eq 11, 3) := dk_159 0 11 (dk_at dksJ21_getChars_1 0 rfl rfl)
theorem dJ21_getChars_26 : decode cJ21_getChars 26 = .ok (.new 52, 3) := dk_187 0 52 (dk_at dksJ21_getChars_1 3 rfl rfl)
theorem dJ21_getChars_29 : decode cJ21_getChars 29 = .ok (.dup, 1) := dk_89 (dk_at dksJ21_getChars_1 6 rfl rfl)
theorem dJ21_getChars_30 : decode cJ21_getChars 30 = .ok (.invokespecial 66, 3) := dk_183 0 66 (dk_at dksJ21_getChars_1 7 rfl rfl)
theorem dJ21_getChars_33 : decode cJ21_getChars 33 = .ok (.athrow, 1) := dk_191 (dk_at dksJ21_getChars_1 10 rfl rfl)
theorem dJ21_getChars_34 : decode cJ21_getChars 34 = .ok (.iload 4, 2) := dk_21 4 (dk_at dksJ21_getChars_1 11 rfl rfl)
theorem dJ21_getChars_36 : decode cJ21_getChars 36 = .ok (.ireturn, 1) := dk_172 (dk_at dksJ21_getChars_1 13 rfl rfl)
abbrev cJ21_getChars_2 : ByteArray := prog_24_method_89_code
def yJ21_getChars_2 : MethodName := ⟨RJ21, "getChars", "(II[B)I"⟩
def dkwJ21_getChars_2_5 : List UInt8 := [132, 5, 255, 21, 5, 16, 45, 184, 0, 111, 21, 5, 172]
abbrev dktJ21_getChars_2_5 : List UInt8 := dkwJ21_getChars_2_5 ++ []
def dkwJ21_getChars_2_4 : List UInt8 := [162, 0, 18, 44, 132, 5, 255, 21, 5, 178, 1, 151, 26, 116, 51, 184, 0, 111, 21, 6, 153, 0, 14, 44]
abbrev dktJ21_getChars_2_4 : List UInt8 := dkwJ21_getChars_2_4 ++ dktJ21_getChars_2_5
def dkwJ21_getChars_2_3 : List UInt8 := [184, 0, 111, 167, 255, 205, 44, 132, 5, 255, 21, 5, 178, 1, 147, 26, 116, 51, 184, 0, 111, 26, 16, 247]
abbrev dktJ21_getChars_2_3 : List UInt8 := dkwJ21_getChars_2_3 ++ dktJ21_getChars_2_4
def dkwJ21_getChars_2_2 : List UInt8 := [21, 5, 178, 1, 147, 21, 4, 51, 184, 0, 111, 44, 132, 5, 255, 21, 5, 178, 1, 151, 21, 4, 51]
abbrev dktJ21_getChars_2_2 : List UInt8 := dkwJ21_getChars_2_2 ++ dktJ21_getChars_2_3
def dkwJ21_getChars_2_1 : List UInt8 := [16, 156, 163, 0, 51, 26, 16, 100, 108, 62, 29, 16, 100, 104, 26, 100, 54, 4, 29, 59, 44, 132, 5, 255]
abbrev dktJ21_getChars_2_1 : List UInt8 := dkwJ21_getChars_2_1 ++ dktJ21_getChars_2_2
def dkwJ21_getChars_2_0 : List UInt8 := [27, 54, 5, 26, 156, 0, 7, 4, 167, 0, 4, 3, 54, 6, 21, 6, 154, 0, 6, 26, 116, 59, 26]
abbrev dktJ21_getChars_2_0 : List UInt8 := dkwJ21_getChars_2_0 ++ dktJ21_getChars_2_1
theorem dksJ21_getChars_2_0 : cJ21_getChars_2.data.toList.drop 0 = dktJ21_getChars_2_0 := by decide +kernel
theorem dksJ21_getChars_2_1 : cJ21_getChars_2.data.toList.drop 23 = dktJ21_getChars_2_1 := dk_seg dksJ21_getChars_2_0 23 rfl rfl
theorem dksJ21_getChars_2_2 : cJ21_getChars_2.data.toList.drop 47 = dktJ21_getChars_2_2 := dk_seg dksJ21_getChars_2_1 24 rfl rfl
theorem dksJ21_getChars_2_3 : cJ21_getChars_2.data.toList.drop 70 = dktJ21_getChars_2_3 := dk_seg dksJ21_getChars_2_2 23 rfl rfl
theorem dksJ21_getChars_2_4 : cJ21_getChars_2.data.toList.drop 94 = dktJ21_getChars_2_4 := dk_seg dksJ21_getChars_2_3 24 rfl rfl
theorem dksJ21_getChars_2_5 : cJ21_getChars_2.data.toList.drop 118 = dktJ21_getChars_2_5 := dk_seg dksJ21_getChars_2_4 24 rfl rfl
theorem dJ21_getChars_2_0 : decode cJ21_getChars_2 0 = .ok (.iload_n 1, 1) := dk_27 (dk_at dksJ21_getChars_2_0 0 rfl rfl)
theorem dJ21_getChars_2_1 : decode cJ21_getChars_2 1 = .ok (.istore 5, 2) := dk_54 5 (dk_at dksJ21_getChars_2_0 1 rfl rfl)
theorem dJ21_getChars_2_3 : decode cJ21_getChars_2 3 = .ok (.iload_n 0, 1) := dk_26 (dk_at dksJ21_getChars_2_0 3 rfl rfl)
theorem dJ21_getChars_2_4 : decode cJ21_getChars_2 4 = .ok (.ifCond .ge 7, 3) := dk_156 0 7 (dk_at dksJ21_getChars_2_0 4 rfl rfl)
theorem dJ21_getChars_2_7 : decode cJ21_getChars_2 7 = .ok (.iconst 1, 1) := dk_4 (dk_at dksJ21_getChars_2_0 7 rfl rfl)
theorem dJ21_getChars_2_8 : decode cJ21_getChars_2 8 = .ok (.goto 4, 3) := dk_167 0 4 (dk_at dksJ21_getChars_2_0 8 rfl rfl)
theorem dJ21_getChars_2_11 : decode cJ21_getChars_2 11 = .ok (.iconst 0, 1) := dk_3 (dk_at dksJ21_getChars_2_0 11 rfl rfl)
theorem dJ21_getChars_2_12 : decode cJ21_getChars_2 12 = .ok (.istore 6, 2) := dk_54 6 (dk_at dksJ21_getChars_2_0 12 rfl rfl)
theorem dJ21_getChars_2_14 : decode cJ21_getChars_2 14 = .ok (.iload 6, 2) := dk_21 6 (dk_at dksJ21_getChars_2_0 14 rfl rfl)
theorem dJ21_getChars_2_16 : decode cJ21_getChars_2 16 = .ok (.ifCond .ne 6, 3) := dk_154 0 6 (dk_at dksJ21_getChars_2_0 16 rfl rfl)
theorem dJ21_getChars_2_19 : decode cJ21_getChars_2 19 = .ok (.iload_n 0, 1) := dk_26 (dk_at dksJ21_getChars_2_0 19 rfl rfl)
theorem dJ21_getChars_2_20 : decode cJ21_getChars_2 20 = .ok (.ineg, 1) := dk_116 (dk_at dksJ21_getChars_2_0 20 rfl rfl)
theorem dJ21_getChars_2_21 : decode cJ21_getChars_2 21 = .ok (.istore_n 0, 1) := dk_59 (dk_at dksJ21_getChars_2_0 21 rfl rfl)
theorem dJ21_getChars_2_22 : decode cJ21_getChars_2 22 = .ok (.iload_n 0, 1) := dk_26 (dk_at dksJ21_getChars_2_0 22 rfl rfl)
theorem dJ21_getChars_2_23 : decode cJ21_getChars_2 23 = .ok (.bipush (-100), 2) := dk_16 156 (dk_at dksJ21_getChars_2_1 0 rfl rfl)
theorem dJ21_getChars_2_25 : decode cJ21_getChars_2 25 = .ok (.if_icmp .gt 51, 3) := dk_163 0 51 (dk_at dksJ21_getChars_2_1 2 rfl rfl)
theorem dJ21_getChars_2_28 : decode cJ21_getChars_2 28 = .ok (.iload_n 0, 1) := dk_26 (dk_at dksJ21_getChars_2_1 5 rfl rfl)
theorem dJ21_getChars_2_29 : decode cJ21_getChars_2 29 = .ok (.bipush 100, 2) := dk_16 100 (dk_at dksJ21_getChars_2_1 6 rfl rfl)
theorem dJ21_getChars_2_31 : decode cJ21_getChars_2 31 = .ok (.idiv, 1) := dk_108 (dk_at dksJ21_getChars_2_1 8 rfl rfl)
theorem dJ21_getChars_2_32 : decode cJ21_getChars_2 32 = .ok (.istore_n 3, 1) := dk_62 (dk_at dksJ21_getChars_2_1 9 rfl rfl)
theorem dJ21_getChars_2_33 : decode cJ21_getChars_2 33 = .ok (.iload_n 3, 1) := dk_29 (dk_at dksJ21_getChars_2_1 10 rfl rfl)
theorem dJ21_getChars_2_34 : decode cJ21_getChars_2 34 = .ok (.bipush 100, 2) := dk_16 100 (dk_at dksJ21_getChars_2_1 11 rfl rfl)
theorem dJ21_getChars_2_36 : decode cJ21_getChars_2 36 = .ok (.imul, 1) := dk_104 (dk_at dksJ21_getChars_2_1 13 rfl rfl)
theorem dJ21_getChars_2_37 : decode cJ21_getChars_2 37 = .ok (.iload_n 0, 1) := dk_26 (dk_at dksJ21_getChars_2_1 14 rfl rfl)
theorem dJ21_getChars_2_38 : decode cJ21_getChars_2 38 = .ok (.isub, 1) := dk_100 (dk_at dksJ21_getChars_2_1 15 rfl rfl)
theorem dJ21_getChars_2_39 : decode cJ21_getChars_2 39 = .ok (.istore 4, 2) := dk_54 4 (dk_at dksJ21_getChars_2_1 16 rfl rfl)
theorem dJ21_getChars_2_41 : decode cJ21_getChars_2 41 = .ok (.iload_n 3, 1) := dk_29 (dk_at dksJ21_getChars_2_1 18 rfl rfl)
theorem dJ21_getChars_2_42 : decode cJ21_getChars_2 42 = .ok (.istore_n 0, 1) := dk_59 (dk_at dksJ21_getChars_2_1 19 rfl rfl)
theorem dJ21_getChars_2_43 : decode cJ21_getChars_2 43 = .ok (.aload_n 2, 1) := dk_44 (dk_at dksJ21_getChars_2_1 20 rfl rfl)
theorem dJ21_getChars_2_44 : decode cJ21_getChars_2 44 = .ok (.iinc 5 (-1), 3) := dk_132 5 255 (dk_at dksJ21_getChars_2_1 21 rfl rfl)
theorem dJ21_getChars_2_47 : decode cJ21_getChars_2 47 = .ok (.iload 5, 2) := dk_21 5 (dk_at dksJ21_getChars_2_2 0 rfl rfl)
theorem dJ21_getChars_2_49 : decode cJ21_getChars_2 49 = .ok (.getstatic 403, 3) := dk_178 1 147 (dk_at dksJ21_getChars_2_2 2 rfl rfl)
theorem dJ21_getChars_2_52 : decode cJ21_getChars_2 52 = .ok (.iload 4, 2) := dk_21 4 (dk_at dksJ21_getChars_2_2 5 rfl rfl)
theorem dJ21_getChars_2_54 : decode cJ21_getChars_2 54 = .ok (.baload, 1) := dk_51 (dk_at dksJ21_getChars_2_2 7 rfl rfl)
theorem dJ21_getChars_2_55 : decode cJ21_getChars_2 55 = .ok (.invokestatic 111, 3) := dk_184 0 111 (dk_at dksJ21_getChars_2_2 8 rfl rfl)
theorem dJ21_getChars_2_58 : decode cJ21_getChars_2 58 = .ok (.aload_n 2, 1) := dk_44 (dk_at dksJ21_getChars_2_2 11 rfl rfl)
theorem dJ21_getChars_2_59 : decode cJ21_getChars_2 59 = .ok (.iinc 5 (-1), 3) := dk_132 5 255 (dk_at dksJ21_getChars_2_2 12 rfl rfl)
theorem dJ21_getChars_2_62 : decode cJ21_getChars_2 62 = .ok (.iload 5, 2) := dk_21 5 (dk_at dksJ21_getChars_2_2 15 rfl rfl)
theorem dJ21_getChars_2_64 : decode cJ21_getChars_2 64 = .ok (.getstatic 407, 3) := dk_178 1 151 (dk_at dksJ21_getChars_2_2 17 rfl rfl)
theorem dJ21_getChars_2_67 : decode cJ21_getChars_2 67 = .ok (.iload 4, 2) := dk_21 4 (dk_at dksJ21_getChars_2_2 20 rfl rfl)
theorem dJ21_getChars_2_69 : decode cJ21_getChars_2 69 = .ok (.baload, 1) := dk_51 (dk_at dksJ21_getChars_2_2 22 rfl rfl)
theorem dJ21_getChars_2_70 : decode cJ21_getChars_2 70 = .ok (.invokestatic 111, 3) := dk_184 0 111 (dk_at dksJ21_getChars_2_3 0 rfl rfl)
theorem dJ21_getChars_2_73 : decode cJ21_getChars_2 73 = .ok (.goto (-51), 3) := dk_167 255 205 (dk_at dksJ21_getChars_2_3 3 rfl rfl)
theorem dJ21_getChars_2_76 : decode cJ21_getChars_2 76 = .ok (.aload_n 2, 1) := dk_44 (dk_at dksJ21_getChars_2_3 6 rfl rfl)
theorem dJ21_getChars_2_77 : decode cJ21_getChars_2 77 = .ok (.iinc 5 (-1), 3) := dk_132 5 255 (dk_at dksJ21_getChars_2_3 7 rfl rfl)
theorem dJ21_getChars_2_80 : decode cJ21_getChars_2 80 = .ok (.iload 5, 2) := dk_21 5 (dk_at dksJ21_getChars_2_3 10 rfl rfl)
theorem dJ21_getChars_2_82 : decode cJ21_getChars_2 82 = .ok (.getstatic 403, 3) := dk_178 1 147 (dk_at dksJ21_getChars_2_3 12 rfl rfl)
theorem dJ21_getChars_2_85 : decode cJ21_getChars_2 85 = .ok (.iload_n 0, 1) := dk_26 (dk_at dksJ21_getChars_2_3 15 rfl rfl)
theorem dJ21_getChars_2_86 : decode cJ21_getChars_2 86 = .ok (.ineg, 1) := dk_116 (dk_at dksJ21_getChars_2_3 16 rfl rfl)
theorem dJ21_getChars_2_87 : decode cJ21_getChars_2 87 = .ok (.baload, 1) := dk_51 (dk_at dksJ21_getChars_2_3 17 rfl rfl)
theorem dJ21_getChars_2_88 : decode cJ21_getChars_2 88 = .ok (.invokestatic 111, 3) := dk_184 0 111 (dk_at dksJ21_getChars_2_3 18 rfl rfl)
theorem dJ21_getChars_2_91 : decode cJ21_getChars_2 91 = .ok (.iload_n 0, 1) := dk_26 (dk_at dksJ21_getChars_2_3 21 rfl rfl)
theorem dJ21_getChars_2_92 : decode cJ21_getChars_2 92 = .ok (.bipush (-9), 2) := dk_16 247 (dk_at dksJ21_getChars_2_3 22 rfl rfl)
theorem dJ21_getChars_2_94 : decode cJ21_getChars_2 94 = .ok (.if_icmp .ge 18, 3) := dk_162 0 18 (dk_at dksJ21_getChars_2_4 0 rfl rfl)
theorem dJ21_getChars_2_97 : decode cJ21_getChars_2 97 = .ok (.aload_n 2, 1) := dk_44 (dk_at dksJ21_getChars_2_4 3 rfl rfl)
theorem dJ21_getChars_2_98 : decode cJ21_getChars_2 98 = .ok (.iinc 5 (-1), 3) := dk_132 5 255 (dk_at dksJ21_getChars_2_4 4 rfl rfl)
theorem dJ21_getChars_2_101 : decode cJ21_getChars_2 101 = .ok (.iload 5, 2) := dk_21 5 (dk_at dksJ21_getChars_2_4 7 rfl rfl)
theorem dJ21_getChars_2_103 : decode cJ21_getChars_2 103 = .ok (.getstatic 407, 3) := dk_178 1 151 (dk_at dksJ21_getChars_2_4 9 rfl rfl)
theorem dJ21_getChars_2_106 : decode cJ21_getChars_2 106 = .ok (.iload_n 0, 1) := dk_26 (dk_at dksJ21_getChars_2_4 12 rfl rfl)
theorem dJ21_getChars_2_107 : decode cJ21_getChars_2 107 = .ok (.ineg, 1) := dk_116 (dk_at dksJ21_getChars_2_4 13 rfl rfl)
theorem dJ21_getChars_2_108 : decode cJ21_getChars_2 108 = .ok (.baload, 1) := dk_51 (dk_at dksJ21_getChars_2_4 14 rfl rfl)
theorem dJ21_getChars_2_109 : decode cJ21_getChars_2 109 = .ok (.invokestatic 111, 3) := dk_184 0 111 (dk_at dksJ21_getChars_2_4 15 rfl rfl)
theorem dJ21_getChars_2_112 : decode cJ21_getChars_2 112 = .ok (.iload 6, 2) := dk_21 6 (dk_at dksJ21_getChars_2_4 18 rfl rfl)
theorem dJ21_getChars_2_114 : decode cJ21_getChars_2 114 = .ok (.ifCond .eq 14, 3) := dk_153 0 14 (dk_at dksJ21_getChars_2_4 20 rfl rfl)
theorem dJ21_getChars_2_117 : decode cJ21_getChars_2 117 = .ok (.aload_n 2, 1) := dk_44 (dk_at dksJ21_getChars_2_4 23 rfl rfl)
theorem dJ21_getChars_2_118 : decode cJ21_getChars_2 118 = .ok (.iinc 5 (-1), 3) := dk_132 5 255 (dk_at dksJ21_getChars_2_5 0 rfl rfl)
theorem dJ21_getChars_2_121 : decode cJ21_getChars_2 121 = .ok (.iload 5, 2) := dk_21 5 (dk_at dksJ21_getChars_2_5 3 rfl rfl)
theorem dJ21_getChars_2_123 : decode cJ21_getChars_2 123 = .ok (.bipush 45, 2) := dk_16 45 (dk_at dksJ21_getChars_2_5 5 rfl rfl)
theorem dJ21_getChars_2_125 : decode cJ21_getChars_2 125 = .ok (.invokestatic 111, 3) := dk_184 0 111 (dk_at dksJ21_getChars_2_5 7 rfl rfl)
theorem dJ21_getChars_2_128 : decode cJ21_getChars_2 128 = .ok (.iload 5, 2) := dk_21 5 (dk_at dksJ21_getChars_2_5 10 rfl rfl)
theorem dJ21_getChars_2_130 : decode cJ21_getChars_2 130 = .ok (.ireturn, 1) := dk_172 (dk_at dksJ21_getChars_2_5 12 rfl rfl)
abbrev cJ21_compress : ByteArray := prog_24_method_17_code
def yJ21_compress : MethodName := ⟨RJ21, "compress", "([BII)[B"⟩
def dkwJ21_compress_2 : List UInt8 := [25, 5, 3, 45, 3, 28, 184, 0, 123, 28, 159, 0, 6, 25, 5, 176, 45, 176]
abbrev dktJ21_compress_2 : List UInt8 := dkwJ21_compress_2 ++ []
def dkwJ21_compress_1 : List UInt8 := [27, 28, 96, 184, 0, 11, 184, 0, 126, 58, 5, 25, 5, 21, 4, 184, 0, 71, 17, 0, 255, 163, 0, 16]
abbrev dktJ21_compress_1 : List UInt8 := dkwJ21_compress_1 ++ dktJ21_compress_2
def dkwJ21_compress_0 : List UInt8 := [28, 188, 8, 78, 42, 27, 45, 3, 28, 184, 0, 123, 54, 4, 21, 4, 28, 159, 0, 47, 42, 27, 4, 120]
abbrev dktJ21_compress_0 : List UInt8 := dkwJ21_compress_0 ++ dktJ21_compress_1
theorem dksJ21_compress_0 : cJ21_compress.data.toList.drop 0 = dktJ21_compress_0 := by decide +kernel
theorem dksJ21_compress_1 : cJ21_compress.data.toList.drop 24 = dktJ21_compress_1 := dk_seg dksJ21_compress_0 24 rfl rfl
theorem dksJ21_compress_2 : cJ21_compress.data.toList.drop 48 = dktJ21_compress_2 := dk_seg dksJ21_compress_1 24 rfl rfl
theorem dJ21_compress_0 : decode cJ21_compress 0 = .ok (.iload_n 2, 1) := dk_28 (dk_at dksJ21_compress_0 0 rfl rfl)
theorem dJ21_compress_1 : decode cJ21_compress 1 = .ok (.newarray .byte, 2) := dk_188_8 (dk_at dksJ21_compress_0 1 rfl rfl)
theorem dJ21_compress_3 : decode cJ21_compress 3 = .ok (.astore_n 3, 1) := dk_78 (dk_at dksJ21_compress_0 3 rfl rfl)
theorem dJ21_compress_4 : decode cJ21_compress 4 = .ok (.aload_n 0, 1) := dk_42 (dk_at dksJ21_compress_0 4 rfl rfl)
theorem dJ21_compress_5 : decode cJ21_compress 5 = .ok (.iload_n 1, 1) := dk_27 (dk_at dksJ21_compress_0 5 rfl rfl)
theorem dJ21_compress_6 : decode cJ21_compress 6 = .ok (.aload_n 3, 1) := dk_45 (dk_at dksJ21_compress_0 6 rfl rfl)
theorem dJ21_compress_7 : decode cJ21_compress 7 = .ok (.iconst 0, 1) := dk_3 (dk_at dksJ21_compress_0 7 rfl rfl)
theorem dJ21_compress_8 : decode cJ21_compress 8 = .ok (.iload_n 2, 1) := dk_28 (dk_at dksJ21_compress_0 8 rfl rfl)
theorem dJ21_compress_9 : decode cJ21_compress 9 = .ok (.invokestatic 123, 3) := dk_184 0 123 (dk_at dksJ21_compress_0 9 rfl rfl)
theorem dJ21_compress_12 : decode cJ21_compress 12 = .ok (.istore 4, 2) := dk_54 4 (dk_at dksJ21_compress_0 12 rfl rfl)
theorem dJ21_compress_14 : decode cJ21_compress 14 = .ok (.iload 4, 2) := dk_21 4 (dk_at dksJ21_compress_0 14 rfl rfl)
theorem dJ21_compress_16 : decode cJ21_compress 16 = .ok (.iload_n 2, 1) := dk_28 (dk_at dksJ21_compress_0 16 rfl rfl)
theorem dJ21_compress_17 : decode cJ21_compress 17 = .ok (.if_icmp .eq 47, 3) := dk_159 0 47 (dk_at dksJ21_compress_0 17 rfl rfl)
theorem dJ21_compress_20 : decode cJ21_compress 20 = .ok (.aload_n 0, 1) := dk_42 (dk_at dksJ21_compress_0 20 rfl rfl)
theorem dJ21_compress_21 : decode cJ21_compress 21 = .ok (.iload_n 1, 1) := dk_27 (dk_at dksJ21_compress_0 21 rfl rfl)
theorem dJ21_compress_22 : decode cJ21_compress 22 = .ok (.iconst 1, 1) := dk_4 (dk_at dksJ21_compress_0 22 rfl rfl)
theorem dJ21_compress_23 : decode cJ21_compress 23 = .ok (.ishl, 1) := dk_120 (dk_at dksJ21_compress_0 23 rfl rfl)
theorem dJ21_compress_24 : decode cJ21_compress 24 = .ok (.iload_n 1, 1) := dk_27 (dk_at dksJ21_compress_1 0 rfl rfl)
theorem dJ21_compress_25 : decode cJ21_compress 25 = .ok (.iload_n 2, 1) := dk_28 (dk_at dksJ21_compress_1 1 rfl rfl)
theorem dJ21_compress_26 : decode cJ21_compress 26 = .ok (.iadd, 1) := dk_96 (dk_at dksJ21_compress_1 2 rfl rfl)
theorem dJ21_compress_27 : decode cJ21_compress 27 = .ok (.invokestatic 11, 3) := dk_184 0 11 (dk_at dksJ21_compress_1 3 rfl rfl)
theorem dJ21_compress_30 : decode cJ21_compress 30 = .ok (.invokestatic 126, 3) := dk_184 0 126 (dk_at dksJ21_compress_1 6 rfl rfl)
theorem dJ21_compress_33 : decode cJ21_compress 33 = .ok (.astore 5, 2) := dk_58 5 (dk_at dksJ21_compress_1 9 rfl rfl)
theorem dJ21_compress_35 : decode cJ21_compress 35 = .ok (.aload 5, 2) := dk_25 5 (dk_at dksJ21_compress_1 11 rfl rfl)
theorem dJ21_compress_37 : decode cJ21_compress 37 = .ok (.iload 4, 2) := dk_21 4 (dk_at dksJ21_compress_1 13 rfl rfl)
theorem dJ21_compress_39 : decode cJ21_compress 39 = .ok (.invokestatic 71, 3) := dk_184 0 71 (dk_at dksJ21_compress_1 15 rfl rfl)
theorem dJ21_compress_42 : decode cJ21_compress 42 = .ok (.sipush 255, 3) := dk_17 0 255 (dk_at dksJ21_compress_1 18 rfl rfl)
theorem dJ21_compress_45 : decode cJ21_compress 45 = .ok (.if_icmp .gt 16, 3) := dk_163 0 16 (dk_at dksJ21_compress_1 21 rfl rfl)
theorem dJ21_compress_48 : decode cJ21_compress 48 = .ok (.aload 5, 2) := dk_25 5 (dk_at dksJ21_compress_2 0 rfl rfl)
theorem dJ21_compress_50 : decode cJ21_compress 50 = .ok (.iconst 0, 1) := dk_3 (dk_at dksJ21_compress_2 2 rfl rfl)
theorem dJ21_compress_51 : decode cJ21_compress 51 = .ok (.aload_n 3, 1) := dk_45 (dk_at dksJ21_compress_2 3 rfl rfl)
theorem dJ21_compress_52 : decode cJ21_compress 52 = .ok (.iconst 0, 1) := dk_3 (dk_at dksJ21_compress_2 4 rfl rfl)
theorem dJ21_compress_53 : decode cJ21_compress 53 = .ok (.iload_n 2, 1) := dk_28 (dk_at dksJ21_compress_2 5 rfl rfl)
theorem dJ21_compress_54 : decode cJ21_compress 54 = .ok (.invokestatic 123, 3) := dk_184 0 123 (dk_at dksJ21_compress_2 6 rfl rfl)
theorem dJ21_compress_57 : decode cJ21_compress 57 = .ok (.iload_n 2, 1) := dk_28 (dk_at dksJ21_compress_2 9 rfl rfl)
theorem dJ21_compress_58 : decode cJ21_compress 58 = .ok (.if_icmp .eq 6, 3) := dk_159 0 6 (dk_at dksJ21_compress_2 10 rfl rfl)
theorem dJ21_compress_61 : decode cJ21_compress 61 = .ok (.aload 5, 2) := dk_25 5 (dk_at dksJ21_compress_2 13 rfl rfl)
theorem dJ21_compress_63 : decode cJ21_compress 63 = .ok (.areturn, 1) := dk_176 (dk_at dksJ21_compress_2 15 rfl rfl)
theorem dJ21_compress_64 : decode cJ21_compress 64 = .ok (.aload_n 3, 1) := dk_45 (dk_at dksJ21_compress_2 16 rfl rfl)
theorem dJ21_compress_65 : decode cJ21_compress 65 = .ok (.areturn, 1) := dk_176 (dk_at dksJ21_compress_2 17 rfl rfl)
abbrev cJ21_compress_2 : ByteArray := prog_24_method_22_code
def yJ21_compress_2 : MethodName := ⟨RJ21, "compress", "([BI[BII)I"⟩
def dkwJ21_compress_2_2 : List UInt8 := [132, 5, 1, 167, 255, 216, 21, 4, 172]
abbrev dktJ21_compress_2_2 : List UInt8 := dkwJ21_compress_2_2 ++ []
def dkwJ21_compress_2_1 : List UInt8 := [21, 6, 17, 0, 255, 164, 0, 6, 21, 5, 172, 44, 29, 21, 6, 145, 84, 132, 1, 1, 132, 3, 1]
abbrev dktJ21_compress_2_1 : List UInt8 := dkwJ21_compress_2_1 ++ dktJ21_compress_2_2
def dkwJ21_compress_2_0 : List UInt8 := [27, 21, 4, 42, 184, 0, 173, 3, 54, 5, 21, 5, 21, 4, 162, 0, 39, 42, 27, 184, 0, 71, 54, 6]
abbrev dktJ21_compress_2_0 : List UInt8 := dkwJ21_compress_2_0 ++ dktJ21_compress_2_1
theorem dksJ21_compress_2_0 : cJ21_compress_2.data.toList.drop 0 = dktJ21_compress_2_0 := by decide +kernel
theorem dksJ21_compress_2_1 : cJ21_compress_2.data.toList.drop 24 = dktJ21_compress_2_1 := dk_seg dksJ21_compress_2_0 24 rfl rfl
theorem dksJ21_compress_2_2 : cJ21_compress_2.data.toList.drop 47 = dktJ21_compress_2_2 := dk_seg dksJ21_compress_2_1 23 rfl rfl
theorem dJ21_compress_2_0 : decode cJ21_compress_2 0 = .ok (.iload_n 1, 1) := dk_27 (dk_at dksJ21_compress_2_0 0 rfl rfl)
theorem dJ21_compress_2_1 : decode cJ21_compress_2 1 = .ok (.iload 4, 2) := dk_21 4 (dk_at dksJ21_compress_2_0 1 rfl rfl)
theorem dJ21_compress_2_3 : decode cJ21_compress_2 3 = .ok (.aload_n 0, 1) := dk_42 (dk_at dksJ21_compress_2_0 3 rfl rfl)
theorem dJ21_compress_2_4 : decode cJ21_compress_2 4 = .ok (.invokestatic 173, 3) := dk_184 0 173 (dk_at dksJ21_compress_2_0 4 rfl rfl)
theorem dJ21_compress_2_7 : decode cJ21_compress_2 7 = .ok (.iconst 0, 1) := dk_3 (dk_at dksJ21_compress_2_0 7 rfl rfl)
theorem dJ21_compress_2_8 : decode cJ21_compress_2 8 = .ok (.istore 5, 2) := dk_54 5 (dk_at dksJ21_compress_2_0 8 rfl rfl)
theorem dJ21_compress_2_10 : decode cJ21_compress_2 10 = .ok (.iload 5, 2) := dk_21 5 (dk_at dksJ21_compress_2_0 10 rfl rfl)
theorem dJ21_compress_2_12 : decode cJ21_compress_2 12 = .ok (.iload 4, 2) := dk_21 4 (dk_at dksJ21_compress_2_0 12 rfl rfl)
theorem dJ21_compress_2_14 : decode cJ21_compress_2 14 = .ok (.if_icmp .ge 39, 3) := dk_162 0 39 (dk_at dksJ21_compress_2_0 14 rfl rfl)
theorem dJ21_compress_2_17 : decode cJ21_compress_2 17 = .ok (.aload_n 0, 1) := dk_42 (dk_at dksJ21_compress_2_0 17 rfl rfl)
theorem dJ21_compress_2_18 : decode cJ21_compress_2 18 = .ok (.iload_n 1, 1) := dk_27 (dk_at dksJ21_compress_2_0 18 rfl rfl)
theorem dJ21_compress_2_19 : decode cJ21_compress_2 19 = .ok (.invokestatic 71, 3) := dk_184 0 71 (dk_at dksJ21_compress_2_0 19 rfl rfl)
theorem dJ21_compress_2_22 : decode cJ21_compress_2 22 = .ok (.istore 6, 2) := dk_54 6 (dk_at dksJ21_compress_2_0 22 rfl rfl)
theorem dJ21_compress_2_24 : decode cJ21_compress_2 24 = .ok (.iload 6, 2) := dk_21 6 (dk_at dksJ21_compress_2_1 0 rfl rfl)
theorem dJ21_compress_2_26 : decode cJ21_compress_2 26 = .ok (.sipush 255, 3) := dk_17 0 255 (dk_at dksJ21_compress_2_1 2 rfl rfl)
theorem dJ21_compress_2_29 : decode cJ21_compress_2 29 = .ok (.if_icmp .le 6, 3) := dk_164 0 6 (dk_at dksJ21_compress_2_1 5 rfl rfl)
theorem dJ21_compress_2_32 : decode cJ21_compress_2 32 = .ok (.iload 5, 2) := dk_21 5 (dk_at dksJ21_compress_2_1 8 rfl rfl)
theorem dJ21_compress_2_34 : decode cJ21_compress_2 34 = .ok (.ireturn, 1) := dk_172 (dk_at dksJ21_compress_2_1 10 rfl rfl)
theorem dJ21_compress_2_35 : decode cJ21_compress_2 35 = .ok (.aload_n 2, 1) := dk_44 (dk_at dksJ21_compress_2_1 11 rfl rfl)
theorem dJ21_compress_2_36 : decode cJ21_compress_2 36 = .ok (.iload_n 3, 1) := dk_29 (dk_at dksJ21_compress_2_1 12 rfl rfl)
theorem dJ21_compress_2_37 : decode cJ21_compress_2 37 = .ok (.iload 6, 2) := dk_21 6 (dk_at dksJ21_compress_2_1 13 rfl rfl)
theorem dJ21_compress_2_39 : decode cJ21_compress_2 39 = .ok (.i2b, 1) := dk_145 (dk_at dksJ21_compress_2_1 15 rfl rfl)
theorem dJ21_compress_2_40 : decode cJ21_compress_2 40 = .ok (.bastore, 1) := dk_84 (dk_at dksJ21_compress_2_1 16 rfl rfl)
theorem dJ21_compress_2_41 : decode cJ21_compress_2 41 = .ok (.iinc 1 1, 3) := dk_132 1 1 (dk_at dksJ21_compress_2_1 17 rfl rfl)
theorem dJ21_compress_2_44 : decode cJ21_compress_2 44 = .ok (.iinc 3 1, 3) := dk_132 3 1 (dk_at dksJ21_compress_2_1 20 rfl rfl)
theorem dJ21_compress_2_47 : decode cJ21_compress_2 47 = .ok (.iinc 5 1, 3) := dk_132 5 1 (dk_at dksJ21_compress_2_2 0 rfl rfl)
theorem dJ21_compress_2_50 : decode cJ21_compress_2 50 = .ok (.goto (-40), 3) := dk_167 255 216 (dk_at dksJ21_compress_2_2 3 rfl rfl)
theorem dJ21_compress_2_53 : decode cJ21_compress_2 53 = .ok (.iload 4, 2) := dk_21 4 (dk_at dksJ21_compress_2_2 6 rfl rfl)
theorem dJ21_compress_2_55 : decode cJ21_compress_2 55 = .ok (.ireturn, 1) := dk_172 (dk_at dksJ21_compress_2_2 8 rfl rfl)
abbrev cJ21_getChar : ByteArray := prog_24_method_5_code
def yJ21_getChar : MethodName := ⟨RJ21, "getChar", "([BI)C"⟩
def dkwJ21_getChar_2 : List UInt8 := [51, 17, 0, 255, 126, 178, 0, 63, 120, 128, 146, 172]
abbrev dktJ21_getChar_2 : List UInt8 := dkwJ21_getChar_2 ++ []
def dkwJ21_getChar_1 : List UInt8 := [183, 0, 56, 191, 27, 4, 120, 60, 42, 27, 132, 1, 1, 51, 17, 0, 255, 126, 178, 0, 59, 120, 42, 27]
abbrev dktJ21_getChar_1 : List UInt8 := dkwJ21_getChar_1 ++ dktJ21_getChar_2
def dkwJ21_getChar_0 : List UInt8 := [178, 0, 44, 154, 0, 25, 27, 155, 0, 11, 27, 42, 184, 0, 48, 161, 0, 13, 187, 0, 52, 89, 18, 54]
abbrev dktJ21_getChar_0 : List UInt8 := dkwJ21_getChar_0 ++ dktJ21_getChar_1
theorem dksJ21_getChar_0 : cJ21_getChar.data.toList.drop 0 = dktJ21_getChar_0 := by decide +kernel
theorem dksJ21_getChar_1 : cJ21_getChar.data.toList.drop 24 = dktJ21_getChar_1 := dk_seg dksJ21_getChar_0 24 rfl rfl
theorem dksJ21_getChar_2 : cJ21_getChar.data.toList.drop 48 = dktJ21_getChar_2 := dk_seg dksJ21_getChar_1 24 rfl rfl
theorem dJ21_getChar_0 : decode cJ21_getChar 0 = .ok (.getstatic 44, 3) := dk_178 0 44 (dk_at dksJ21_getChar_0 0 rfl rfl)
theorem dJ21_getChar_3 : decode cJ21_getChar 3 = .ok (.ifCond .ne 25, 3) := dk_154 0 25 (dk_at dksJ21_getChar_0 3 rfl rfl)
theorem dJ21_getChar_6 : decode cJ21_getChar 6 = .ok (.iload_n 1, 1) := dk_27 (dk_at dksJ21_getChar_0 6 rfl rfl)
theorem dJ21_getChar_7 : decode cJ21_getChar 7 = .ok (.ifCond .lt 11, 3) := dk_155 0 11 (dk_at dksJ21_getChar_0 7 rfl rfl)
theorem dJ21_getChar_10 : decode cJ21_getChar 10 = .ok (.iload_n 1, 1) := dk_27 (dk_at dksJ21_getChar_0 10 rfl rfl)
theorem dJ21_getChar_11 : decode cJ21_getChar 11 = .ok (.aload_n 0, 1) := dk_42 (dk_at dksJ21_getChar_0 11 rfl rfl)
theorem dJ21_getChar_12 : decode cJ21_getChar 12 = .ok (.invokestatic 48, 3) := dk_184 0 48 (dk_at dksJ21_getChar_0 12 rfl rfl)
theorem dJ21_getChar_15 : decode cJ21_getChar 15 = .ok (.if_icmp .lt 13, 3) := dk_161 0 13 (dk_at dksJ21_getChar_0 15 rfl rfl)
theorem dJ21_getChar_18 : decode cJ21_getChar 18 = .ok (.new 52, 3) := dk_187 0 52 (dk_at dksJ21_getChar_0 18 rfl rfl)
theorem dJ21_getChar_21 : decode cJ21_getChar 21 = .ok (.dup, 1) := dk_89 (dk_at dksJ21_getChar_0 21 rfl rfl)
theorem dJ21_getChar_22 : decode cJ21_getChar 22 = .ok (.ldc 54, 2) := dk_18 54 (dk_at dksJ21_getChar_0 22 rfl rfl)
theorem dJ21_getChar_24 : decode cJ21_getChar 24 = .ok (.invokespecial 56, 3) := dk_183 0 56 (dk_at dksJ21_getChar_1 0 rfl rfl)
theorem dJ21_getChar_27 : decode cJ21_getChar 27 = .ok (.athrow, 1) := dk_191 (dk_at dksJ21_getChar_1 3 rfl rfl)
theorem dJ21_getChar_28 : decode cJ21_getChar 28 = .ok (.iload_n 1, 1) := dk_27 (dk_at dksJ21_getChar_1 4 rfl rfl)
theorem dJ21_getChar_29 : decode cJ21_getChar 29 = .ok (.iconst 1, 1) := dk_4 (dk_at dksJ21_getChar_1 5 rfl rfl)
theorem dJ21_getChar_30 : decode cJ21_getChar 30 = .ok (.ishl, 1) := dk_120 (dk_at dksJ21_getChar_1 6 rfl rfl)
theorem dJ21_getChar_31 : decode cJ21_getChar 31 = .ok (.istore_n 1, 1) := dk_60 (dk_at dksJ21_getChar_1 7 rfl rfl)
theorem dJ21_getChar_32 : decode cJ21_getChar 32 = .ok (.aload_n 0, 1) := dk_42 (dk_at dksJ21_getChar_1 8 rfl rfl)
theorem dJ21_getChar_33 : decode cJ21_getChar 33 = .ok (.iload_n 1, 1) := dk_27 (dk_at dksJ21_getChar_1 9 rfl rfl)
theorem dJ21_getChar_34 : decode cJ21_getChar 34 = .ok (.iinc 1 1, 3) := dk_132 1 1 (dk_at dksJ21_getChar_1 10 rfl rfl)
theorem dJ21_getChar_37 : decode cJ21_getChar 37 = .ok (.baload, 1) := dk_51 (dk_at dksJ21_getChar_1 13 rfl rfl)
theorem dJ21_getChar_38 : decode cJ21_getChar 38 = .ok (.sipush 255, 3) := dk_17 0 255 (dk_at dksJ21_getChar_1 14 rfl rfl)
theorem dJ21_getChar_41 : decode cJ21_getChar 41 = .ok (.iand, 1) := dk_126 (dk_at dksJ21_getChar_1 17 rfl rfl)
theorem dJ21_getChar_42 : decode cJ21_getChar 42 = .ok (.getstatic 59, 3) := dk_178 0 59 (dk_at dksJ21_getChar_1 18 rfl rfl)
theorem dJ21_getChar_45 : decode cJ21_getChar 45 = .ok (.ishl, 1) := dk_120 (dk_at dksJ21_getChar_1 21 rfl rfl)
theorem dJ21_getChar_46 : decode cJ21_getChar 46 = .ok (.aload_n 0, 1) := dk_42 (dk_at dksJ21_getChar_1 22 rfl rfl)
theorem dJ21_getChar_47 : decode cJ21_getChar 47 = .ok (.iload_n 1, 1) := dk_27 (dk_at dksJ21_getChar_1 23 rfl rfl)
theorem dJ21_getChar_48 : decode cJ21_getChar 48 = .ok (.baload, 1) := dk_51 (dk_at dksJ21_getChar_2 0 rfl rfl)
theorem dJ21_getChar_49 : decode cJ21_getChar 49 = .ok (.sipush 255, 3) := dk_17 0 255 (dk_at dksJ21_getChar_2 1 rfl rfl)
theorem dJ21_getChar_52 : decode cJ21_getChar 52 = .ok (.iand, 1) := dk_126 (dk_at dksJ21_getChar_2 4 rfl rfl)
theorem dJ21_getChar_53 : decode cJ21_getChar 53 = .ok (.getstatic 63, 3) := dk_178 0 63 (dk_at dksJ21_getChar_2 5 rfl rfl)
theorem dJ21_getChar_56 : decode cJ21_getChar 56 = .ok (.ishl, 1) := dk_120 (dk_at dksJ21_getChar_2 8 rfl rfl)
theorem dJ21_getChar_57 : decode cJ21_getChar 57 = .ok (.ior, 1) := dk_128 (dk_at dksJ21_getChar_2 9 rfl rfl)
theorem dJ21_getChar_58 : decode cJ21_getChar 58 = .ok (.i2c, 1) := dk_146 (dk_at dksJ21_getChar_2 10 rfl rfl)
theorem dJ21_getChar_59 : decode cJ21_getChar 59 = .ok (.ireturn, 1) := dk_172 (dk_at dksJ21_getChar_2 11 rfl rfl)
abbrev cJ21_coderFromArrayLen : ByteArray := prog_24_method_15_code
def yJ21_coderFromArrayLen : MethodName := ⟨RJ21, "coderFromArrayLen", "([BI)B"⟩
def dkwJ21_coderFromArrayLen_0 : List UInt8 := [27, 42, 190, 100, 16, 31, 124, 145, 172]
abbrev dktJ21_coderFromArrayLen_0 : List UInt8 := dkwJ21_coderFromArrayLen_0 ++ []
theorem dksJ21_coderFromArrayLen_0 : cJ21_coderFromArrayLen.data.toList.drop 0 = dktJ21_coderFromArrayLen_0 := by decide +kernel
theorem dJ21_coderFromArrayLen_0 : decode cJ21_coderFromArrayLen 0 = .ok (.iload_n 1, 1) := dk_27 (dk_at dksJ21_coderFromArrayLen_0 0 rfl rfl)
theorem dJ21_coderFromArrayLen_1 : decode cJ21_coderFromArrayLen 1 = .ok (.aload_n 0, 1) := dk_42 (dk_at dksJ21_coderFromArrayLen_0 1 rfl rfl)
theorem dJ21_coderFromArrayLen_2 : decode cJ21_coderFromArrayLen 2 = .ok (.arraylength, 1) := dk_190 (dk_at dksJ21_coderFromArrayLen_0 2 rfl rfl)
theorem dJ21_coderFromArrayLen_3 : decode cJ21_coderFromArrayLen 3 = .ok (.isub, 1) := dk_100 (dk_at dksJ21_coderFromArrayLen_0 3 rfl rfl)
theorem dJ21_coderFromArrayLen_4 : decode cJ21_coderFromArrayLen 4 = .ok (.bipush 31, 2) := dk_16 31 (dk_at dksJ21_coderFromArrayLen_0 4 rfl rfl)
theorem dJ21_coderFromArrayLen_6 : decode cJ21_coderFromArrayLen 6 = .ok (.iushr, 1) := dk_124 (dk_at dksJ21_coderFromArrayLen_0 6 rfl rfl)
theorem dJ21_coderFromArrayLen_7 : decode cJ21_coderFromArrayLen 7 = .ok (.i2b, 1) := dk_145 (dk_at dksJ21_coderFromArrayLen_0 7 rfl rfl)
theorem dJ21_coderFromArrayLen_8 : decode cJ21_coderFromArrayLen 8 = .ok (.ireturn, 1) := dk_172 (dk_at dksJ21_coderFromArrayLen_0 8 rfl rfl)
theorem q67 : (Jvm.Cond.initialized "java/lang/StringUTF16") ∈ lw_all := lw_g (lw_at lw_m1 27 rfl) rfl
theorem q731 : (Jvm.Cond.static ({ cls := "java/lang/StringUTF16", name := "newBytesFor", desc := "(I)[B" } : Jvm.MethodName)) ∈ lw_all := lw_g (lw_at lw_m3 211 rfl) rfl
theorem q732 : (Jvm.Cond.code ({ cls := "java/lang/StringUTF16", name := "newBytesFor", desc := "(I)[B" } : Jvm.MethodName) prog_24_method_2_code (1 : Nat) (Option.some (Jvm.ClassFile.FieldType.array Jvm.ClassFile.FieldType.byte))) ∈ lw_all := lw_g (lw_at lw_m3 212 rfl) rfl
theorem q733 : (Jvm.Cond.methodLink "java/lang/StringUTF16" (11 : Nat) ({ cls := "java/lang/StringUTF16", name := "newBytesLength", desc := "(I)I" } : Jvm.MethodName)) ∈ lw_all := lw_g (lw_at lw_m3 213 rfl) rfl
theorem q734 : (Jvm.Cond.static ({ cls := "java/lang/StringUTF16", name := "newBytesLength", desc := "(I)I" } : Jvm.MethodName)) ∈ lw_all := lw_g (lw_at lw_m3 214 rfl) rfl
theorem q735 : (Jvm.Cond.code ({ cls := "java/lang/StringUTF16", name := "newBytesLength", desc := "(I)I" } : Jvm.MethodName) prog_24_method_3_code (1 : Nat) (Option.some Jvm.ClassFile.FieldType.int)) ∈ lw_all := lw_g (lw_at lw_m3 215 rfl) rfl
theorem q736 : (Jvm.Cond.constant "java/lang/StringUTF16" (20 : Nat) (1073741823 : Int32)) ∈ lw_all := lw_g (lw_at lw_m3 216 rfl) rfl
theorem q807 : (Jvm.Cond.static ({ cls := "java/lang/StringUTF16", name := "putCharsAt", desc := "([BICCCC)I" } : Jvm.MethodName)) ∈ lw_all := lw_g (lw_at lw_m4 47 rfl) rfl
theorem q808 : (Jvm.Cond.code ({ cls := "java/lang/StringUTF16", name := "putCharsAt", desc := "([BICCCC)I" } : Jvm.MethodName) prog_24_method_81_code (7 : Nat) (Option.some Jvm.ClassFile.FieldType.int)) ∈ lw_all := lw_g (lw_at lw_m4 48 rfl) rfl
theorem q809 : (Jvm.Cond.methodLink "java/lang/StringUTF16" (96 : Nat) ({ cls := "java/lang/StringUTF16", name := "checkBoundsBeginEnd", desc := "(II[B)V" } : Jvm.MethodName)) ∈ lw_all := lw_g (lw_at lw_m4 49 rfl) rfl
theorem q810 : (Jvm.Cond.static ({ cls := "java/lang/StringUTF16", name := "checkBoundsBeginEnd", desc := "(II[B)V" } : Jvm.MethodName)) ∈ lw_all := lw_g (lw_at lw_m4 50 rfl) rfl
theorem q811 : (Jvm.Cond.code ({ cls := "java/lang/StringUTF16", name := "checkBoundsBeginEnd", desc := "(II[B)V" } : Jvm.MethodName) prog_24_method_93_code (3 : Nat) (Option.none : Option Jvm.ClassFile.FieldType)) ∈ lw_all := lw_g (lw_at lw_m4 51 rfl) rfl
theorem q812 : (Jvm.Cond.methodLink "java/lang/StringUTF16" (48 : Nat) ({ cls := "java/lang/StringUTF16", name := "length", desc := "([B)I" } : Jvm.MethodName)) ∈ lw_all := lw_g (lw_at lw_m4 52 rfl) rfl
theorem q813 : (Jvm.Cond.static ({ cls := "java/lang/StringUTF16", name := "length", desc := "([B)I" } : Jvm.MethodName)) ∈ lw_all := lw_g (lw_at lw_m4 53 rfl) rfl
theorem q814 : (Jvm.Cond.code ({ cls := "java/lang/StringUTF16", name := "length", desc := "([B)I" } : Jvm.MethodName) prog_24_method_6_code (1 : Nat) (Option.some Jvm.ClassFile.FieldType.int)) ∈ lw_all := lw_g (lw_at lw_m4 54 rfl) rfl
theorem q815 : (Jvm.Cond.methodLink "java/lang/StringUTF16" (241 : Nat) ({ cls := "java/lang/String", name := "checkBoundsBeginEnd", desc := "(III)V" } : Jvm.MethodName)) ∈ lw_all := lw_g (lw_at lw_m4 55 rfl) rfl
theorem q823 : (Jvm.Cond.methodLink "java/lang/StringUTF16" (111 : Nat) ({ cls := "java/lang/StringUTF16", name := "putChar", desc := "([BII)V" } : Jvm.MethodName)) ∈ lw_all := lw_g (lw_at lw_m4 63 rfl) rfl
theorem q824 : (Jvm.Cond.static ({ cls := "java/lang/StringUTF16", name := "putChar", desc := "([BII)V" } : Jvm.MethodName)) ∈ lw_all := lw_g (lw_at lw_m4 64 rfl) rfl
theorem q825 : (Jvm.Cond.code ({ cls := "java/lang/StringUTF16", name := "putChar", desc := "([BII)V" } : Jvm.MethodName) prog_24_method_4_code (3 : Nat) (Option.none : Option Jvm.ClassFile.FieldType)) ∈ lw_all := lw_g (lw_at lw_m4 65 rfl) rfl
theorem q826 : (Jvm.Cond.fieldLink "java/lang/StringUTF16" (44 : Nat) "java/lang/StringUTF16" "$assertionsDisabled" "Z") ∈ lw_all := lw_g (lw_at lw_m4 66 rfl) rfl
theorem q827 : (Jvm.Cond.laysStatic "java/lang/StringUTF16" "$assertionsDisabled" "Z") ∈ lw_tbl := lw_at lw_m4 67 rfl
theorem q828 : (Jvm.Cond.fieldLink "java/lang/StringUTF16" (59 : Nat) "java/lang/StringUTF16" "HI_BYTE_SHIFT" "I") ∈ lw_all := lw_g (lw_at lw_m4 68 rfl) rfl
theorem q829 : (Jvm.Cond.laysStatic "java/lang/StringUTF16" "HI_BYTE_SHIFT" "I") ∈ lw_tbl := lw_at lw_m4 69 rfl
theorem q830 : (Jvm.Cond.fieldLink "java/lang/StringUTF16" (63 : Nat) "java/lang/StringUTF16" "LO_BYTE_SHIFT" "I") ∈ lw_all := lw_g (lw_at lw_m4 70 rfl) rfl
theorem q831 : (Jvm.Cond.laysStatic "java/lang/StringUTF16" "LO_BYTE_SHIFT" "I") ∈ lw_tbl := lw_at lw_m4 71 rfl
theorem q858 : (Jvm.Cond.static ({ cls := "java/lang/StringUTF16", name := "inflate", desc := "([BI[BII)V" } : Jvm.MethodName)) ∈ lw_all := lw_g (lw_at lw_m4 98 rfl) rfl
theorem q859 : (Jvm.Cond.code ({ cls := "java/lang/StringUTF16", name := "inflate", desc := "([BI[BII)V" } : Jvm.MethodName) prog_24_method_86_code (6 : Nat) (Option.none : Option Jvm.ClassFile.FieldType)) ∈ lw_all := lw_g (lw_at lw_m4 99 rfl) rfl
theorem q860 : (Jvm.Cond.methodLink "java/lang/StringUTF16" (173 : Nat) ({ cls := "java/lang/StringUTF16", name := "checkBoundsOffCount", desc := "(II[B)V" } : Jvm.MethodName)) ∈ lw_all := lw_g (lw_at lw_m4 100 rfl) rfl
theorem q861 : (Jvm.Cond.static ({ cls := "java/lang/StringUTF16", name := "checkBoundsOffCount", desc := "(II[B)V" } : Jvm.MethodName)) ∈ lw_all := lw_g (lw_at lw_m4 101 rfl) rfl
theorem q862 : (Jvm.Cond.code ({ cls := "java/lang/StringUTF16", name := "checkBoundsOffCount", desc := "(II[B)V" } : Jvm.MethodName) prog_24_method_94_code (3 : Nat) (Option.none : Option Jvm.ClassFile.FieldType)) ∈ lw_all := lw_g (lw_at lw_m4 102 rfl) rfl
theorem q863 : (Jvm.Cond.methodLink "java/lang/StringUTF16" (419 : Nat) ({ cls := "java/lang/String", name := "checkBoundsOffCount", desc := "(III)I" } : Jvm.MethodName)) ∈ lw_all := lw_g (lw_at lw_m4 103 rfl) rfl
theorem q893 : (Jvm.Cond.static ({ cls := "java/lang/StringUTF16", name := "getChars", desc := "(III[B)I" } : Jvm.MethodName)) ∈ lw_all := lw_g (lw_at lw_m4 133 rfl) rfl
theorem q894 : (Jvm.Cond.code ({ cls := "java/lang/StringUTF16", name := "getChars", desc := "(III[B)I" } : Jvm.MethodName) prog_24_method_77_code (5 : Nat) (Option.some Jvm.ClassFile.FieldType.int)) ∈ lw_all := lw_g (lw_at lw_m4 134 rfl) rfl
theorem q895 : (Jvm.Cond.methodLink "java/lang/StringUTF16" (393 : Nat) ({ cls := "java/lang/StringUTF16", name := "getChars", desc := "(II[B)I" } : Jvm.MethodName)) ∈ lw_all := lw_g (lw_at lw_m4 135 rfl) rfl
theorem q896 : (Jvm.Cond.static ({ cls := "java/lang/StringUTF16", name := "getChars", desc := "(II[B)I" } : Jvm.MethodName)) ∈ lw_all := lw_g (lw_at lw_m4 136 rfl) rfl
theorem q897 : (Jvm.Cond.code ({ cls := "java/lang/StringUTF16", name := "getChars", desc := "(II[B)I" } : Jvm.MethodName) prog_24_method_89_code (7 : Nat) (Option.some Jvm.ClassFile.FieldType.int)) ∈ lw_all := lw_g (lw_at lw_m4 137 rfl) rfl
theorem q898 : (Jvm.Cond.fieldLink "java/lang/StringUTF16" (403 : Nat) "java/lang/Integer" "DigitOnes" "[B") ∈ lw_all := lw_g (lw_at lw_m4 138 rfl) rfl
theorem q899 : (Jvm.Cond.fieldLink "java/lang/StringUTF16" (407 : Nat) "java/lang/Integer" "DigitTens" "[B") ∈ lw_all := lw_g (lw_at lw_m4 139 rfl) rfl
theorem q947 : (Jvm.Cond.static ({ cls := "java/lang/StringUTF16", name := "compress", desc := "([BII)[B" } : Jvm.MethodName)) ∈ lw_all := lw_g (lw_at lw_m4 187 rfl) rfl
theorem q948 : (Jvm.Cond.code ({ cls := "java/lang/StringUTF16", name := "compress", desc := "([BII)[B" } : Jvm.MethodName) prog_24_method_17_code (6 : Nat) (Option.some (Jvm.ClassFile.FieldType.array Jvm.ClassFile.FieldType.byte))) ∈ lw_all := lw_g (lw_at lw_m4 188 rfl) rfl
theorem q949 : (Jvm.Cond.methodLink "java/lang/StringUTF16" (123 : Nat) ({ cls := "java/lang/StringUTF16", name := "compress", desc := "([BI[BII)I" } : Jvm.MethodName)) ∈ lw_all := lw_g (lw_at lw_m4 189 rfl) rfl
theorem q950 : (Jvm.Cond.static ({ cls := "java/lang/StringUTF16", name := "compress", desc := "([BI[BII)I" } : Jvm.MethodName)) ∈ lw_all := lw_g (lw_at lw_m4 190 rfl) rfl
theorem q951 : (Jvm.Cond.code ({ cls := "java/lang/StringUTF16", name := "compress", desc := "([BI[BII)I" } : Jvm.MethodName) prog_24_method_22_code (7 : Nat) (Option.some Jvm.ClassFile.FieldType.int)) ∈ lw_all := lw_g (lw_at lw_m4 191 rfl) rfl
theorem q952 : (Jvm.Cond.methodLink "java/lang/StringUTF16" (71 : Nat) ({ cls := "java/lang/StringUTF16", name := "getChar", desc := "([BI)C" } : Jvm.MethodName)) ∈ lw_all := lw_g (lw_at lw_m4 192 rfl) rfl
theorem q953 : (Jvm.Cond.static ({ cls := "java/lang/StringUTF16", name := "getChar", desc := "([BI)C" } : Jvm.MethodName)) ∈ lw_all := lw_g (lw_at lw_m4 193 rfl) rfl
theorem q954 : (Jvm.Cond.code ({ cls := "java/lang/StringUTF16", name := "getChar", desc := "([BI)C" } : Jvm.MethodName) prog_24_method_5_code (2 : Nat) (Option.some Jvm.ClassFile.FieldType.char)) ∈ lw_all := lw_g (lw_at lw_m4 194 rfl) rfl
theorem q955 : (Jvm.Cond.methodLink "java/lang/StringUTF16" (126 : Nat) ({ cls := "java/util/Arrays", name := "copyOfRange", desc := "([BII)[B" } : Jvm.MethodName)) ∈ lw_all := lw_g (lw_at lw_m4 195 rfl) rfl
theorem q957 : (Jvm.Cond.static ({ cls := "java/lang/StringUTF16", name := "coderFromArrayLen", desc := "([BI)B" } : Jvm.MethodName)) ∈ lw_all := lw_g (lw_at lw_m4 197 rfl) rfl
theorem q958 : (Jvm.Cond.code ({ cls := "java/lang/StringUTF16", name := "coderFromArrayLen", desc := "([BI)B" } : Jvm.MethodName) prog_24_method_15_code (2 : Nat) (Option.some Jvm.ClassFile.FieldType.byte)) ∈ lw_all := lw_g (lw_at lw_m4 198 rfl) rfl

/-! jdk/internal/util/ArraysSupport -/
set_option maxRecDepth 100000
def RJ22 : String := "jdk/internal/util/ArraysSupport"
abbrev cJ22_newLength : ByteArray := prog_30_method_27_code
def yJ22_newLength : MethodName := ⟨RJ22, "newLength", "(III)I"⟩
def dkwJ22_newLength_1 : List UInt8 := [184, 0, 201, 172]
abbrev dktJ22_newLength_1 : List UInt8 := dkwJ22_newLength_1 ++ []
def dkwJ22_newLength_0 : List UInt8 := [26, 27, 28, 184, 0, 194, 96, 62, 3, 29, 162, 0, 11, 29, 18, 200, 163, 0, 5, 29, 172, 26, 27]
abbrev dktJ22_newLength_0 : List UInt8 := dkwJ22_newLength_0 ++ dktJ22_newLength_1
theorem dksJ22_newLength_0 : cJ22_newLength.data.toList.drop 0 = dktJ22_newLength_0 := by decide +kernel
theorem dksJ22_newLength_1 : cJ22_newLength.data.toList.drop 23 = dktJ22_newLength_1 := dk_seg dksJ22_newLength_0 23 rfl rfl
theorem dJ22_newLength_0 : decode cJ22_newLength 0 = .ok (.iload_n 0, 1) := dk_26 (dk_at dksJ22_newLength_0 0 rfl rfl)
theorem dJ22_newLength_1 : decode cJ22_newLength 1 = .ok (.iload_n 1, 1) := dk_27 (dk_at dksJ22_newLength_0 1 rfl rfl)
theorem dJ22_newLength_2 : decode cJ22_newLength 2 = .ok (.iload_n 2, 1) := dk_28 (dk_at dksJ22_newLength_0 2 rfl rfl)
theorem dJ22_newLength_3 : decode cJ22_newLength 3 = .ok (.invokestatic 194, 3) := dk_184 0 194 (dk_at dksJ22_newLength_0 3 rfl rfl)
theorem dJ22_newLength_6 : decode cJ22_newLength 6 = .ok (.iadd, 1) := dk_96 (dk_at dksJ22_newLength_0 6 rfl rfl)
theorem dJ22_newLength_7 : decode cJ22_newLength 7 = .ok (.istore_n 3, 1) := dk_62 (dk_at dksJ22_newLength_0 7 rfl rfl)
theorem dJ22_newLength_8 : decode cJ22_newLength 8 = .ok (.iconst 0, 1) := dk_3 (dk_at dksJ22_newLength_0 8 rfl rfl)
theorem dJ22_newLength_9 : decode cJ22_newLength 9 = .ok (.iload_n 3, 1) := dk_29 (dk_at dksJ22_newLength_0 9 rfl rfl)
theorem dJ22_newLength_10 : decode cJ22_newLength 10 = .ok (.if_icmp .ge 11, 3) := dk_162 0 11 (dk_at dksJ22_newLength_0 10 rfl rfl)
theorem dJ22_newLength_13 : decode cJ22_newLength 13 = .ok (.iload_n 3, 1) := dk_29 (dk_at dksJ22_newLength_0 13 rfl rfl)
theorem dJ22_newLength_14 : decode cJ22_newLength 14 = .ok (.ldc 200, 2) := dk_18 200 (dk_at dksJ22_newLength_0 14 rfl rfl)
theorem dJ22_newLength_16 : decode cJ22_newLength 16 = .ok (.if_icmp .gt 5, 3) := dk_163 0 5 (dk_at dksJ22_newLength_0 16 rfl rfl)
theorem dJ22_newLength_19 : decode cJ22_newLength 19 = .ok (.iload_n 3, 1) := dk_29 (dk_at dksJ22_newLength_0 19 rfl rfl)
theorem dJ22_newLength_20 : decode cJ22_newLength 20 = .ok (.ireturn, 1) := dk_172 (dk_at dksJ22_newLength_0 20 rfl rfl)
theorem dJ22_newLength_21 : decode cJ22_newLength 21 = .ok (.iload_n 0, 1) := dk_26 (dk_at dksJ22_newLength_0 21 rfl rfl)
theorem dJ22_newLength_22 : decode cJ22_newLength 22 = .ok (.iload_n 1, 1) := dk_27 (dk_at dksJ22_newLength_0 22 rfl rfl)
theorem dJ22_newLength_23 : decode cJ22_newLength 23 = .ok (.invokestatic 201, 3) := dk_184 0 201 (dk_at dksJ22_newLength_1 0 rfl rfl)
theorem dJ22_newLength_26 : decode cJ22_newLength 26 = .ok (.ireturn, 1) := dk_172 (dk_at dksJ22_newLength_1 3 rfl rfl)
abbrev cJ22_hugeLength : ByteArray := prog_30_method_28_code
def yJ22_hugeLength : MethodName := ⟨RJ22, "hugeLength", "(II)I"⟩
def dkwJ22_hugeLength_2 : List UInt8 := [191, 28, 18, 200, 163, 0, 6, 18, 200, 172, 28, 172]
abbrev dktJ22_hugeLength_2 : List UInt8 := dkwJ22_hugeLength_2 ++ []
def dkwJ22_hugeLength_1 : List UInt8 := [26, 182, 0, 98, 18, 208, 182, 0, 94, 27, 182, 0, 98, 18, 210, 182, 0, 94, 182, 0, 101, 183, 0, 212]
abbrev dktJ22_hugeLength_1 : List UInt8 := dkwJ22_hugeLength_1 ++ dktJ22_hugeLength_2
def dkwJ22_hugeLength_0 : List UInt8 := [26, 27, 96, 61, 28, 156, 0, 44, 187, 0, 204, 89, 187, 0, 89, 89, 183, 0, 91, 18, 206, 182, 0, 94]
abbrev dktJ22_hugeLength_0 : List UInt8 := dkwJ22_hugeLength_0 ++ dktJ22_hugeLength_1
theorem dksJ22_hugeLength_0 : cJ22_hugeLength.data.toList.drop 0 = dktJ22_hugeLength_0 := by decide +kernel
theorem dksJ22_hugeLength_1 : cJ22_hugeLength.data.toList.drop 24 = dktJ22_hugeLength_1 := dk_seg dksJ22_hugeLength_0 24 rfl rfl
theorem dksJ22_hugeLength_2 : cJ22_hugeLength.data.toList.drop 48 = dktJ22_hugeLength_2 := dk_seg dksJ22_hugeLength_1 24 rfl rfl
theorem dJ22_hugeLength_0 : decode cJ22_hugeLength 0 = .ok (.iload_n 0, 1) := dk_26 (dk_at dksJ22_hugeLength_0 0 rfl rfl)
theorem dJ22_hugeLength_1 : decode cJ22_hugeLength 1 = .ok (.iload_n 1, 1) := dk_27 (dk_at dksJ22_hugeLength_0 1 rfl rfl)
theorem dJ22_hugeLength_2 : decode cJ22_hugeLength 2 = .ok (.iadd, 1) := dk_96 (dk_at dksJ22_hugeLength_0 2 rfl rfl)
theorem dJ22_hugeLength_3 : decode cJ22_hugeLength 3 = .ok (.istore_n 2, 1) := dk_61 (dk_at dksJ22_hugeLength_0 3 rfl rfl)
theorem dJ22_hugeLength_4 : decode cJ22_hugeLength 4 = .ok (.iload_n 2, 1) := dk_28 (dk_at dksJ22_hugeLength_0 4 rfl rfl)
theorem dJ22_hugeLength_5 : decode cJ22_hugeLength 5 = .ok (.ifCond .ge 44, 3) := dk_156 0 44 (dk_at dksJ22_hugeLength_0 5 rfl rfl)
theorem dJ22_hugeLength_8 : decode cJ22_hugeLength 8 = .ok (.new 204, 3) := dk_187 0 204 (dk_at dksJ22_hugeLength_0 8 rfl rfl)
theorem dJ22_hugeLength_11 : decode cJ22_hugeLength 11 = .ok (.dup, 1) := dk_89 (dk_at dksJ22_hugeLength_0 11 rfl rfl)
theorem dJ22_hugeLength_12 : decode cJ22_hugeLength 12 = .ok (.new 89, 3) := dk_187 0 89 (dk_at dksJ22_hugeLength_0 12 rfl rfl)
theorem dJ22_hugeLength_15 : decode cJ22_hugeLength 15 = .ok (.dup, 1) := dk_89 (dk_at dksJ22_hugeLength_0 15 rfl rfl)
theorem dJ22_hugeLength_16 : decode cJ22_hugeLength 16 = .ok (.invokespecial 91, 3) := dk_183 0 91 (dk_at dksJ22_hugeLength_0 16 rfl rfl)
theorem dJ22_hugeLength_19 : decode cJ22_hugeLength 19 = .ok (.ldc 206, 2) := dk_18 206 (dk_at dksJ22_hugeLength_0 19 rfl rfl)
theorem dJ22_hugeLength_21 : decode cJ22_hugeLength 21 = .ok (.invokevirtual 94, 3) := dk_182 0 94 (dk_at dksJ22_hugeLength_0 21 rfl rfl)
theorem dJ22_hugeLength_24 : decode cJ22_hugeLength 24 = .ok (.iload_n 0, 1) := dk_26 (dk_at dksJ22_hugeLength_1 0 rfl rfl)
theorem dJ22_hugeLength_25 : decode cJ22_hugeLength 25 = .ok (.invokevirtual 98, 3) := dk_182 0 98 (dk_at dksJ22_hugeLength_1 1 rfl rfl)
theorem dJ22_hugeLength_28 : decode cJ22_hugeLength 28 = .ok (.ldc 208, 2) := dk_18 208 (dk_at dksJ22_hugeLength_1 4 rfl rfl)
theorem dJ22_hugeLength_30 : decode cJ22_hugeLength 30 = .ok (.invokevirtual 94, 3) := dk_182 0 94 (dk_at dksJ22_hugeLength_1 6 rfl rfl)
theorem dJ22_hugeLength_33 : decode cJ22_hugeLength 33 = .ok (.iload_n 1, 1) := dk_27 (dk_at dksJ22_hugeLength_1 9 rfl rfl)
theorem dJ22_hugeLength_34 : decode cJ22_hugeLength 34 = .ok (.invokevirtual 98, 3) := dk_182 0 98 (dk_at dksJ22_hugeLength_1 10 rfl rfl)
theorem dJ22_hugeLength_37 : decode cJ22_hugeLength 37 = .ok (.ldc 210, 2) := dk_18 210 (dk_at dksJ22_hugeLength_1 13 rfl rfl)
theorem dJ22_hugeLength_39 : decode cJ22_hugeLength 39 = .ok (.invokevirtual 94, 3) := dk_182 0 94 (dk_at dksJ22_hugeLength_1 15 rfl rfl)
theorem dJ22_hugeLength_42 : decode cJ22_hugeLength 42 = .ok (.invokevirtual 101, 3) := dk_182 0 101 (dk_at dksJ22_hugeLength_1 18 rfl rfl)
theorem dJ22_hugeLength_45 : decode cJ22_hugeLength 45 = .ok (.invokespecial 212, 3) := dk_183 0 212 (dk_at dksJ22_hugeLength_1 21 rfl rfl)
theorem dJ22_hugeLength_48 : decode cJ22_hugeLength 48 = .ok (.athrow, 1) := dk_191 (dk_at dksJ22_hugeLength_2 0 rfl rfl)
theorem dJ22_hugeLength_49 : decode cJ22_hugeLength 49 = .ok (.iload_n 2, 1) := dk_28 (dk_at dksJ22_hugeLength_2 1 rfl rfl)
theorem dJ22_hugeLength_50 : decode cJ22_hugeLength 50 = .ok (.ldc 200, 2) := dk_18 200 (dk_at dksJ22_hugeLength_2 2 rfl rfl)
theorem dJ22_hugeLength_52 : decode cJ22_hugeLength 52 = .ok (.if_icmp .gt 6, 3) := dk_163 0 6 (dk_at dksJ22_hugeLength_2 4 rfl rfl)
theorem dJ22_hugeLength_55 : decode cJ22_hugeLength 55 = .ok (.ldc 200, 2) := dk_18 200 (dk_at dksJ22_hugeLength_2 7 rfl rfl)
theorem dJ22_hugeLength_57 : decode cJ22_hugeLength 57 = .ok (.ireturn, 1) := dk_172 (dk_at dksJ22_hugeLength_2 9 rfl rfl)
theorem dJ22_hugeLength_58 : decode cJ22_hugeLength 58 = .ok (.iload_n 2, 1) := dk_28 (dk_at dksJ22_hugeLength_2 10 rfl rfl)
theorem dJ22_hugeLength_59 : decode cJ22_hugeLength 59 = .ok (.ireturn, 1) := dk_172 (dk_at dksJ22_hugeLength_2 11 rfl rfl)
theorem q68 : (Jvm.Cond.initialized "jdk/internal/util/ArraysSupport") ∈ lw_all := lw_g (lw_at lw_m1 28 rfl) rfl
theorem q777 : (Jvm.Cond.static ({ cls := "jdk/internal/util/ArraysSupport", name := "newLength", desc := "(III)I" } : Jvm.MethodName)) ∈ lw_all := lw_g (lw_at lw_m4 17 rfl) rfl
theorem q778 : (Jvm.Cond.code ({ cls := "jdk/internal/util/ArraysSupport", name := "newLength", desc := "(III)I" } : Jvm.MethodName) prog_30_method_27_code (4 : Nat) (Option.some Jvm.ClassFile.FieldType.int)) ∈ lw_all := lw_g (lw_at lw_m4 18 rfl) rfl
theorem q779 : (Jvm.Cond.methodLink "jdk/internal/util/ArraysSupport" (194 : Nat) ({ cls := "java/lang/Math", name := "max", desc := "(II)I" } : Jvm.MethodName)) ∈ lw_all := lw_g (lw_at lw_m4 19 rfl) rfl
theorem q782 : (Jvm.Cond.constant "jdk/internal/util/ArraysSupport" (200 : Nat) (2147483639 : Int32)) ∈ lw_all := lw_g (lw_at lw_m4 22 rfl) rfl
theorem q783 : (Jvm.Cond.methodLink "jdk/internal/util/ArraysSupport" (201 : Nat) ({ cls := "jdk/internal/util/ArraysSupport", name := "hugeLength", desc := "(II)I" } : Jvm.MethodName)) ∈ lw_all := lw_g (lw_at lw_m4 23 rfl) rfl
theorem q784 : (Jvm.Cond.static ({ cls := "jdk/internal/util/ArraysSupport", name := "hugeLength", desc := "(II)I" } : Jvm.MethodName)) ∈ lw_all := lw_g (lw_at lw_m4 24 rfl) rfl
theorem q785 : (Jvm.Cond.code ({ cls := "jdk/internal/util/ArraysSupport", name := "hugeLength", desc := "(II)I" } : Jvm.MethodName) prog_30_method_28_code (3 : Nat) (Option.some Jvm.ClassFile.FieldType.int)) ∈ lw_all := lw_g (lw_at lw_m4 25 rfl) rfl

/-! java/lang/StringLatin1 -/
set_option maxRecDepth 100000
def RJ23 : String := "java/lang/StringLatin1"
abbrev cJ23_inflate : ByteArray := prog_23_method_50_code
def yJ23_inflate : MethodName := ⟨RJ23, "inflate", "([BI[BII)V"⟩
def dkwJ23_inflate_0 : List UInt8 := [42, 27, 44, 29, 21, 4, 184, 0, 240, 177]
abbrev dktJ23_inflate_0 : List UInt8 := dkwJ23_inflate_0 ++ []
theorem dksJ23_inflate_0 : cJ23_inflate.data.toList.drop 0 = dktJ23_inflate_0 := by decide +kernel
theorem dJ23_inflate_0 : decode cJ23_inflate 0 = .ok (.aload_n 0, 1) := dk_42 (dk_at dksJ23_inflate_0 0 rfl rfl)
theorem dJ23_inflate_1 : decode cJ23_inflate 1 = .ok (.iload_n 1, 1) := dk_27 (dk_at dksJ23_inflate_0 1 rfl rfl)
theorem dJ23_inflate_2 : decode cJ23_inflate 2 = .ok (.aload_n 2, 1) := dk_44 (dk_at dksJ23_inflate_0 2 rfl rfl)
theorem dJ23_inflate_3 : decode cJ23_inflate 3 = .ok (.iload_n 3, 1) := dk_29 (dk_at dksJ23_inflate_0 3 rfl rfl)
theorem dJ23_inflate_4 : decode cJ23_inflate 4 = .ok (.iload 4, 2) := dk_21 4 (dk_at dksJ23_inflate_0 4 rfl rfl)
theorem dJ23_inflate_6 : decode cJ23_inflate 6 = .ok (.invokestatic 240, 3) := dk_184 0 240 (dk_at dksJ23_inflate_0 6 rfl rfl)
theorem dJ23_inflate_9 : decode cJ23_inflate 9 = .ok (.return_, 1) := dk_177 (dk_at dksJ23_inflate_0 9 rfl rfl)
abbrev cJ23_equals : ByteArray := prog_23_method_13_code
def yJ23_equals : MethodName := ⟨RJ23, "equals", "([B[B)Z"⟩
def dkwJ23_equals_1 : List UInt8 := [3, 172, 132, 2, 1, 167, 255, 236, 4, 172, 3, 172]
abbrev dktJ23_equals_1 : List UInt8 := dkwJ23_equals_1 ++ []
def dkwJ23_equals_0 : List UInt8 := [42, 190, 43, 190, 160, 0, 30, 3, 61, 28, 42, 190, 162, 0, 20, 42, 28, 51, 43, 28, 51, 159, 0, 5]
abbrev dktJ23_equals_0 : List UInt8 := dkwJ23_equals_0 ++ dktJ23_equals_1
theorem dksJ23_equals_0 : cJ23_equals.data.toList.drop 0 = dktJ23_equals_0 := by decide +kernel
theorem dksJ23_equals_1 : cJ23_equals.data.toList.drop 24 = dktJ23_equals_1 := dk_seg dksJ23_equals_0 24 rfl rfl
theorem dJ23_equals_0 : decode cJ23_equals 0 = .ok (.aload_n 0, 1) := dk_42 (dk_at dksJ23_equals_0 0 rfl rfl)
theorem dJ23_equals_1 : decode cJ23_equals 1 = .ok (.arraylength, 1) := dk_190 (dk_at dksJ23_equals_0 1 rfl rfl)
theorem dJ23_equals_2 : decode cJ23_equals 2 = .ok (.aload_n 1, 1) := dk_43 (dk_at dksJ23_equals_0 2 rfl rfl)
theorem dJ23_equals_3 : decode cJ23_equals 3 = .ok (.arraylength, 1) := dk_190 (dk_at dksJ23_equals_0 3 rfl rfl)
theorem dJ23_equals_4 : decode cJ23_equals 4 = .ok (.if_icmp .ne 30, 3) := dk_160 0 30 (dk_at dksJ23_equals_0 4 rfl rfl)
theorem dJ23_equals_7 : decode cJ23_equals 7 = .ok (.iconst 0, 1) := dk_3 (dk_at dksJ23_equals_0 7 rfl rfl)
theorem dJ23_equals_8 : decode cJ23_equals 8 = .ok (.istore_n 2, 1) := dk_61 (dk_at dksJ23_equals_0 8 rfl rfl)
theorem dJ23_equals_9 : decode cJ23_equals 9 = .ok (.iload_n 2, 1) := dk_28 (dk_at dksJ23_equals_0 9 rfl rfl)
theorem dJ23_equals_10 : decode cJ23_equals 10 = .ok (.aload_n 0, 1) := dk_42 (dk_at dksJ23_equals_0 10 rfl rfl)
theorem dJ23_equals_11 : decode cJ23_equals 11 = .ok (.arraylength, 1) := dk_190 (dk_at dksJ23_equals_0 11 rfl rfl)
theorem dJ23_equals_12 : decode cJ23_equals 12 = .ok (.if_icmp .ge 20, 3) := dk_162 0 20 (dk_at dksJ23_equals_0 12 rfl rfl)
theorem dJ23_equals_15 : decode cJ23_equals 15 = .ok (.aload_n 0, 1) := dk_42 (dk_at dksJ23_equals_0 15 rfl rfl)
theorem dJ23_equals_16 : decode cJ23_equals 16 = .ok (.iload_n 2, 1) := dk_28 (dk_at dksJ23_equals_0 16 rfl rfl)
theorem dJ23_equals_17 : decode cJ23_equals 17 = .ok (.baload, 1) := dk_51 (dk_at dksJ23_equals_0 17 rfl rfl)
theorem dJ23_equals_18 : decode cJ23_equals 18 = .ok (.aload_n 1, 1) := dk_43 (dk_at dksJ23_equals_0 18 rfl rfl)
theorem dJ23_equals_19 : decode cJ23_equals 19 = .ok (.iload_n 2, 1) := dk_28 (dk_at dksJ23_equals_0 19 rfl rfl)
theorem dJ23_equals_20 : decode cJ23_equals 20 = .ok (.baload, 1) := dk_51 (dk_at dksJ23_equals_0 20 rfl rfl)
theorem dJ23_equals_21 : decode cJ23_equals 21 = .ok (.if_icmp .eq 5, 3) := dk_159 0 5 (dk_at dksJ23_equals_0 21 rfl rfl)
theorem dJ23_equals_24 : decode cJ23_equals 24 = .ok (.iconst 0, 1) := dk_3 (dk_at dksJ23_equals_1 0 rfl rfl)
theorem dJ23_equals_25 : decode cJ23_equals 25 = .ok (.ireturn, 1) := dk_172 (dk_at dksJ23_equals_1 1 rfl rfl)
theorem dJ23_equals_26 : decode cJ23_equals 26 = .ok (.iinc 2 1, 3) := dk_132 2 1 (dk_at dksJ23_equals_1 2 rfl rfl)
theorem dJ23_equals_29 : decode cJ23_equals 29 = .ok (.goto (-20), 3) := dk_167 255 236 (dk_at dksJ23_equals_1 5 rfl rfl)
theorem dJ23_equals_32 : decode cJ23_equals 32 = .ok (.iconst 1, 1) := dk_4 (dk_at dksJ23_equals_1 8 rfl rfl)
theorem dJ23_equals_33 : decode cJ23_equals 33 = .ok (.ireturn, 1) := dk_172 (dk_at dksJ23_equals_1 9 rfl rfl)
theorem dJ23_equals_34 : decode cJ23_equals 34 = .ok (.iconst 0, 1) := dk_3 (dk_at dksJ23_equals_1 10 rfl rfl)
theorem dJ23_equals_35 : decode cJ23_equals 35 = .ok (.ireturn, 1) := dk_172 (dk_at dksJ23_equals_1 11 rfl rfl)
theorem q69 : (Jvm.Cond.initialized "java/lang/StringLatin1") ∈ lw_all := lw_g (lw_at lw_m1 29 rfl) rfl
theorem q855 : (Jvm.Cond.static ({ cls := "java/lang/StringLatin1", name := "inflate", desc := "([BI[BII)V" } : Jvm.MethodName)) ∈ lw_all := lw_g (lw_at lw_m4 95 rfl) rfl
theorem q856 : (Jvm.Cond.code ({ cls := "java/lang/StringLatin1", name := "inflate", desc := "([BI[BII)V" } : Jvm.MethodName) prog_23_method_50_code (5 : Nat) (Option.none : Option Jvm.ClassFile.FieldType)) ∈ lw_all := lw_g (lw_at lw_m4 96 rfl) rfl
theorem q857 : (Jvm.Cond.methodLink "java/lang/StringLatin1" (240 : Nat) ({ cls := "java/lang/StringUTF16", name := "inflate", desc := "([BI[BII)V" } : Jvm.MethodName)) ∈ lw_all := lw_g (lw_at lw_m4 97 rfl) rfl
theorem q1853 : (Jvm.Cond.static ({ cls := "java/lang/StringLatin1", name := "equals", desc := "([B[B)Z" } : Jvm.MethodName)) ∈ lw_all := lw_g (lw_at lw_m8 133 rfl) rfl
theorem q1854 : (Jvm.Cond.code ({ cls := "java/lang/StringLatin1", name := "equals", desc := "([B[B)Z" } : Jvm.MethodName) prog_23_method_13_code (3 : Nat) (Option.some Jvm.ClassFile.FieldType.boolean)) ∈ lw_all := lw_g (lw_at lw_m8 134 rfl) rfl

/-! java/lang/Object -/
set_option maxRecDepth 100000
def RJ24 : String := "java/lang/Object"
abbrev cJ24_init : ByteArray := object_method_1_code
def yJ24_init : MethodName := ⟨RJ24, "<init>", "()V"⟩
theorem dJ24_init_0 : decode cJ24_init 0 = .ok (.return_, 1) := by decide +kernel
theorem q76 : (Jvm.Cond.instanceMethod ({ cls := "java/lang/Object", name := "<init>", desc := "()V" } : Jvm.MethodName)) ∈ lw_all := lw_g (lw_at lw_m1 36 rfl) rfl
theorem q77 : (Jvm.Cond.code ({ cls := "java/lang/Object", name := "<init>", desc := "()V" } : Jvm.MethodName) object_method_1_code (1 : Nat) (Option.none : Option Jvm.ClassFile.FieldType)) ∈ lw_all := lw_g (lw_at lw_m1 37 rfl) rfl
theorem q792 : (Jvm.Cond.native ({ cls := "java/lang/Object", name := "clone", desc := "()Ljava/lang/Object;" } : Jvm.MethodName)) ∈ lw_all := lw_g (lw_at lw_m4 32 rfl) rfl
theorem q793 : (Jvm.Cond.instanceMethod ({ cls := "java/lang/Object", name := "clone", desc := "()Ljava/lang/Object;" } : Jvm.MethodName)) ∈ lw_all := lw_g (lw_at lw_m4 33 rfl) rfl
theorem q1864 : (Jvm.Cond.initialized "java/lang/Object") ∈ lw_all := lw_g (lw_at lw_m8 144 rfl) rfl

theorem q791 : (Jvm.Cond.sameMethod "[B" "java/lang/Object" "clone" "()Ljava/lang/Object;") ∈ lw_all := lw_g (lw_at lw_m4 31 rfl) rfl
set_option maxRecDepth 100000
theorem q794 : (Jvm.Cond.selects "[B" ({ cls := "[B", name := "clone", desc := "()Ljava/lang/Object;" } : Jvm.MethodName) ({ cls := "java/lang/Object", name := "clone", desc := "()Ljava/lang/Object;" } : Jvm.MethodName)) ∈ lw_all := lw_g (lw_at lw_m4 34 rfl) rfl
theorem q795 : (Jvm.Cond.castable "[B" "java/lang/Cloneable") ∈ lw_tbl := lw_at lw_m4 35 rfl

theorem q1392 : (Jvm.Cond.sameMethod "[I" "java/lang/Object" "clone" "()Ljava/lang/Object;") ∈ lw_all := lw_g (lw_at lw_m6 152 rfl) rfl
set_option maxRecDepth 100000
theorem q1393 : (Jvm.Cond.selects "[I" ({ cls := "[I", name := "clone", desc := "()Ljava/lang/Object;" } : Jvm.MethodName) ({ cls := "java/lang/Object", name := "clone", desc := "()Ljava/lang/Object;" } : Jvm.MethodName)) ∈ lw_all := lw_g (lw_at lw_m6 153 rfl) rfl
theorem q1394 : (Jvm.Cond.castable "[I" "java/lang/Cloneable") ∈ lw_tbl := lw_at lw_m6 154 rfl

theorem q62 : (Jvm.Cond.initialized "java/lang/System") ∈ lw_all := lw_g (lw_at lw_m1 22 rfl) rfl
set_option maxRecDepth 100000
theorem q799 : (Jvm.Cond.static ({ cls := "java/lang/System", name := "arraycopy", desc := "(Ljava/lang/Object;ILjava/lang/Object;II)V" } : Jvm.MethodName)) ∈ lw_all := lw_g (lw_at lw_m4 39 rfl) rfl
theorem q800 : (Jvm.Cond.native ({ cls := "java/lang/System", name := "arraycopy", desc := "(Ljava/lang/Object;ILjava/lang/Object;II)V" } : Jvm.MethodName)) ∈ lw_all := lw_g (lw_at lw_m4 40 rfl) rfl

theorem q79 : (Jvm.Cond.arrayOver (Jvm.ClassFile.FieldType.object "Cubequarry$Num")) ∈ lw_tbl := lw_at lw_m1 39 rfl
set_option maxRecDepth 100000
theorem q524 : (Jvm.Cond.arrayClass Jvm.ClassFile.FieldType.byte) ∈ lw_all := lw_g (lw_at lw_m3 4 rfl) rfl
theorem q1138 : (Jvm.Cond.arrayOver (Jvm.ClassFile.FieldType.array Jvm.ClassFile.FieldType.int)) ∈ lw_tbl := lw_at lw_m5 138 rfl
theorem q1164 : (Jvm.Cond.arrayClass Jvm.ClassFile.FieldType.int) ∈ lw_all := lw_g (lw_at lw_m5 164 rfl) rfl
