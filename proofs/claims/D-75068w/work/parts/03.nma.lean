/-! DECODE ROWS BY BYTES: one lemma an opcode; a method's code is cut into short pieces once, and a row reads its own piece alone. -/
set_option maxRecDepth 100000
/-- the code has just these bytes from pc on -/
def DkAt (code : ByteArray) (pc : Nat) (bs : List UInt8) : Prop := ∀ (j : Nat) (b : UInt8), bs[j]? = some b → code.data.toList[pc + j]? = some b
/-- the piece W has the bytes bs from its place j on -/
def dkIn (W : List UInt8) (j : Nat) (bs : List UInt8) : Bool := decide ((W.drop j).take bs.length = bs)
theorem dk_seg {l W T : List UInt8} {o o2 : Nat} (h : l.drop o = W ++ T) (n : Nat) (hn : W.length = n) (ho : o + n = o2) : l.drop o2 = T := by
  subst ho
  rw [← List.drop_drop, h, List.drop_left' hn]
theorem dk_at {code : ByteArray} {W T bs : List UInt8} {o pc : Nat} (h : code.data.toList.drop o = W ++ T) (j : Nat) (hp : o + j = pc) (hw : dkIn W j bs = true) : DkAt code pc bs := by
  subst hp
  intro i b e
  have h1 := of_decide_eq_true hw
  have h2 : i < bs.length := (List.getElem?_eq_some_iff.mp e).1
  have h3 : W[j + i]? = some b := by
    rw [← h1, List.getElem?_take, if_pos h2, List.getElem?_drop] at e
    exact e
  have h4 : j + i < W.length := (List.getElem?_eq_some_iff.mp h3).1
  have h5 : (code.data.toList.drop o)[j + i]? = some b := by
    rw [h, List.getElem?_append_left h4]
    exact h3
  rw [List.getElem?_drop, ← Nat.add_assoc] at h5
  exact h5
theorem dk_u1 {A : ByteArray} {p : Nat} {b : UInt8} (h : A.data.toList[p]? = some b) : (Reader.u1 : Reader DecodeError Nat) A p = .ok (b.toNat, p + 1) := by
  obtain ⟨h1, h2⟩ := List.getElem?_eq_some_iff.mp h
  have h3 : p < A.size := by simpa using h1
  have h4 : A[p]'h3 = b := h2
  have e : (Reader.u1 : Reader DecodeError Nat) A p = (if h : p < A.size then .ok (A[p].toNat, p + 1) else .error (HasTruncated.truncated p)) := by
    show (do if h : p < A.size then do set (p + 1); Pure.pure A[p].toNat else MonadExcept.throw (HasTruncated.truncated p) : Reader DecodeError Nat) A p = _
    by_cases hi : p < A.size
    · rw [dif_pos hi, dif_pos hi]; rfl
    · rw [dif_neg hi, dif_neg hi]; rfl
  rw [e, dif_pos h3, h4]
theorem dk_bind {α β : Type} {r : Reader DecodeError α} {f : α → Reader DecodeError β} {A : ByteArray} {p s : Nat} {a : α} (h : r A p = .ok (a, s)) : (r >>= f) A p = f a A s := by
  show (do let (a, s) ← r A p; f a A s : Except DecodeError (β × Nat)) = _
  rw [h]
  rfl
theorem dk_map {α β : Type} {r : Reader DecodeError α} {g : α → β} {A : ByteArray} {p s : Nat} {a : α} (h : r A p = .ok (a, s)) : (g <$> r) A p = .ok (g a, s) := by
  show (do let (a, s) ← r A p; .ok (g a, s) : Except DecodeError (β × Nat)) = _
  rw [h]
  rfl
theorem dk_u2 {A : ByteArray} {p : Nat} {a b : UInt8} (h : A.data.toList[p]? = some a) (h2 : A.data.toList[p + 1]? = some b) : (Reader.u2 : Reader DecodeError Nat) A p = .ok (a.toNat * 256 + b.toNat, p + 2) := by
  show (Reader.u1 >>= fun hi => Reader.u1 >>= fun lo => Pure.pure (hi * 256 + lo) : Reader DecodeError Nat) A p = _
  rw [dk_bind (dk_u1 h), dk_bind (dk_u1 h2)]
  rfl
theorem dk_of {code : ByteArray} {pc n : Nat} {i : Instr} (h : Decoder.instr pc code pc = .ok (i, pc + n)) : decode code pc = .ok (i, n) := by
  have e : decode code pc = (match Decoder.instr pc code pc with | .error x => .error x | .ok (j, s) => .ok (j, s - pc)) := by
    show (do let (j, s) ← Decoder.instr pc code pc; Pure.pure (j, s - pc) : Except DecodeError (Instr × Nat)) = _
    cases Decoder.instr pc code pc <;> rfl
  rw [e, h]
  show Except.ok (i, pc + n - pc) = _
  rw [Nat.add_sub_cancel_left]
theorem dk_1 {code : ByteArray} {pc : Nat} (h : DkAt code pc [1]) : decode code pc = .ok (.aconst_null, 1) := dk_of ((dk_bind (dk_u1 (h 0 _ rfl))).trans rfl)
theorem dk_2 {code : ByteArray} {pc : Nat} (h : DkAt code pc [2]) : decode code pc = .ok (.iconst (-1), 1) := dk_of ((dk_bind (dk_u1 (h 0 _ rfl))).trans rfl)
theorem dk_3 {code : ByteArray} {pc : Nat} (h : DkAt code pc [3]) : decode code pc = .ok (.iconst 0, 1) := dk_of ((dk_bind (dk_u1 (h 0 _ rfl))).trans rfl)
theorem dk_4 {code : ByteArray} {pc : Nat} (h : DkAt code pc [4]) : decode code pc = .ok (.iconst 1, 1) := dk_of ((dk_bind (dk_u1 (h 0 _ rfl))).trans rfl)
theorem dk_5 {code : ByteArray} {pc : Nat} (h : DkAt code pc [5]) : decode code pc = .ok (.iconst 2, 1) := dk_of ((dk_bind (dk_u1 (h 0 _ rfl))).trans rfl)
theorem dk_6 {code : ByteArray} {pc : Nat} (h : DkAt code pc [6]) : decode code pc = .ok (.iconst 3, 1) := dk_of ((dk_bind (dk_u1 (h 0 _ rfl))).trans rfl)
theorem dk_7 {code : ByteArray} {pc : Nat} (h : DkAt code pc [7]) : decode code pc = .ok (.iconst 4, 1) := dk_of ((dk_bind (dk_u1 (h 0 _ rfl))).trans rfl)
theorem dk_8 {code : ByteArray} {pc : Nat} (h : DkAt code pc [8]) : decode code pc = .ok (.iconst 5, 1) := dk_of ((dk_bind (dk_u1 (h 0 _ rfl))).trans rfl)
theorem dk_9 {code : ByteArray} {pc : Nat} (h : DkAt code pc [9]) : decode code pc = .ok (.lconst 0, 1) := dk_of ((dk_bind (dk_u1 (h 0 _ rfl))).trans rfl)
theorem dk_10 {code : ByteArray} {pc : Nat} (h : DkAt code pc [10]) : decode code pc = .ok (.lconst 1, 1) := dk_of ((dk_bind (dk_u1 (h 0 _ rfl))).trans rfl)
theorem dk_16 {code : ByteArray} {pc : Nat} (a : UInt8) (h : DkAt code pc [16, a]) : decode code pc = .ok (.bipush (Reader.signed 8 a.toNat), 2) := dk_of ((dk_bind (dk_u1 (h 0 _ rfl))).trans ((dk_bind (dk_map (dk_u1 (h 1 _ rfl)))).trans rfl))
theorem dk_17 {code : ByteArray} {pc : Nat} (a b : UInt8) (h : DkAt code pc [17, a, b]) : decode code pc = .ok (.sipush (Reader.signed 16 (a.toNat * 256 + b.toNat)), 3) := dk_of ((dk_bind (dk_u1 (h 0 _ rfl))).trans ((dk_bind (dk_map (dk_u2 (h 1 _ rfl) (h 2 _ rfl)))).trans rfl))
theorem dk_18 {code : ByteArray} {pc : Nat} (a : UInt8) (h : DkAt code pc [18, a]) : decode code pc = .ok (.ldc a.toNat, 2) := dk_of ((dk_bind (dk_u1 (h 0 _ rfl))).trans ((dk_bind (dk_u1 (h 1 _ rfl))).trans rfl))
theorem dk_19 {code : ByteArray} {pc : Nat} (a b : UInt8) (h : DkAt code pc [19, a, b]) : decode code pc = .ok (.ldc_w (a.toNat * 256 + b.toNat), 3) := dk_of ((dk_bind (dk_u1 (h 0 _ rfl))).trans ((dk_bind (dk_u2 (h 1 _ rfl) (h 2 _ rfl))).trans rfl))
theorem dk_20 {code : ByteArray} {pc : Nat} (a b : UInt8) (h : DkAt code pc [20, a, b]) : decode code pc = .ok (.ldc2_w (a.toNat * 256 + b.toNat), 3) := dk_of ((dk_bind (dk_u1 (h 0 _ rfl))).trans ((dk_bind (dk_u2 (h 1 _ rfl) (h 2 _ rfl))).trans rfl))
theorem dk_21 {code : ByteArray} {pc : Nat} (a : UInt8) (h : DkAt code pc [21, a]) : decode code pc = .ok (.iload a.toNat, 2) := dk_of ((dk_bind (dk_u1 (h 0 _ rfl))).trans ((dk_bind (dk_u1 (h 1 _ rfl))).trans rfl))
theorem dk_22 {code : ByteArray} {pc : Nat} (a : UInt8) (h : DkAt code pc [22, a]) : decode code pc = .ok (.lload a.toNat, 2) := dk_of ((dk_bind (dk_u1 (h 0 _ rfl))).trans ((dk_bind (dk_u1 (h 1 _ rfl))).trans rfl))
theorem dk_25 {code : ByteArray} {pc : Nat} (a : UInt8) (h : DkAt code pc [25, a]) : decode code pc = .ok (.aload a.toNat, 2) := dk_of ((dk_bind (dk_u1 (h 0 _ rfl))).trans ((dk_bind (dk_u1 (h 1 _ rfl))).trans rfl))
theorem dk_26 {code : ByteArray} {pc : Nat} (h : DkAt code pc [26]) : decode code pc = .ok (.iload_n 0, 1) := dk_of ((dk_bind (dk_u1 (h 0 _ rfl))).trans rfl)
theorem dk_27 {code : ByteArray} {pc : Nat} (h : DkAt code pc [27]) : decode code pc = .ok (.iload_n 1, 1) := dk_of ((dk_bind (dk_u1 (h 0 _ rfl))).trans rfl)
theorem dk_28 {code : ByteArray} {pc : Nat} (h : DkAt code pc [28]) : decode code pc = .ok (.iload_n 2, 1) := dk_of ((dk_bind (dk_u1 (h 0 _ rfl))).trans rfl)
theorem dk_29 {code : ByteArray} {pc : Nat} (h : DkAt code pc [29]) : decode code pc = .ok (.iload_n 3, 1) := dk_of ((dk_bind (dk_u1 (h 0 _ rfl))).trans rfl)
theorem dk_30 {code : ByteArray} {pc : Nat} (h : DkAt code pc [30]) : decode code pc = .ok (.lload_n 0, 1) := dk_of ((dk_bind (dk_u1 (h 0 _ rfl))).trans rfl)
theorem dk_31 {code : ByteArray} {pc : Nat} (h : DkAt code pc [31]) : decode code pc = .ok (.lload_n 1, 1) := dk_of ((dk_bind (dk_u1 (h 0 _ rfl))).trans rfl)
theorem dk_32 {code : ByteArray} {pc : Nat} (h : DkAt code pc [32]) : decode code pc = .ok (.lload_n 2, 1) := dk_of ((dk_bind (dk_u1 (h 0 _ rfl))).trans rfl)
theorem dk_33 {code : ByteArray} {pc : Nat} (h : DkAt code pc [33]) : decode code pc = .ok (.lload_n 3, 1) := dk_of ((dk_bind (dk_u1 (h 0 _ rfl))).trans rfl)
theorem dk_42 {code : ByteArray} {pc : Nat} (h : DkAt code pc [42]) : decode code pc = .ok (.aload_n 0, 1) := dk_of ((dk_bind (dk_u1 (h 0 _ rfl))).trans rfl)
theorem dk_43 {code : ByteArray} {pc : Nat} (h : DkAt code pc [43]) : decode code pc = .ok (.aload_n 1, 1) := dk_of ((dk_bind (dk_u1 (h 0 _ rfl))).trans rfl)
theorem dk_44 {code : ByteArray} {pc : Nat} (h : DkAt code pc [44]) : decode code pc = .ok (.aload_n 2, 1) := dk_of ((dk_bind (dk_u1 (h 0 _ rfl))).trans rfl)
theorem dk_45 {code : ByteArray} {pc : Nat} (h : DkAt code pc [45]) : decode code pc = .ok (.aload_n 3, 1) := dk_of ((dk_bind (dk_u1 (h 0 _ rfl))).trans rfl)
theorem dk_46 {code : ByteArray} {pc : Nat} (h : DkAt code pc [46]) : decode code pc = .ok (.iaload, 1) := dk_of ((dk_bind (dk_u1 (h 0 _ rfl))).trans rfl)
theorem dk_47 {code : ByteArray} {pc : Nat} (h : DkAt code pc [47]) : decode code pc = .ok (.laload, 1) := dk_of ((dk_bind (dk_u1 (h 0 _ rfl))).trans rfl)
theorem dk_50 {code : ByteArray} {pc : Nat} (h : DkAt code pc [50]) : decode code pc = .ok (.aaload, 1) := dk_of ((dk_bind (dk_u1 (h 0 _ rfl))).trans rfl)
theorem dk_51 {code : ByteArray} {pc : Nat} (h : DkAt code pc [51]) : decode code pc = .ok (.baload, 1) := dk_of ((dk_bind (dk_u1 (h 0 _ rfl))).trans rfl)
theorem dk_52 {code : ByteArray} {pc : Nat} (h : DkAt code pc [52]) : decode code pc = .ok (.caload, 1) := dk_of ((dk_bind (dk_u1 (h 0 _ rfl))).trans rfl)
theorem dk_53 {code : ByteArray} {pc : Nat} (h : DkAt code pc [53]) : decode code pc = .ok (.saload, 1) := dk_of ((dk_bind (dk_u1 (h 0 _ rfl))).trans rfl)
theorem dk_54 {code : ByteArray} {pc : Nat} (a : UInt8) (h : DkAt code pc [54, a]) : decode code pc = .ok (.istore a.toNat, 2) := dk_of ((dk_bind (dk_u1 (h 0 _ rfl))).trans ((dk_bind (dk_u1 (h 1 _ rfl))).trans rfl))
theorem dk_55 {code : ByteArray} {pc : Nat} (a : UInt8) (h : DkAt code pc [55, a]) : decode code pc = .ok (.lstore a.toNat, 2) := dk_of ((dk_bind (dk_u1 (h 0 _ rfl))).trans ((dk_bind (dk_u1 (h 1 _ rfl))).trans rfl))
theorem dk_58 {code : ByteArray} {pc : Nat} (a : UInt8) (h : DkAt code pc [58, a]) : decode code pc = .ok (.astore a.toNat, 2) := dk_of ((dk_bind (dk_u1 (h 0 _ rfl))).trans ((dk_bind (dk_u1 (h 1 _ rfl))).trans rfl))
theorem dk_59 {code : ByteArray} {pc : Nat} (h : DkAt code pc [59]) : decode code pc = .ok (.istore_n 0, 1) := dk_of ((dk_bind (dk_u1 (h 0 _ rfl))).trans rfl)
theorem dk_60 {code : ByteArray} {pc : Nat} (h : DkAt code pc [60]) : decode code pc = .ok (.istore_n 1, 1) := dk_of ((dk_bind (dk_u1 (h 0 _ rfl))).trans rfl)
theorem dk_61 {code : ByteArray} {pc : Nat} (h : DkAt code pc [61]) : decode code pc = .ok (.istore_n 2, 1) := dk_of ((dk_bind (dk_u1 (h 0 _ rfl))).trans rfl)
theorem dk_62 {code : ByteArray} {pc : Nat} (h : DkAt code pc [62]) : decode code pc = .ok (.istore_n 3, 1) := dk_of ((dk_bind (dk_u1 (h 0 _ rfl))).trans rfl)
theorem dk_63 {code : ByteArray} {pc : Nat} (h : DkAt code pc [63]) : decode code pc = .ok (.lstore_n 0, 1) := dk_of ((dk_bind (dk_u1 (h 0 _ rfl))).trans rfl)
theorem dk_64 {code : ByteArray} {pc : Nat} (h : DkAt code pc [64]) : decode code pc = .ok (.lstore_n 1, 1) := dk_of ((dk_bind (dk_u1 (h 0 _ rfl))).trans rfl)
theorem dk_65 {code : ByteArray} {pc : Nat} (h : DkAt code pc [65]) : decode code pc = .ok (.lstore_n 2, 1) := dk_of ((dk_bind (dk_u1 (h 0 _ rfl))).trans rfl)
theorem dk_66 {code : ByteArray} {pc : Nat} (h : DkAt code pc [66]) : decode code pc = .ok (.lstore_n 3, 1) := dk_of ((dk_bind (dk_u1 (h 0 _ rfl))).trans rfl)
theorem dk_76 {code : ByteArray} {pc : Nat} (h : DkAt code pc [76]) : decode code pc = .ok (.astore_n 1, 1) := dk_of ((dk_bind (dk_u1 (h 0 _ rfl))).trans rfl)
theorem dk_77 {code : ByteArray} {pc : Nat} (h : DkAt code pc [77]) : decode code pc = .ok (.astore_n 2, 1) := dk_of ((dk_bind (dk_u1 (h 0 _ rfl))).trans rfl)
theorem dk_78 {code : ByteArray} {pc : Nat} (h : DkAt code pc [78]) : decode code pc = .ok (.astore_n 3, 1) := dk_of ((dk_bind (dk_u1 (h 0 _ rfl))).trans rfl)
theorem dk_79 {code : ByteArray} {pc : Nat} (h : DkAt code pc [79]) : decode code pc = .ok (.iastore, 1) := dk_of ((dk_bind (dk_u1 (h 0 _ rfl))).trans rfl)
theorem dk_80 {code : ByteArray} {pc : Nat} (h : DkAt code pc [80]) : decode code pc = .ok (.lastore, 1) := dk_of ((dk_bind (dk_u1 (h 0 _ rfl))).trans rfl)
theorem dk_83 {code : ByteArray} {pc : Nat} (h : DkAt code pc [83]) : decode code pc = .ok (.aastore, 1) := dk_of ((dk_bind (dk_u1 (h 0 _ rfl))).trans rfl)
theorem dk_84 {code : ByteArray} {pc : Nat} (h : DkAt code pc [84]) : decode code pc = .ok (.bastore, 1) := dk_of ((dk_bind (dk_u1 (h 0 _ rfl))).trans rfl)
theorem dk_87 {code : ByteArray} {pc : Nat} (h : DkAt code pc [87]) : decode code pc = .ok (.pop, 1) := dk_of ((dk_bind (dk_u1 (h 0 _ rfl))).trans rfl)
theorem dk_88 {code : ByteArray} {pc : Nat} (h : DkAt code pc [88]) : decode code pc = .ok (.pop2, 1) := dk_of ((dk_bind (dk_u1 (h 0 _ rfl))).trans rfl)
theorem dk_89 {code : ByteArray} {pc : Nat} (h : DkAt code pc [89]) : decode code pc = .ok (.dup, 1) := dk_of ((dk_bind (dk_u1 (h 0 _ rfl))).trans rfl)
theorem dk_90 {code : ByteArray} {pc : Nat} (h : DkAt code pc [90]) : decode code pc = .ok (.dup_x1, 1) := dk_of ((dk_bind (dk_u1 (h 0 _ rfl))).trans rfl)
theorem dk_92 {code : ByteArray} {pc : Nat} (h : DkAt code pc [92]) : decode code pc = .ok (.dup2, 1) := dk_of ((dk_bind (dk_u1 (h 0 _ rfl))).trans rfl)
theorem dk_96 {code : ByteArray} {pc : Nat} (h : DkAt code pc [96]) : decode code pc = .ok (.iadd, 1) := dk_of ((dk_bind (dk_u1 (h 0 _ rfl))).trans rfl)
theorem dk_97 {code : ByteArray} {pc : Nat} (h : DkAt code pc [97]) : decode code pc = .ok (.ladd, 1) := dk_of ((dk_bind (dk_u1 (h 0 _ rfl))).trans rfl)
theorem dk_100 {code : ByteArray} {pc : Nat} (h : DkAt code pc [100]) : decode code pc = .ok (.isub, 1) := dk_of ((dk_bind (dk_u1 (h 0 _ rfl))).trans rfl)
theorem dk_101 {code : ByteArray} {pc : Nat} (h : DkAt code pc [101]) : decode code pc = .ok (.lsub, 1) := dk_of ((dk_bind (dk_u1 (h 0 _ rfl))).trans rfl)
theorem dk_104 {code : ByteArray} {pc : Nat} (h : DkAt code pc [104]) : decode code pc = .ok (.imul, 1) := dk_of ((dk_bind (dk_u1 (h 0 _ rfl))).trans rfl)
theorem dk_105 {code : ByteArray} {pc : Nat} (h : DkAt code pc [105]) : decode code pc = .ok (.lmul, 1) := dk_of ((dk_bind (dk_u1 (h 0 _ rfl))).trans rfl)
theorem dk_108 {code : ByteArray} {pc : Nat} (h : DkAt code pc [108]) : decode code pc = .ok (.idiv, 1) := dk_of ((dk_bind (dk_u1 (h 0 _ rfl))).trans rfl)
theorem dk_109 {code : ByteArray} {pc : Nat} (h : DkAt code pc [109]) : decode code pc = .ok (.ldiv, 1) := dk_of ((dk_bind (dk_u1 (h 0 _ rfl))).trans rfl)
theorem dk_112 {code : ByteArray} {pc : Nat} (h : DkAt code pc [112]) : decode code pc = .ok (.irem, 1) := dk_of ((dk_bind (dk_u1 (h 0 _ rfl))).trans rfl)
theorem dk_113 {code : ByteArray} {pc : Nat} (h : DkAt code pc [113]) : decode code pc = .ok (.lrem, 1) := dk_of ((dk_bind (dk_u1 (h 0 _ rfl))).trans rfl)
theorem dk_116 {code : ByteArray} {pc : Nat} (h : DkAt code pc [116]) : decode code pc = .ok (.ineg, 1) := dk_of ((dk_bind (dk_u1 (h 0 _ rfl))).trans rfl)
theorem dk_117 {code : ByteArray} {pc : Nat} (h : DkAt code pc [117]) : decode code pc = .ok (.lneg, 1) := dk_of ((dk_bind (dk_u1 (h 0 _ rfl))).trans rfl)
theorem dk_120 {code : ByteArray} {pc : Nat} (h : DkAt code pc [120]) : decode code pc = .ok (.ishl, 1) := dk_of ((dk_bind (dk_u1 (h 0 _ rfl))).trans rfl)
theorem dk_121 {code : ByteArray} {pc : Nat} (h : DkAt code pc [121]) : decode code pc = .ok (.lshl, 1) := dk_of ((dk_bind (dk_u1 (h 0 _ rfl))).trans rfl)
theorem dk_122 {code : ByteArray} {pc : Nat} (h : DkAt code pc [122]) : decode code pc = .ok (.ishr, 1) := dk_of ((dk_bind (dk_u1 (h 0 _ rfl))).trans rfl)
theorem dk_123 {code : ByteArray} {pc : Nat} (h : DkAt code pc [123]) : decode code pc = .ok (.lshr, 1) := dk_of ((dk_bind (dk_u1 (h 0 _ rfl))).trans rfl)
theorem dk_124 {code : ByteArray} {pc : Nat} (h : DkAt code pc [124]) : decode code pc = .ok (.iushr, 1) := dk_of ((dk_bind (dk_u1 (h 0 _ rfl))).trans rfl)
theorem dk_125 {code : ByteArray} {pc : Nat} (h : DkAt code pc [125]) : decode code pc = .ok (.lushr, 1) := dk_of ((dk_bind (dk_u1 (h 0 _ rfl))).trans rfl)
theorem dk_126 {code : ByteArray} {pc : Nat} (h : DkAt code pc [126]) : decode code pc = .ok (.iand, 1) := dk_of ((dk_bind (dk_u1 (h 0 _ rfl))).trans rfl)
theorem dk_127 {code : ByteArray} {pc : Nat} (h : DkAt code pc [127]) : decode code pc = .ok (.land, 1) := dk_of ((dk_bind (dk_u1 (h 0 _ rfl))).trans rfl)
theorem dk_128 {code : ByteArray} {pc : Nat} (h : DkAt code pc [128]) : decode code pc = .ok (.ior, 1) := dk_of ((dk_bind (dk_u1 (h 0 _ rfl))).trans rfl)
theorem dk_129 {code : ByteArray} {pc : Nat} (h : DkAt code pc [129]) : decode code pc = .ok (.lor, 1) := dk_of ((dk_bind (dk_u1 (h 0 _ rfl))).trans rfl)
theorem dk_130 {code : ByteArray} {pc : Nat} (h : DkAt code pc [130]) : decode code pc = .ok (.ixor, 1) := dk_of ((dk_bind (dk_u1 (h 0 _ rfl))).trans rfl)
theorem dk_131 {code : ByteArray} {pc : Nat} (h : DkAt code pc [131]) : decode code pc = .ok (.lxor, 1) := dk_of ((dk_bind (dk_u1 (h 0 _ rfl))).trans rfl)
theorem dk_132 {code : ByteArray} {pc : Nat} (a b : UInt8) (h : DkAt code pc [132, a, b]) : decode code pc = .ok (.iinc a.toNat (Reader.signed 8 b.toNat), 3) := dk_of ((dk_bind (dk_u1 (h 0 _ rfl))).trans ((dk_bind (dk_u1 (h 1 _ rfl))).trans ((dk_bind (dk_map (dk_u1 (h 2 _ rfl)))).trans rfl)))
theorem dk_133 {code : ByteArray} {pc : Nat} (h : DkAt code pc [133]) : decode code pc = .ok (.i2l, 1) := dk_of ((dk_bind (dk_u1 (h 0 _ rfl))).trans rfl)
theorem dk_136 {code : ByteArray} {pc : Nat} (h : DkAt code pc [136]) : decode code pc = .ok (.l2i, 1) := dk_of ((dk_bind (dk_u1 (h 0 _ rfl))).trans rfl)
theorem dk_145 {code : ByteArray} {pc : Nat} (h : DkAt code pc [145]) : decode code pc = .ok (.i2b, 1) := dk_of ((dk_bind (dk_u1 (h 0 _ rfl))).trans rfl)
theorem dk_146 {code : ByteArray} {pc : Nat} (h : DkAt code pc [146]) : decode code pc = .ok (.i2c, 1) := dk_of ((dk_bind (dk_u1 (h 0 _ rfl))).trans rfl)
theorem dk_148 {code : ByteArray} {pc : Nat} (h : DkAt code pc [148]) : decode code pc = .ok (.lcmp, 1) := dk_of ((dk_bind (dk_u1 (h 0 _ rfl))).trans rfl)
theorem dk_153 {code : ByteArray} {pc : Nat} (a b : UInt8) (h : DkAt code pc [153, a, b]) : decode code pc = .ok (.ifCond .eq (Reader.signed 16 (a.toNat * 256 + b.toNat)), 3) := dk_of ((dk_bind (dk_u1 (h 0 _ rfl))).trans ((dk_bind (dk_map (dk_u2 (h 1 _ rfl) (h 2 _ rfl)))).trans rfl))
theorem dk_154 {code : ByteArray} {pc : Nat} (a b : UInt8) (h : DkAt code pc [154, a, b]) : decode code pc = .ok (.ifCond .ne (Reader.signed 16 (a.toNat * 256 + b.toNat)), 3) := dk_of ((dk_bind (dk_u1 (h 0 _ rfl))).trans ((dk_bind (dk_map (dk_u2 (h 1 _ rfl) (h 2 _ rfl)))).trans rfl))
theorem dk_155 {code : ByteArray} {pc : Nat} (a b : UInt8) (h : DkAt code pc [155, a, b]) : decode code pc = .ok (.ifCond .lt (Reader.signed 16 (a.toNat * 256 + b.toNat)), 3) := dk_of ((dk_bind (dk_u1 (h 0 _ rfl))).trans ((dk_bind (dk_map (dk_u2 (h 1 _ rfl) (h 2 _ rfl)))).trans rfl))
theorem dk_156 {code : ByteArray} {pc : Nat} (a b : UInt8) (h : DkAt code pc [156, a, b]) : decode code pc = .ok (.ifCond .ge (Reader.signed 16 (a.toNat * 256 + b.toNat)), 3) := dk_of ((dk_bind (dk_u1 (h 0 _ rfl))).trans ((dk_bind (dk_map (dk_u2 (h 1 _ rfl) (h 2 _ rfl)))).trans rfl))
theorem dk_157 {code : ByteArray} {pc : Nat} (a b : UInt8) (h : DkAt code pc [157, a, b]) : decode code pc = .ok (.ifCond .gt (Reader.signed 16 (a.toNat * 256 + b.toNat)), 3) := dk_of ((dk_bind (dk_u1 (h 0 _ rfl))).trans ((dk_bind (dk_map (dk_u2 (h 1 _ rfl) (h 2 _ rfl)))).trans rfl))
theorem dk_158 {code : ByteArray} {pc : Nat} (a b : UInt8) (h : DkAt code pc [158, a, b]) : decode code pc = .ok (.ifCond .le (Reader.signed 16 (a.toNat * 256 + b.toNat)), 3) := dk_of ((dk_bind (dk_u1 (h 0 _ rfl))).trans ((dk_bind (dk_map (dk_u2 (h 1 _ rfl) (h 2 _ rfl)))).trans rfl))
theorem dk_159 {code : ByteArray} {pc : Nat} (a b : UInt8) (h : DkAt code pc [159, a, b]) : decode code pc = .ok (.if_icmp .eq (Reader.signed 16 (a.toNat * 256 + b.toNat)), 3) := dk_of ((dk_bind (dk_u1 (h 0 _ rfl))).trans ((dk_bind (dk_map (dk_u2 (h 1 _ rfl) (h 2 _ rfl)))).trans rfl))
theorem dk_160 {code : ByteArray} {pc : Nat} (a b : UInt8) (h : DkAt code pc [160, a, b]) : decode code pc = .ok (.if_icmp .ne (Reader.signed 16 (a.toNat * 256 + b.toNat)), 3) := dk_of ((dk_bind (dk_u1 (h 0 _ rfl))).trans ((dk_bind (dk_map (dk_u2 (h 1 _ rfl) (h 2 _ rfl)))).trans rfl))
theorem dk_161 {code : ByteArray} {pc : Nat} (a b : UInt8) (h : DkAt code pc [161, a, b]) : decode code pc = .ok (.if_icmp .lt (Reader.signed 16 (a.toNat * 256 + b.toNat)), 3) := dk_of ((dk_bind (dk_u1 (h 0 _ rfl))).trans ((dk_bind (dk_map (dk_u2 (h 1 _ rfl) (h 2 _ rfl)))).trans rfl))
theorem dk_162 {code : ByteArray} {pc : Nat} (a b : UInt8) (h : DkAt code pc [162, a, b]) : decode code pc = .ok (.if_icmp .ge (Reader.signed 16 (a.toNat * 256 + b.toNat)), 3) := dk_of ((dk_bind (dk_u1 (h 0 _ rfl))).trans ((dk_bind (dk_map (dk_u2 (h 1 _ rfl) (h 2 _ rfl)))).trans rfl))
theorem dk_163 {code : ByteArray} {pc : Nat} (a b : UInt8) (h : DkAt code pc [163, a, b]) : decode code pc = .ok (.if_icmp .gt (Reader.signed 16 (a.toNat * 256 + b.toNat)), 3) := dk_of ((dk_bind (dk_u1 (h 0 _ rfl))).trans ((dk_bind (dk_map (dk_u2 (h 1 _ rfl) (h 2 _ rfl)))).trans rfl))
theorem dk_164 {code : ByteArray} {pc : Nat} (a b : UInt8) (h : DkAt code pc [164, a, b]) : decode code pc = .ok (.if_icmp .le (Reader.signed 16 (a.toNat * 256 + b.toNat)), 3) := dk_of ((dk_bind (dk_u1 (h 0 _ rfl))).trans ((dk_bind (dk_map (dk_u2 (h 1 _ rfl) (h 2 _ rfl)))).trans rfl))
theorem dk_165 {code : ByteArray} {pc : Nat} (a b : UInt8) (h : DkAt code pc [165, a, b]) : decode code pc = .ok (.if_acmp .eq (Reader.signed 16 (a.toNat * 256 + b.toNat)), 3) := dk_of ((dk_bind (dk_u1 (h 0 _ rfl))).trans ((dk_bind (dk_map (dk_u2 (h 1 _ rfl) (h 2 _ rfl)))).trans rfl))
theorem dk_166 {code : ByteArray} {pc : Nat} (a b : UInt8) (h : DkAt code pc [166, a, b]) : decode code pc = .ok (.if_acmp .ne (Reader.signed 16 (a.toNat * 256 + b.toNat)), 3) := dk_of ((dk_bind (dk_u1 (h 0 _ rfl))).trans ((dk_bind (dk_map (dk_u2 (h 1 _ rfl) (h 2 _ rfl)))).trans rfl))
theorem dk_167 {code : ByteArray} {pc : Nat} (a b : UInt8) (h : DkAt code pc [167, a, b]) : decode code pc = .ok (.goto (Reader.signed 16 (a.toNat * 256 + b.toNat)), 3) := dk_of ((dk_bind (dk_u1 (h 0 _ rfl))).trans ((dk_bind (dk_map (dk_u2 (h 1 _ rfl) (h 2 _ rfl)))).trans rfl))
theorem dk_172 {code : ByteArray} {pc : Nat} (h : DkAt code pc [172]) : decode code pc = .ok (.ireturn, 1) := dk_of ((dk_bind (dk_u1 (h 0 _ rfl))).trans rfl)
theorem dk_173 {code : ByteArray} {pc : Nat} (h : DkAt code pc [173]) : decode code pc = .ok (.lreturn, 1) := dk_of ((dk_bind (dk_u1 (h 0 _ rfl))).trans rfl)
theorem dk_176 {code : ByteArray} {pc : Nat} (h : DkAt code pc [176]) : decode code pc = .ok (.areturn, 1) := dk_of ((dk_bind (dk_u1 (h 0 _ rfl))).trans rfl)
theorem dk_177 {code : ByteArray} {pc : Nat} (h : DkAt code pc [177]) : decode code pc = .ok (.return_, 1) := dk_of ((dk_bind (dk_u1 (h 0 _ rfl))).trans rfl)
theorem dk_178 {code : ByteArray} {pc : Nat} (a b : UInt8) (h : DkAt code pc [178, a, b]) : decode code pc = .ok (.getstatic (a.toNat * 256 + b.toNat), 3) := dk_of ((dk_bind (dk_u1 (h 0 _ rfl))).trans ((dk_bind (dk_u2 (h 1 _ rfl) (h 2 _ rfl))).trans rfl))
theorem dk_180 {code : ByteArray} {pc : Nat} (a b : UInt8) (h : DkAt code pc [180, a, b]) : decode code pc = .ok (.getfield (a.toNat * 256 + b.toNat), 3) := dk_of ((dk_bind (dk_u1 (h 0 _ rfl))).trans ((dk_bind (dk_u2 (h 1 _ rfl) (h 2 _ rfl))).trans rfl))
theorem dk_181 {code : ByteArray} {pc : Nat} (a b : UInt8) (h : DkAt code pc [181, a, b]) : decode code pc = .ok (.putfield (a.toNat * 256 + b.toNat), 3) := dk_of ((dk_bind (dk_u1 (h 0 _ rfl))).trans ((dk_bind (dk_u2 (h 1 _ rfl) (h 2 _ rfl))).trans rfl))
theorem dk_182 {code : ByteArray} {pc : Nat} (a b : UInt8) (h : DkAt code pc [182, a, b]) : decode code pc = .ok (.invokevirtual (a.toNat * 256 + b.toNat), 3) := dk_of ((dk_bind (dk_u1 (h 0 _ rfl))).trans ((dk_bind (dk_u2 (h 1 _ rfl) (h 2 _ rfl))).trans rfl))
theorem dk_183 {code : ByteArray} {pc : Nat} (a b : UInt8) (h : DkAt code pc [183, a, b]) : decode code pc = .ok (.invokespecial (a.toNat * 256 + b.toNat), 3) := dk_of ((dk_bind (dk_u1 (h 0 _ rfl))).trans ((dk_bind (dk_u2 (h 1 _ rfl) (h 2 _ rfl))).trans rfl))
theorem dk_184 {code : ByteArray} {pc : Nat} (a b : UInt8) (h : DkAt code pc [184, a, b]) : decode code pc = .ok (.invokestatic (a.toNat * 256 + b.toNat), 3) := dk_of ((dk_bind (dk_u1 (h 0 _ rfl))).trans ((dk_bind (dk_u2 (h 1 _ rfl) (h 2 _ rfl))).trans rfl))
theorem dk_187 {code : ByteArray} {pc : Nat} (a b : UInt8) (h : DkAt code pc [187, a, b]) : decode code pc = .ok (.new (a.toNat * 256 + b.toNat), 3) := dk_of ((dk_bind (dk_u1 (h 0 _ rfl))).trans ((dk_bind (dk_u2 (h 1 _ rfl) (h 2 _ rfl))).trans rfl))
theorem dk_188_4 {code : ByteArray} {pc : Nat} (h : DkAt code pc [188, 4]) : decode code pc = .ok (.newarray .boolean, 2) := dk_of ((dk_bind (dk_u1 (h 0 _ rfl))).trans ((dk_bind (dk_u1 (h 1 _ rfl))).trans rfl))
theorem dk_188_8 {code : ByteArray} {pc : Nat} (h : DkAt code pc [188, 8]) : decode code pc = .ok (.newarray .byte, 2) := dk_of ((dk_bind (dk_u1 (h 0 _ rfl))).trans ((dk_bind (dk_u1 (h 1 _ rfl))).trans rfl))
theorem dk_188_10 {code : ByteArray} {pc : Nat} (h : DkAt code pc [188, 10]) : decode code pc = .ok (.newarray .int, 2) := dk_of ((dk_bind (dk_u1 (h 0 _ rfl))).trans ((dk_bind (dk_u1 (h 1 _ rfl))).trans rfl))
theorem dk_188_11 {code : ByteArray} {pc : Nat} (h : DkAt code pc [188, 11]) : decode code pc = .ok (.newarray .long, 2) := dk_of ((dk_bind (dk_u1 (h 0 _ rfl))).trans ((dk_bind (dk_u1 (h 1 _ rfl))).trans rfl))
theorem dk_189 {code : ByteArray} {pc : Nat} (a b : UInt8) (h : DkAt code pc [189, a, b]) : decode code pc = .ok (.anewarray (a.toNat * 256 + b.toNat), 3) := dk_of ((dk_bind (dk_u1 (h 0 _ rfl))).trans ((dk_bind (dk_u2 (h 1 _ rfl) (h 2 _ rfl))).trans rfl))
theorem dk_190 {code : ByteArray} {pc : Nat} (h : DkAt code pc [190]) : decode code pc = .ok (.arraylength, 1) := dk_of ((dk_bind (dk_u1 (h 0 _ rfl))).trans rfl)
theorem dk_191 {code : ByteArray} {pc : Nat} (h : DkAt code pc [191]) : decode code pc = .ok (.athrow, 1) := dk_of ((dk_bind (dk_u1 (h 0 _ rfl))).trans rfl)
theorem dk_192 {code : ByteArray} {pc : Nat} (a b : UInt8) (h : DkAt code pc [192, a, b]) : decode code pc = .ok (.checkcast (a.toNat * 256 + b.toNat), 3) := dk_of ((dk_bind (dk_u1 (h 0 _ rfl))).trans ((dk_bind (dk_u2 (h 1 _ rfl) (h 2 _ rfl))).trans rfl))
theorem dk_193 {code : ByteArray} {pc : Nat} (a b : UInt8) (h : DkAt code pc [193, a, b]) : decode code pc = .ok (.instanceof (a.toNat * 256 + b.toNat), 3) := dk_of ((dk_bind (dk_u1 (h 0 _ rfl))).trans ((dk_bind (dk_u2 (h 1 _ rfl) (h 2 _ rfl))).trans rfl))
theorem dk_194 {code : ByteArray} {pc : Nat} (h : DkAt code pc [194]) : decode code pc = .ok (.monitorenter, 1) := dk_of ((dk_bind (dk_u1 (h 0 _ rfl))).trans rfl)
theorem dk_195 {code : ByteArray} {pc : Nat} (h : DkAt code pc [195]) : decode code pc = .ok (.monitorexit, 1) := dk_of ((dk_bind (dk_u1 (h 0 _ rfl))).trans rfl)
theorem dk_198 {code : ByteArray} {pc : Nat} (a b : UInt8) (h : DkAt code pc [198, a, b]) : decode code pc = .ok (.ifnull (Reader.signed 16 (a.toNat * 256 + b.toNat)), 3) := dk_of ((dk_bind (dk_u1 (h 0 _ rfl))).trans ((dk_bind (dk_map (dk_u2 (h 1 _ rfl) (h 2 _ rfl)))).trans rfl))
theorem dk_199 {code : ByteArray} {pc : Nat} (a b : UInt8) (h : DkAt code pc [199, a, b]) : decode code pc = .ok (.ifnonnull (Reader.signed 16 (a.toNat * 256 + b.toNat)), 3) := dk_of ((dk_bind (dk_u1 (h 0 _ rfl))).trans ((dk_bind (dk_map (dk_u2 (h 1 _ rfl) (h 2 _ rfl)))).trans rfl))
/-! FranchiseLedgerLaw -/
set_option maxRecDepth 100000
def RX0 : String := "FranchiseLedgerLaw"
abbrev cX0_runJournal : ByteArray := method_3_code
def yX0_runJournal : MethodName := ⟨RX0, "runJournal", "(LFranchiseLedger;I[J)I"⟩
def dkwX0_runJournal_0 : List UInt8 := [44, 3, 42, 27, 182, 0, 7, 133, 80, 167, 0, 6, 78, 4, 172, 3, 172]
abbrev dktX0_runJournal_0 : List UInt8 := dkwX0_runJournal_0 ++ []
theorem dksX0_runJournal_0 : cX0_runJournal.data.toList.drop 0 = dktX0_runJournal_0 := by decide +kernel
theorem dX0_runJournal_0 : decode cX0_runJournal 0 = .ok (.aload_n 2, 1) := dk_44 (dk_at dksX0_runJournal_0 0 rfl rfl)
theorem dX0_runJournal_1 : decode cX0_runJournal 1 = .ok (.iconst 0, 1) := dk_3 (dk_at dksX0_runJournal_0 1 rfl rfl)
theorem dX0_runJournal_2 : decode cX0_runJournal 2 = .ok (.aload_n 0, 1) := dk_42 (dk_at dksX0_runJournal_0 2 rfl rfl)
theorem dX0_runJournal_3 : decode cX0_runJournal 3 = .ok (.iload_n 1, 1) := dk_27 (dk_at dksX0_runJournal_0 3 rfl rfl)
theorem dX0_runJournal_4 : decode cX0_runJournal 4 = .ok (.invokevirtual 7, 3) := dk_182 0 7 (dk_at dksX0_runJournal_0 4 rfl rfl)
theorem dX0_runJournal_7 : decode cX0_runJournal 7 = .ok (.i2l, 1) := dk_133 (dk_at dksX0_runJournal_0 7 rfl rfl)
theorem dX0_runJournal_8 : decode cX0_runJournal 8 = .ok (.lastore, 1) := dk_80 (dk_at dksX0_runJournal_0 8 rfl rfl)
theorem dX0_runJournal_9 : decode cX0_runJournal 9 = .ok (.goto 6, 3) := dk_167 0 6 (dk_at dksX0_runJournal_0 9 rfl rfl)
theorem dX0_runJournal_12 : decode cX0_runJournal 12 = .ok (.astore_n 3, 1) := dk_78 (dk_at dksX0_runJournal_0 12 rfl rfl)
theorem dX0_runJournal_13 : decode cX0_runJournal 13 = .ok (.iconst 1, 1) := dk_4 (dk_at dksX0_runJournal_0 13 rfl rfl)
theorem dX0_runJournal_14 : decode cX0_runJournal 14 = .ok (.ireturn, 1) := dk_172 (dk_at dksX0_runJournal_0 14 rfl rfl)
theorem dX0_runJournal_15 : decode cX0_runJournal 15 = .ok (.iconst 0, 1) := dk_3 (dk_at dksX0_runJournal_0 15 rfl rfl)
theorem dX0_runJournal_16 : decode cX0_runJournal 16 = .ok (.ireturn, 1) := dk_172 (dk_at dksX0_runJournal_0 16 rfl rfl)
abbrev cX0_owner : ByteArray := method_4_code
def yX0_owner : MethodName := ⟨RX0, "owner", "(LFranchiseLedger;II[J)I"⟩
def dkwX0_owner_0 : List UInt8 := [45, 3, 42, 27, 28, 182, 0, 15, 133, 80, 167, 0, 7, 58, 4, 4, 172, 3, 172]
abbrev dktX0_owner_0 : List UInt8 := dkwX0_owner_0 ++ []
theorem dksX0_owner_0 : cX0_owner.data.toList.drop 0 = dktX0_owner_0 := by decide +kernel
theorem dX0_owner_0 : decode cX0_owner 0 = .ok (.aload_n 3, 1) := dk_45 (dk_at dksX0_owner_0 0 rfl rfl)
theorem dX0_owner_1 : decode cX0_owner 1 = .ok (.iconst 0, 1) := dk_3 (dk_at dksX0_owner_0 1 rfl rfl)
theorem dX0_owner_2 : decode cX0_owner 2 = .ok (.aload_n 0, 1) := dk_42 (dk_at dksX0_owner_0 2 rfl rfl)
theorem dX0_owner_3 : decode cX0_owner 3 = .ok (.iload_n 1, 1) := dk_27 (dk_at dksX0_owner_0 3 rfl rfl)
theorem dX0_owner_4 : decode cX0_owner 4 = .ok (.iload_n 2, 1) := dk_28 (dk_at dksX0_owner_0 4 rfl rfl)
theorem dX0_owner_5 : decode cX0_owner 5 = .ok (.invokevirtual 15, 3) := dk_182 0 15 (dk_at dksX0_owner_0 5 rfl rfl)
theorem dX0_owner_8 : decode cX0_owner 8 = .ok (.i2l, 1) := dk_133 (dk_at dksX0_owner_0 8 rfl rfl)
theorem dX0_owner_9 : decode cX0_owner 9 = .ok (.lastore, 1) := dk_80 (dk_at dksX0_owner_0 9 rfl rfl)
theorem dX0_owner_10 : decode cX0_owner 10 = .ok (.goto 7, 3) := dk_167 0 7 (dk_at dksX0_owner_0 10 rfl rfl)
theorem dX0_owner_13 : decode cX0_owner 13 = .ok (.astore 4, 2) := dk_58 4 (dk_at dksX0_owner_0 13 rfl rfl)
theorem dX0_owner_15 : decode cX0_owner 15 = .ok (.iconst 1, 1) := dk_4 (dk_at dksX0_owner_0 15 rfl rfl)
theorem dX0_owner_16 : decode cX0_owner 16 = .ok (.ireturn, 1) := dk_172 (dk_at dksX0_owner_0 16 rfl rfl)
theorem dX0_owner_17 : decode cX0_owner 17 = .ok (.iconst 0, 1) := dk_3 (dk_at dksX0_owner_0 17 rfl rfl)
theorem dX0_owner_18 : decode cX0_owner 18 = .ok (.ireturn, 1) := dk_172 (dk_at dksX0_owner_0 18 rfl rfl)
abbrev cX0_area : ByteArray := method_5_code
def yX0_area : MethodName := ⟨RX0, "area", "(LFranchiseLedger;I[J)I"⟩
def dkwX0_area_0 : List UInt8 := [44, 3, 42, 27, 182, 0, 19, 133, 80, 167, 0, 6, 78, 4, 172, 3, 172]
abbrev dktX0_area_0 : List UInt8 := dkwX0_area_0 ++ []
theorem dksX0_area_0 : cX0_area.data.toList.drop 0 = dktX0_area_0 := by decide +kernel
theorem dX0_area_0 : decode cX0_area 0 = .ok (.aload_n 2, 1) := dk_44 (dk_at dksX0_area_0 0 rfl rfl)
theorem dX0_area_1 : decode cX0_area 1 = .ok (.iconst 0, 1) := dk_3 (dk_at dksX0_area_0 1 rfl rfl)
theorem dX0_area_2 : decode cX0_area 2 = .ok (.aload_n 0, 1) := dk_42 (dk_at dksX0_area_0 2 rfl rfl)
theorem dX0_area_3 : decode cX0_area 3 = .ok (.iload_n 1, 1) := dk_27 (dk_at dksX0_area_0 3 rfl rfl)
theorem dX0_area_4 : decode cX0_area 4 = .ok (.invokevirtual 19, 3) := dk_182 0 19 (dk_at dksX0_area_0 4 rfl rfl)
theorem dX0_area_7 : decode cX0_area 7 = .ok (.i2l, 1) := dk_133 (dk_at dksX0_area_0 7 rfl rfl)
theorem dX0_area_8 : decode cX0_area 8 = .ok (.lastore, 1) := dk_80 (dk_at dksX0_area_0 8 rfl rfl)
theorem dX0_area_9 : decode cX0_area 9 = .ok (.goto 6, 3) := dk_167 0 6 (dk_at dksX0_area_0 9 rfl rfl)
theorem dX0_area_12 : decode cX0_area 12 = .ok (.astore_n 3, 1) := dk_78 (dk_at dksX0_area_0 12 rfl rfl)
theorem dX0_area_13 : decode cX0_area 13 = .ok (.iconst 1, 1) := dk_4 (dk_at dksX0_area_0 13 rfl rfl)
theorem dX0_area_14 : decode cX0_area 14 = .ok (.ireturn, 1) := dk_172 (dk_at dksX0_area_0 14 rfl rfl)
theorem dX0_area_15 : decode cX0_area 15 = .ok (.iconst 0, 1) := dk_3 (dk_at dksX0_area_0 15 rfl rfl)
theorem dX0_area_16 : decode cX0_area 16 = .ok (.ireturn, 1) := dk_172 (dk_at dksX0_area_0 16 rfl rfl)
abbrev cX0_perimeter : ByteArray := method_6_code
def yX0_perimeter : MethodName := ⟨RX0, "perimeter", "(LFranchiseLedger;I[J)I"⟩
def dkwX0_perimeter_0 : List UInt8 := [44, 3, 42, 27, 182, 0, 24, 133, 80, 167, 0, 6, 78, 4, 172, 3, 172]
abbrev dktX0_perimeter_0 : List UInt8 := dkwX0_perimeter_0 ++ []
theorem dksX0_perimeter_0 : cX0_perimeter.data.toList.drop 0 = dktX0_perimeter_0 := by decide +kernel
theorem dX0_perimeter_0 : decode cX0_perimeter 0 = .ok (.aload_n 2, 1) := dk_44 (dk_at dksX0_perimeter_0 0 rfl rfl)
theorem dX0_perimeter_1 : decode cX0_perimeter 1 = .ok (.iconst 0, 1) := dk_3 (dk_at dksX0_perimeter_0 1 rfl rfl)
theorem dX0_perimeter_2 : decode cX0_perimeter 2 = .ok (.aload_n 0, 1) := dk_42 (dk_at dksX0_perimeter_0 2 rfl rfl)
theorem dX0_perimeter_3 : decode cX0_perimeter 3 = .ok (.iload_n 1, 1) := dk_27 (dk_at dksX0_perimeter_0 3 rfl rfl)
theorem dX0_perimeter_4 : decode cX0_perimeter 4 = .ok (.invokevirtual 24, 3) := dk_182 0 24 (dk_at dksX0_perimeter_0 4 rfl rfl)
theorem dX0_perimeter_7 : decode cX0_perimeter 7 = .ok (.i2l, 1) := dk_133 (dk_at dksX0_perimeter_0 7 rfl rfl)
theorem dX0_perimeter_8 : decode cX0_perimeter 8 = .ok (.lastore, 1) := dk_80 (dk_at dksX0_perimeter_0 8 rfl rfl)
theorem dX0_perimeter_9 : decode cX0_perimeter 9 = .ok (.goto 6, 3) := dk_167 0 6 (dk_at dksX0_perimeter_0 9 rfl rfl)
theorem dX0_perimeter_12 : decode cX0_perimeter 12 = .ok (.astore_n 3, 1) := dk_78 (dk_at dksX0_perimeter_0 12 rfl rfl)
theorem dX0_perimeter_13 : decode cX0_perimeter 13 = .ok (.iconst 1, 1) := dk_4 (dk_at dksX0_perimeter_0 13 rfl rfl)
theorem dX0_perimeter_14 : decode cX0_perimeter 14 = .ok (.ireturn, 1) := dk_172 (dk_at dksX0_perimeter_0 14 rfl rfl)
theorem dX0_perimeter_15 : decode cX0_perimeter 15 = .ok (.iconst 0, 1) := dk_3 (dk_at dksX0_perimeter_0 15 rfl rfl)
theorem dX0_perimeter_16 : decode cX0_perimeter 16 = .ok (.ireturn, 1) := dk_172 (dk_at dksX0_perimeter_0 16 rfl rfl)
abbrev cX0_border : ByteArray := method_7_code
def yX0_border : MethodName := ⟨RX0, "border", "(LFranchiseLedger;II[J)I"⟩
def dkwX0_border_0 : List UInt8 := [45, 3, 42, 27, 28, 182, 0, 27, 133, 80, 167, 0, 7, 58, 4, 4, 172, 3, 172]
abbrev dktX0_border_0 : List UInt8 := dkwX0_border_0 ++ []
theorem dksX0_border_0 : cX0_border.data.toList.drop 0 = dktX0_border_0 := by decide +kernel
theorem dX0_border_0 : decode cX0_border 0 = .ok (.aload_n 3, 1) := dk_45 (dk_at dksX0_border_0 0 rfl rfl)
theorem dX0_border_1 : decode cX0_border 1 = .ok (.iconst 0, 1) := dk_3 (dk_at dksX0_border_0 1 rfl rfl)
theorem dX0_border_2 : decode cX0_border 2 = .ok (.aload_n 0, 1) := dk_42 (dk_at dksX0_border_0 2 rfl rfl)
theorem dX0_border_3 : decode cX0_border 3 = .ok (.iload_n 1, 1) := dk_27 (dk_at dksX0_border_0 3 rfl rfl)
theorem dX0_border_4 : decode cX0_border 4 = .ok (.iload_n 2, 1) := dk_28 (dk_at dksX0_border_0 4 rfl rfl)
theorem dX0_border_5 : decode cX0_border 5 = .ok (.invokevirtual 27, 3) := dk_182 0 27 (dk_at dksX0_border_0 5 rfl rfl)
theorem dX0_border_8 : decode cX0_border 8 = .ok (.i2l, 1) := dk_133 (dk_at dksX0_border_0 8 rfl rfl)
theorem dX0_border_9 : decode cX0_border 9 = .ok (.lastore, 1) := dk_80 (dk_at dksX0_border_0 9 rfl rfl)
theorem dX0_border_10 : decode cX0_border 10 = .ok (.goto 7, 3) := dk_167 0 7 (dk_at dksX0_border_0 10 rfl rfl)
theorem dX0_border_13 : decode cX0_border 13 = .ok (.astore 4, 2) := dk_58 4 (dk_at dksX0_border_0 13 rfl rfl)
theorem dX0_border_15 : decode cX0_border 15 = .ok (.iconst 1, 1) := dk_4 (dk_at dksX0_border_0 15 rfl rfl)
theorem dX0_border_16 : decode cX0_border 16 = .ok (.ireturn, 1) := dk_172 (dk_at dksX0_border_0 16 rfl rfl)
theorem dX0_border_17 : decode cX0_border 17 = .ok (.iconst 0, 1) := dk_3 (dk_at dksX0_border_0 17 rfl rfl)
theorem dX0_border_18 : decode cX0_border 18 = .ok (.ireturn, 1) := dk_172 (dk_at dksX0_border_0 18 rfl rfl)
abbrev cX0_isConnected : ByteArray := method_8_code
def yX0_isConnected : MethodName := ⟨RX0, "isConnected", "(LFranchiseLedger;I[J)I"⟩
def dkwX0_isConnected_0 : List UInt8 := [44, 3, 42, 27, 182, 0, 30, 153, 0, 7, 10, 167, 0, 4, 9, 80, 167, 0, 6, 78, 4, 172, 3, 172]
abbrev dktX0_isConnected_0 : List UInt8 := dkwX0_isConnected_0 ++ []
theorem dksX0_isConnected_0 : cX0_isConnected.data.toList.drop 0 = dktX0_isConnected_0 := by decide +kernel
theorem dX0_isConnected_0 : decode cX0_isConnected 0 = .ok (.aload_n 2, 1) := dk_44 (dk_at dksX0_isConnected_0 0 rfl rfl)
theorem dX0_isConnected_1 : decode cX0_isConnected 1 = .ok (.iconst 0, 1) := dk_3 (dk_at dksX0_isConnected_0 1 rfl rfl)
theorem dX0_isConnected_2 : decode cX0_isConnected 2 = .ok (.aload_n 0, 1) := dk_42 (dk_at dksX0_isConnected_0 2 rfl rfl)
theorem dX0_isConnected_3 : decode cX0_isConnected 3 = .ok (.iload_n 1, 1) := dk_27 (dk_at dksX0_isConnected_0 3 rfl rfl)
theorem dX0_isConnected_4 : decode cX0_isConnected 4 = .ok (.invokevirtual 30, 3) := dk_182 0 30 (dk_at dksX0_isConnected_0 4 rfl rfl)
theorem dX0_isConnected_7 : decode cX0_isConnected 7 = .ok (.ifCond .eq 7, 3) := dk_153 0 7 (dk_at dksX0_isConnected_0 7 rfl rfl)
theorem dX0_isConnected_10 : decode cX0_isConnected 10 = .ok (.lconst 1, 1) := dk_10 (dk_at dksX0_isConnected_0 10 rfl rfl)
theorem dX0_isConnected_11 : decode cX0_isConnected 11 = .ok (.goto 4, 3) := dk_167 0 4 (dk_at dksX0_isConnected_0 11 rfl rfl)
theorem dX0_isConnected_14 : decode cX0_isConnected 14 = .ok (.lconst 0, 1) := dk_9 (dk_at dksX0_isConnected_0 14 rfl rfl)
theorem dX0_isConnected_15 : decode cX0_isConnected 15 = .ok (.lastore, 1) := dk_80 (dk_at dksX0_isConnected_0 15 rfl rfl)
theorem dX0_isConnected_16 : decode cX0_isConnected 16 = .ok (.goto 6, 3) := dk_167 0 6 (dk_at dksX0_isConnected_0 16 rfl rfl)
theorem dX0_isConnected_19 : decode cX0_isConnected 19 = .ok (.astore_n 3, 1) := dk_78 (dk_at dksX0_isConnected_0 19 rfl rfl)
theorem dX0_isConnected_20 : decode cX0_isConnected 20 = .ok (.iconst 1, 1) := dk_4 (dk_at dksX0_isConnected_0 20 rfl rfl)
theorem dX0_isConnected_21 : decode cX0_isConnected 21 = .ok (.ireturn, 1) := dk_172 (dk_at dksX0_isConnected_0 21 rfl rfl)
theorem dX0_isConnected_22 : decode cX0_isConnected 22 = .ok (.iconst 0, 1) := dk_3 (dk_at dksX0_isConnected_0 22 rfl rfl)
theorem dX0_isConnected_23 : decode cX0_isConnected 23 = .ok (.ireturn, 1) := dk_172 (dk_at dksX0_isConnected_0 23 rfl rfl)
abbrev cX0_distance : ByteArray := method_9_code
def yX0_distance : MethodName := ⟨RX0, "distance", "(LFranchiseLedger;III[J)I"⟩
def dkwX0_distance_1 : List UInt8 := [172]
abbrev dktX0_distance_1 : List UInt8 := dkwX0_distance_1 ++ []
def dkwX0_distance_0 : List UInt8 := [25, 4, 3, 42, 27, 28, 29, 182, 0, 34, 133, 80, 167, 0, 11, 58, 5, 4, 172, 58, 5, 5, 172, 3]
abbrev dktX0_distance_0 : List UInt8 := dkwX0_distance_0 ++ dktX0_distance_1
theorem dksX0_distance_0 : cX0_distance.data.toList.drop 0 = dktX0_distance_0 := by decide +kernel
theorem dksX0_distance_1 : cX0_distance.data.toList.drop 24 = dktX0_distance_1 := dk_seg dksX0_distance_0 24 rfl rfl
theorem dX0_distance_0 : decode cX0_distance 0 = .ok (.aload 4, 2) := dk_25 4 (dk_at dksX0_distance_0 0 rfl rfl)
theorem dX0_distance_2 : decode cX0_distance 2 = .ok (.iconst 0, 1) := dk_3 (dk_at dksX0_distance_0 2 rfl rfl)
theorem dX0_distance_3 : decode cX0_distance 3 = .ok (.aload_n 0, 1) := dk_42 (dk_at dksX0_distance_0 3 rfl rfl)
theorem dX0_distance_4 : decode cX0_distance 4 = .ok (.iload_n 1, 1) := dk_27 (dk_at dksX0_distance_0 4 rfl rfl)
theorem dX0_distance_5 : decode cX0_distance 5 = .ok (.iload_n 2, 1) := dk_28 (dk_at dksX0_distance_0 5 rfl rfl)
theorem dX0_distance_6 : decode cX0_distance 6 = .ok (.iload_n 3, 1) := dk_29 (dk_at dksX0_distance_0 6 rfl rfl)
theorem dX0_distance_7 : decode cX0_distance 7 = .ok (.invokevirtual 34, 3) := dk_182 0 34 (dk_at dksX0_distance_0 7 rfl rfl)
theorem dX0_distance_10 : decode cX0_distance 10 = .ok (.i2l, 1) := dk_133 (dk_at dksX0_distance_0 10 rfl rfl)
theorem dX0_distance_11 : decode cX0_distance 11 = .ok (.lastore, 1) := dk_80 (dk_at dksX0_distance_0 11 rfl rfl)
theorem dX0_distance_12 : decode cX0_distance 12 = .ok (.goto 11, 3) := dk_167 0 11 (dk_at dksX0_distance_0 12 rfl rfl)
theorem dX0_distance_15 : decode cX0_distance 15 = .ok (.astore 5, 2) := dk_58 5 (dk_at dksX0_distance_0 15 rfl rfl)
theorem dX0_distance_17 : decode cX0_distance 17 = .ok (.iconst 1, 1) := dk_4 (dk_at dksX0_distance_0 17 rfl rfl)
theorem dX0_distance_18 : decode cX0_distance 18 = .ok (.ireturn, 1) := dk_172 (dk_at dksX0_distance_0 18 rfl rfl)
theorem dX0_distance_19 : decode cX0_distance 19 = .ok (.astore 5, 2) := dk_58 5 (dk_at dksX0_distance_0 19 rfl rfl)
theorem dX0_distance_21 : decode cX0_distance 21 = .ok (.iconst 2, 1) := dk_5 (dk_at dksX0_distance_0 21 rfl rfl)
theorem dX0_distance_22 : decode cX0_distance 22 = .ok (.ireturn, 1) := dk_172 (dk_at dksX0_distance_0 22 rfl rfl)
theorem dX0_distance_23 : decode cX0_distance 23 = .ok (.iconst 0, 1) := dk_3 (dk_at dksX0_distance_0 23 rfl rfl)
theorem dX0_distance_24 : decode cX0_distance 24 = .ok (.ireturn, 1) := dk_172 (dk_at dksX0_distance_1 0 rfl rfl)
abbrev cX0_cede : ByteArray := method_10_code
def yX0_cede : MethodName := ⟨RX0, "cede", "(LFranchiseLedger;IIIIII[J)I"⟩
def dkwX0_cede_1 : List UInt8 := [172, 58, 8, 5, 172, 3, 172]
abbrev dktX0_cede_1 : List UInt8 := dkwX0_cede_1 ++ []
def dkwX0_cede_0 : List UInt8 := [25, 7, 3, 42, 27, 28, 29, 21, 4, 21, 5, 21, 6, 182, 0, 38, 133, 80, 167, 0, 11, 58, 8, 4]
abbrev dktX0_cede_0 : List UInt8 := dkwX0_cede_0 ++ dktX0_cede_1
theorem dksX0_cede_0 : cX0_cede.data.toList.drop 0 = dktX0_cede_0 := by decide +kernel
theorem dksX0_cede_1 : cX0_cede.data.toList.drop 24 = dktX0_cede_1 := dk_seg dksX0_cede_0 24 rfl rfl
theorem dX0_cede_0 : decode cX0_cede 0 = .ok (.aload 7, 2) := dk_25 7 (dk_at dksX0_cede_0 0 rfl rfl)
theorem dX0_cede_2 : decode cX0_cede 2 = .ok (.iconst 0, 1) := dk_3 (dk_at dksX0_cede_0 2 rfl rfl)
theorem dX0_cede_3 : decode cX0_cede 3 = .ok (.aload_n 0, 1) := dk_42 (dk_at dksX0_cede_0 3 rfl rfl)
theorem dX0_cede_4 : decode cX0_cede 4 = .ok (.iload_n 1, 1) := dk_27 (dk_at dksX0_cede_0 4 rfl rfl)
theorem dX0_cede_5 : decode cX0_cede 5 = .ok (.iload_n 2, 1) := dk_28 (dk_at dksX0_cede_0 5 rfl rfl)
theorem dX0_cede_6 : decode cX0_cede 6 = .ok (.iload_n 3, 1) := dk_29 (dk_at dksX0_cede_0 6 rfl rfl)
theorem dX0_cede_7 : decode cX0_cede 7 = .ok (.iload 4, 2) := dk_21 4 (dk_at dksX0_cede_0 7 rfl rfl)
theorem dX0_cede_9 : decode cX0_cede 9 = .ok (.iload 5, 2) := dk_21 5 (dk_at dksX0_cede_0 9 rfl rfl)
theorem dX0_cede_11 : decode cX0_cede 11 = .ok (.iload 6, 2) := dk_21 6 (dk_at dksX0_cede_0 11 rfl rfl)
theorem dX0_cede_13 : decode cX0_cede 13 = .ok (.invokevirtual 38, 3) := dk_182 0 38 (dk_at dksX0_cede_0 13 rfl rfl)
theorem dX0_cede_16 : decode cX0_cede 16 = .ok (.i2l, 1) := dk_133 (dk_at dksX0_cede_0 16 rfl rfl)
theorem dX0_cede_17 : decode cX0_cede 17 = .ok (.lastore, 1) := dk_80 (dk_at dksX0_cede_0 17 rfl rfl)
theorem dX0_cede_18 : decode cX0_cede 18 = .ok (.goto 11, 3) := dk_167 0 11 (dk_at dksX0_cede_0 18 rfl rfl)
theorem dX0_cede_21 : decode cX0_cede 21 = .ok (.astore 8, 2) := dk_58 8 (dk_at dksX0_cede_0 21 rfl rfl)
theorem dX0_cede_23 : decode cX0_cede 23 = .ok (.iconst 1, 1) := dk_4 (dk_at dksX0_cede_0 23 rfl rfl)
theorem dX0_cede_24 : decode cX0_cede 24 = .ok (.ireturn, 1) := dk_172 (dk_at dksX0_cede_1 0 rfl rfl)
theorem dX0_cede_25 : decode cX0_cede 25 = .ok (.astore 8, 2) := dk_58 8 (dk_at dksX0_cede_1 1 rfl rfl)
theorem dX0_cede_27 : decode cX0_cede 27 = .ok (.iconst 2, 1) := dk_5 (dk_at dksX0_cede_1 3 rfl rfl)
theorem dX0_cede_28 : decode cX0_cede 28 = .ok (.ireturn, 1) := dk_172 (dk_at dksX0_cede_1 4 rfl rfl)
theorem dX0_cede_29 : decode cX0_cede 29 = .ok (.iconst 0, 1) := dk_3 (dk_at dksX0_cede_1 5 rfl rfl)
theorem dX0_cede_30 : decode cX0_cede 30 = .ok (.ireturn, 1) := dk_172 (dk_at dksX0_cede_1 6 rfl rfl)
abbrev cX0_outletOwner : ByteArray := method_11_code
def yX0_outletOwner : MethodName := ⟨RX0, "outletOwner", "(LFranchiseLedger;I[J)I"⟩
def dkwX0_outletOwner_0 : List UInt8 := [44, 3, 42, 27, 182, 0, 42, 133, 80, 167, 0, 6, 78, 4, 172, 3, 172]
abbrev dktX0_outletOwner_0 : List UInt8 := dkwX0_outletOwner_0 ++ []
theorem dksX0_outletOwner_0 : cX0_outletOwner.data.toList.drop 0 = dktX0_outletOwner_0 := by decide +kernel
theorem dX0_outletOwner_0 : decode cX0_outletOwner 0 = .ok (.aload_n 2, 1) := dk_44 (dk_at dksX0_outletOwner_0 0 rfl rfl)
theorem dX0_outletOwner_1 : decode cX0_outletOwner 1 = .ok (.iconst 0, 1) := dk_3 (dk_at dksX0_outletOwner_0 1 rfl rfl)
theorem dX0_outletOwner_2 : decode cX0_outletOwner 2 = .ok (.aload_n 0, 1) := dk_42 (dk_at dksX0_outletOwner_0 2 rfl rfl)
theorem dX0_outletOwner_3 : decode cX0_outletOwner 3 = .ok (.iload_n 1, 1) := dk_27 (dk_at dksX0_outletOwner_0 3 rfl rfl)
theorem dX0_outletOwner_4 : decode cX0_outletOwner 4 = .ok (.invokevirtual 42, 3) := dk_182 0 42 (dk_at dksX0_outletOwner_0 4 rfl rfl)
theorem dX0_outletOwner_7 : decode cX0_outletOwner 7 = .ok (.i2l, 1) := dk_133 (dk_at dksX0_outletOwner_0 7 rfl rfl)
theorem dX0_outletOwner_8 : decode cX0_outletOwner 8 = .ok (.lastore, 1) := dk_80 (dk_at dksX0_outletOwner_0 8 rfl rfl)
theorem dX0_outletOwner_9 : decode cX0_outletOwner 9 = .ok (.goto 6, 3) := dk_167 0 6 (dk_at dksX0_outletOwner_0 9 rfl rfl)
theorem dX0_outletOwner_12 : decode cX0_outletOwner 12 = .ok (.astore_n 3, 1) := dk_78 (dk_at dksX0_outletOwner_0 12 rfl rfl)
theorem dX0_outletOwner_13 : decode cX0_outletOwner 13 = .ok (.iconst 1, 1) := dk_4 (dk_at dksX0_outletOwner_0 13 rfl rfl)
theorem dX0_outletOwner_14 : decode cX0_outletOwner 14 = .ok (.ireturn, 1) := dk_172 (dk_at dksX0_outletOwner_0 14 rfl rfl)
theorem dX0_outletOwner_15 : decode cX0_outletOwner 15 = .ok (.iconst 0, 1) := dk_3 (dk_at dksX0_outletOwner_0 15 rfl rfl)
theorem dX0_outletOwner_16 : decode cX0_outletOwner 16 = .ok (.ireturn, 1) := dk_172 (dk_at dksX0_outletOwner_0 16 rfl rfl)
abbrev cX0_outletCell : ByteArray := method_12_code
def yX0_outletCell : MethodName := ⟨RX0, "outletCell", "(LFranchiseLedger;I[J)I"⟩
def dkwX0_outletCell_0 : List UInt8 := [44, 3, 42, 27, 182, 0, 45, 133, 80, 167, 0, 6, 78, 4, 172, 3, 172]
abbrev dktX0_outletCell_0 : List UInt8 := dkwX0_outletCell_0 ++ []
theorem dksX0_outletCell_0 : cX0_outletCell.data.toList.drop 0 = dktX0_outletCell_0 := by decide +kernel
theorem dX0_outletCell_0 : decode cX0_outletCell 0 = .ok (.aload_n 2, 1) := dk_44 (dk_at dksX0_outletCell_0 0 rfl rfl)
theorem dX0_outletCell_1 : decode cX0_outletCell 1 = .ok (.iconst 0, 1) := dk_3 (dk_at dksX0_outletCell_0 1 rfl rfl)
theorem dX0_outletCell_2 : decode cX0_outletCell 2 = .ok (.aload_n 0, 1) := dk_42 (dk_at dksX0_outletCell_0 2 rfl rfl)
theorem dX0_outletCell_3 : decode cX0_outletCell 3 = .ok (.iload_n 1, 1) := dk_27 (dk_at dksX0_outletCell_0 3 rfl rfl)
theorem dX0_outletCell_4 : decode cX0_outletCell 4 = .ok (.invokevirtual 45, 3) := dk_182 0 45 (dk_at dksX0_outletCell_0 4 rfl rfl)
theorem dX0_outletCell_7 : decode cX0_outletCell 7 = .ok (.i2l, 1) := dk_133 (dk_at dksX0_outletCell_0 7 rfl rfl)
theorem dX0_outletCell_8 : decode cX0_outletCell 8 = .ok (.lastore, 1) := dk_80 (dk_at dksX0_outletCell_0 8 rfl rfl)
theorem dX0_outletCell_9 : decode cX0_outletCell 9 = .ok (.goto 6, 3) := dk_167 0 6 (dk_at dksX0_outletCell_0 9 rfl rfl)
theorem dX0_outletCell_12 : decode cX0_outletCell 12 = .ok (.astore_n 3, 1) := dk_78 (dk_at dksX0_outletCell_0 12 rfl rfl)
theorem dX0_outletCell_13 : decode cX0_outletCell 13 = .ok (.iconst 1, 1) := dk_4 (dk_at dksX0_outletCell_0 13 rfl rfl)
theorem dX0_outletCell_14 : decode cX0_outletCell 14 = .ok (.ireturn, 1) := dk_172 (dk_at dksX0_outletCell_0 14 rfl rfl)
theorem dX0_outletCell_15 : decode cX0_outletCell 15 = .ok (.iconst 0, 1) := dk_3 (dk_at dksX0_outletCell_0 15 rfl rfl)
theorem dX0_outletCell_16 : decode cX0_outletCell 16 = .ok (.ireturn, 1) := dk_172 (dk_at dksX0_outletCell_0 16 rfl rfl)
abbrev cX0_openOutlet : ByteArray := method_13_code
def yX0_openOutlet : MethodName := ⟨RX0, "openOutlet", "(LFranchiseLedger;III[J)I"⟩
def dkwX0_openOutlet_1 : List UInt8 := [172]
abbrev dktX0_openOutlet_1 : List UInt8 := dkwX0_openOutlet_1 ++ []
def dkwX0_openOutlet_0 : List UInt8 := [25, 4, 3, 42, 27, 28, 29, 182, 0, 48, 133, 80, 167, 0, 11, 58, 5, 4, 172, 58, 5, 5, 172, 3]
abbrev dktX0_openOutlet_0 : List UInt8 := dkwX0_openOutlet_0 ++ dktX0_openOutlet_1
theorem dksX0_openOutlet_0 : cX0_openOutlet.data.toList.drop 0 = dktX0_openOutlet_0 := by decide +kernel
theorem dksX0_openOutlet_1 : cX0_openOutlet.data.toList.drop 24 = dktX0_openOutlet_1 := dk_seg dksX0_openOutlet_0 24 rfl rfl
theorem dX0_openOutlet_0 : decode cX0_openOutlet 0 = .ok (.aload 4, 2) := dk_25 4 (dk_at dksX0_openOutlet_0 0 rfl rfl)
theorem dX0_openOutlet_2 : decode cX0_openOutlet 2 = .ok (.iconst 0, 1) := dk_3 (dk_at dksX0_openOutlet_0 2 rfl rfl)
theorem dX0_openOutlet_3 : decode cX0_openOutlet 3 = .ok (.aload_n 0, 1) := dk_42 (dk_at dksX0_openOutlet_0 3 rfl rfl)
theorem dX0_openOutlet_4 : decode cX0_openOutlet 4 = .ok (.iload_n 1, 1) := dk_27 (dk_at dksX0_openOutlet_0 4 rfl rfl)
theorem dX0_openOutlet_5 : decode cX0_openOutlet 5 = .ok (.iload_n 2, 1) := dk_28 (dk_at dksX0_openOutlet_0 5 rfl rfl)
theorem dX0_openOutlet_6 : decode cX0_openOutlet 6 = .ok (.iload_n 3, 1) := dk_29 (dk_at dksX0_openOutlet_0 6 rfl rfl)
theorem dX0_openOutlet_7 : decode cX0_openOutlet 7 = .ok (.invokevirtual 48, 3) := dk_182 0 48 (dk_at dksX0_openOutlet_0 7 rfl rfl)
theorem dX0_openOutlet_10 : decode cX0_openOutlet 10 = .ok (.i2l, 1) := dk_133 (dk_at dksX0_openOutlet_0 10 rfl rfl)
theorem dX0_openOutlet_11 : decode cX0_openOutlet 11 = .ok (.lastore, 1) := dk_80 (dk_at dksX0_openOutlet_0 11 rfl rfl)
theorem dX0_openOutlet_12 : decode cX0_openOutlet 12 = .ok (.goto 11, 3) := dk_167 0 11 (dk_at dksX0_openOutlet_0 12 rfl rfl)
theorem dX0_openOutlet_15 : decode cX0_openOutlet 15 = .ok (.astore 5, 2) := dk_58 5 (dk_at dksX0_openOutlet_0 15 rfl rfl)
theorem dX0_openOutlet_17 : decode cX0_openOutlet 17 = .ok (.iconst 1, 1) := dk_4 (dk_at dksX0_openOutlet_0 17 rfl rfl)
theorem dX0_openOutlet_18 : decode cX0_openOutlet 18 = .ok (.ireturn, 1) := dk_172 (dk_at dksX0_openOutlet_0 18 rfl rfl)
theorem dX0_openOutlet_19 : decode cX0_openOutlet 19 = .ok (.astore 5, 2) := dk_58 5 (dk_at dksX0_openOutlet_0 19 rfl rfl)
theorem dX0_openOutlet_21 : decode cX0_openOutlet 21 = .ok (.iconst 2, 1) := dk_5 (dk_at dksX0_openOutlet_0 21 rfl rfl)
theorem dX0_openOutlet_22 : decode cX0_openOutlet 22 = .ok (.ireturn, 1) := dk_172 (dk_at dksX0_openOutlet_0 22 rfl rfl)
theorem dX0_openOutlet_23 : decode cX0_openOutlet 23 = .ok (.iconst 0, 1) := dk_3 (dk_at dksX0_openOutlet_0 23 rfl rfl)
theorem dX0_openOutlet_24 : decode cX0_openOutlet 24 = .ok (.ireturn, 1) := dk_172 (dk_at dksX0_openOutlet_1 0 rfl rfl)
abbrev cX0_bestSite : ByteArray := method_14_code
def yX0_bestSite : MethodName := ⟨RX0, "bestSite", "(LFranchiseLedger;I[J)I"⟩
def dkwX0_bestSite_0 : List UInt8 := [44, 3, 42, 27, 182, 0, 51, 133, 80, 167, 0, 6, 78, 4, 172, 3, 172]
abbrev dktX0_bestSite_0 : List UInt8 := dkwX0_bestSite_0 ++ []
theorem dksX0_bestSite_0 : cX0_bestSite.data.toList.drop 0 = dktX0_bestSite_0 := by decide +kernel
theorem dX0_bestSite_0 : decode cX0_bestSite 0 = .ok (.aload_n 2, 1) := dk_44 (dk_at dksX0_bestSite_0 0 rfl rfl)
theorem dX0_bestSite_1 : decode cX0_bestSite 1 = .ok (.iconst 0, 1) := dk_3 (dk_at dksX0_bestSite_0 1 rfl rfl)
theorem dX0_bestSite_2 : decode cX0_bestSite 2 = .ok (.aload_n 0, 1) := dk_42 (dk_at dksX0_bestSite_0 2 rfl rfl)
theorem dX0_bestSite_3 : decode cX0_bestSite 3 = .ok (.iload_n 1, 1) := dk_27 (dk_at dksX0_bestSite_0 3 rfl rfl)
theorem dX0_bestSite_4 : decode cX0_bestSite 4 = .ok (.invokevirtual 51, 3) := dk_182 0 51 (dk_at dksX0_bestSite_0 4 rfl rfl)
theorem dX0_bestSite_7 : decode cX0_bestSite 7 = .ok (.i2l, 1) := dk_133 (dk_at dksX0_bestSite_0 7 rfl rfl)
theorem dX0_bestSite_8 : decode cX0_bestSite 8 = .ok (.lastore, 1) := dk_80 (dk_at dksX0_bestSite_0 8 rfl rfl)
theorem dX0_bestSite_9 : decode cX0_bestSite 9 = .ok (.goto 6, 3) := dk_167 0 6 (dk_at dksX0_bestSite_0 9 rfl rfl)
theorem dX0_bestSite_12 : decode cX0_bestSite 12 = .ok (.astore_n 3, 1) := dk_78 (dk_at dksX0_bestSite_0 12 rfl rfl)
theorem dX0_bestSite_13 : decode cX0_bestSite 13 = .ok (.iconst 1, 1) := dk_4 (dk_at dksX0_bestSite_0 13 rfl rfl)
theorem dX0_bestSite_14 : decode cX0_bestSite 14 = .ok (.ireturn, 1) := dk_172 (dk_at dksX0_bestSite_0 14 rfl rfl)
theorem dX0_bestSite_15 : decode cX0_bestSite 15 = .ok (.iconst 0, 1) := dk_3 (dk_at dksX0_bestSite_0 15 rfl rfl)
theorem dX0_bestSite_16 : decode cX0_bestSite 16 = .ok (.ireturn, 1) := dk_172 (dk_at dksX0_bestSite_0 16 rfl rfl)
abbrev cX0_coverage : ByteArray := method_15_code
def yX0_coverage : MethodName := ⟨RX0, "coverage", "(LFranchiseLedger;II[J)I"⟩
def dkwX0_coverage_0 : List UInt8 := [45, 3, 42, 27, 28, 182, 0, 54, 133, 80, 167, 0, 11, 58, 4, 4, 172, 58, 4, 5, 172, 3, 172]
abbrev dktX0_coverage_0 : List UInt8 := dkwX0_coverage_0 ++ []
theorem dksX0_coverage_0 : cX0_coverage.data.toList.drop 0 = dktX0_coverage_0 := by decide +kernel
theorem dX0_coverage_0 : decode cX0_coverage 0 = .ok (.aload_n 3, 1) := dk_45 (dk_at dksX0_coverage_0 0 rfl rfl)
theorem dX0_coverage_1 : decode cX0_coverage 1 = .ok (.iconst 0, 1) := dk_3 (dk_at dksX0_coverage_0 1 rfl rfl)
theorem dX0_coverage_2 : decode cX0_coverage 2 = .ok (.aload_n 0, 1) := dk_42 (dk_at dksX0_coverage_0 2 rfl rfl)
theorem dX0_coverage_3 : decode cX0_coverage 3 = .ok (.iload_n 1, 1) := dk_27 (dk_at dksX0_coverage_0 3 rfl rfl)
theorem dX0_coverage_4 : decode cX0_coverage 4 = .ok (.iload_n 2, 1) := dk_28 (dk_at dksX0_coverage_0 4 rfl rfl)
theorem dX0_coverage_5 : decode cX0_coverage 5 = .ok (.invokevirtual 54, 3) := dk_182 0 54 (dk_at dksX0_coverage_0 5 rfl rfl)
theorem dX0_coverage_8 : decode cX0_coverage 8 = .ok (.i2l, 1) := dk_133 (dk_at dksX0_coverage_0 8 rfl rfl)
theorem dX0_coverage_9 : decode cX0_coverage 9 = .ok (.lastore, 1) := dk_80 (dk_at dksX0_coverage_0 9 rfl rfl)
theorem dX0_coverage_10 : decode cX0_coverage 10 = .ok (.goto 11, 3) := dk_167 0 11 (dk_at dksX0_coverage_0 10 rfl rfl)
theorem dX0_coverage_13 : decode cX0_coverage 13 = .ok (.astore 4, 2) := dk_58 4 (dk_at dksX0_coverage_0 13 rfl rfl)
theorem dX0_coverage_15 : decode cX0_coverage 15 = .ok (.iconst 1, 1) := dk_4 (dk_at dksX0_coverage_0 15 rfl rfl)
theorem dX0_coverage_16 : decode cX0_coverage 16 = .ok (.ireturn, 1) := dk_172 (dk_at dksX0_coverage_0 16 rfl rfl)
theorem dX0_coverage_17 : decode cX0_coverage 17 = .ok (.astore 4, 2) := dk_58 4 (dk_at dksX0_coverage_0 17 rfl rfl)
theorem dX0_coverage_19 : decode cX0_coverage 19 = .ok (.iconst 2, 1) := dk_5 (dk_at dksX0_coverage_0 19 rfl rfl)
theorem dX0_coverage_20 : decode cX0_coverage 20 = .ok (.ireturn, 1) := dk_172 (dk_at dksX0_coverage_0 20 rfl rfl)
theorem dX0_coverage_21 : decode cX0_coverage 21 = .ok (.iconst 0, 1) := dk_3 (dk_at dksX0_coverage_0 21 rfl rfl)
theorem dX0_coverage_22 : decode cX0_coverage 22 = .ok (.ireturn, 1) := dk_172 (dk_at dksX0_coverage_0 22 rfl rfl)
abbrev cX0_rivalCells : ByteArray := method_16_code
def yX0_rivalCells : MethodName := ⟨RX0, "rivalCells", "(LFranchiseLedger;II[J)I"⟩
def dkwX0_rivalCells_0 : List UInt8 := [45, 3, 42, 27, 28, 182, 0, 57, 133, 80, 167, 0, 11, 58, 4, 4, 172, 58, 4, 5, 172, 3, 172]
abbrev dktX0_rivalCells_0 : List UInt8 := dkwX0_rivalCells_0 ++ []
theorem dksX0_rivalCells_0 : cX0_rivalCells.data.toList.drop 0 = dktX0_rivalCells_0 := by decide +kernel
theorem dX0_rivalCells_0 : decode cX0_rivalCells 0 = .ok (.aload_n 3, 1) := dk_45 (dk_at dksX0_rivalCells_0 0 rfl rfl)
theorem dX0_rivalCells_1 : decode cX0_rivalCells 1 = .ok (.iconst 0, 1) := dk_3 (dk_at dksX0_rivalCells_0 1 rfl rfl)
theorem dX0_rivalCells_2 : decode cX0_rivalCells 2 = .ok (.aload_n 0, 1) := dk_42 (dk_at dksX0_rivalCells_0 2 rfl rfl)
theorem dX0_rivalCells_3 : decode cX0_rivalCells 3 = .ok (.iload_n 1, 1) := dk_27 (dk_at dksX0_rivalCells_0 3 rfl rfl)
theorem dX0_rivalCells_4 : decode cX0_rivalCells 4 = .ok (.iload_n 2, 1) := dk_28 (dk_at dksX0_rivalCells_0 4 rfl rfl)
theorem dX0_rivalCells_5 : decode cX0_rivalCells 5 = .ok (.invokevirtual 57, 3) := dk_182 0 57 (dk_at dksX0_rivalCells_0 5 rfl rfl)
theorem dX0_rivalCells_8 : decode cX0_rivalCells 8 = .ok (.i2l, 1) := dk_133 (dk_at dksX0_rivalCells_0 8 rfl rfl)
theorem dX0_rivalCells_9 : decode cX0_rivalCells 9 = .ok (.lastore, 1) := dk_80 (dk_at dksX0_rivalCells_0 9 rfl rfl)
theorem dX0_rivalCells_10 : decode cX0_rivalCells 10 = .ok (.goto 11, 3) := dk_167 0 11 (dk_at dksX0_rivalCells_0 10 rfl rfl)
theorem dX0_rivalCells_13 : decode cX0_rivalCells 13 = .ok (.astore 4, 2) := dk_58 4 (dk_at dksX0_rivalCells_0 13 rfl rfl)
theorem dX0_rivalCells_15 : decode cX0_rivalCells 15 = .ok (.iconst 1, 1) := dk_4 (dk_at dksX0_rivalCells_0 15 rfl rfl)
theorem dX0_rivalCells_16 : decode cX0_rivalCells 16 = .ok (.ireturn, 1) := dk_172 (dk_at dksX0_rivalCells_0 16 rfl rfl)
theorem dX0_rivalCells_17 : decode cX0_rivalCells 17 = .ok (.astore 4, 2) := dk_58 4 (dk_at dksX0_rivalCells_0 17 rfl rfl)
theorem dX0_rivalCells_19 : decode cX0_rivalCells 19 = .ok (.iconst 2, 1) := dk_5 (dk_at dksX0_rivalCells_0 19 rfl rfl)
theorem dX0_rivalCells_20 : decode cX0_rivalCells 20 = .ok (.ireturn, 1) := dk_172 (dk_at dksX0_rivalCells_0 20 rfl rfl)
theorem dX0_rivalCells_21 : decode cX0_rivalCells 21 = .ok (.iconst 0, 1) := dk_3 (dk_at dksX0_rivalCells_0 21 rfl rfl)
theorem dX0_rivalCells_22 : decode cX0_rivalCells 22 = .ok (.ireturn, 1) := dk_172 (dk_at dksX0_rivalCells_0 22 rfl rfl)
abbrev cX0_halvingLine : ByteArray := method_17_code
def yX0_halvingLine : MethodName := ⟨RX0, "halvingLine", "(LFranchiseLedger;I[J)I"⟩
def dkwX0_halvingLine_0 : List UInt8 := [44, 3, 42, 27, 182, 0, 60, 133, 80, 167, 0, 6, 78, 4, 172, 3, 172]
abbrev dktX0_halvingLine_0 : List UInt8 := dkwX0_halvingLine_0 ++ []
theorem dksX0_halvingLine_0 : cX0_halvingLine.data.toList.drop 0 = dktX0_halvingLine_0 := by decide +kernel
theorem dX0_halvingLine_0 : decode cX0_halvingLine 0 = .ok (.aload_n 2, 1) := dk_44 (dk_at dksX0_halvingLine_0 0 rfl rfl)
theorem dX0_halvingLine_1 : decode cX0_halvingLine 1 = .ok (.iconst 0, 1) := dk_3 (dk_at dksX0_halvingLine_0 1 rfl rfl)
theorem dX0_halvingLine_2 : decode cX0_halvingLine 2 = .ok (.aload_n 0, 1) := dk_42 (dk_at dksX0_halvingLine_0 2 rfl rfl)
theorem dX0_halvingLine_3 : decode cX0_halvingLine 3 = .ok (.iload_n 1, 1) := dk_27 (dk_at dksX0_halvingLine_0 3 rfl rfl)
theorem dX0_halvingLine_4 : decode cX0_halvingLine 4 = .ok (.invokevirtual 60, 3) := dk_182 0 60 (dk_at dksX0_halvingLine_0 4 rfl rfl)
theorem dX0_halvingLine_7 : decode cX0_halvingLine 7 = .ok (.i2l, 1) := dk_133 (dk_at dksX0_halvingLine_0 7 rfl rfl)
theorem dX0_halvingLine_8 : decode cX0_halvingLine 8 = .ok (.lastore, 1) := dk_80 (dk_at dksX0_halvingLine_0 8 rfl rfl)
theorem dX0_halvingLine_9 : decode cX0_halvingLine 9 = .ok (.goto 6, 3) := dk_167 0 6 (dk_at dksX0_halvingLine_0 9 rfl rfl)
theorem dX0_halvingLine_12 : decode cX0_halvingLine 12 = .ok (.astore_n 3, 1) := dk_78 (dk_at dksX0_halvingLine_0 12 rfl rfl)
theorem dX0_halvingLine_13 : decode cX0_halvingLine 13 = .ok (.iconst 1, 1) := dk_4 (dk_at dksX0_halvingLine_0 13 rfl rfl)
theorem dX0_halvingLine_14 : decode cX0_halvingLine 14 = .ok (.ireturn, 1) := dk_172 (dk_at dksX0_halvingLine_0 14 rfl rfl)
theorem dX0_halvingLine_15 : decode cX0_halvingLine 15 = .ok (.iconst 0, 1) := dk_3 (dk_at dksX0_halvingLine_0 15 rfl rfl)
theorem dX0_halvingLine_16 : decode cX0_halvingLine 16 = .ok (.ireturn, 1) := dk_172 (dk_at dksX0_halvingLine_0 16 rfl rfl)
abbrev cX0_royalty : ByteArray := method_18_code
def yX0_royalty : MethodName := ⟨RX0, "royalty", "(LFranchiseLedger;IJ[J)I"⟩
def dkwX0_royalty_0 : List UInt8 := [25, 4, 3, 42, 27, 32, 182, 0, 63, 80, 167, 0, 11, 58, 5, 4, 172, 58, 5, 5, 172, 3, 172]
abbrev dktX0_royalty_0 : List UInt8 := dkwX0_royalty_0 ++ []
theorem dksX0_royalty_0 : cX0_royalty.data.toList.drop 0 = dktX0_royalty_0 := by decide +kernel
theorem dX0_royalty_0 : decode cX0_royalty 0 = .ok (.aload 4, 2) := dk_25 4 (dk_at dksX0_royalty_0 0 rfl rfl)
theorem dX0_royalty_2 : decode cX0_royalty 2 = .ok (.iconst 0, 1) := dk_3 (dk_at dksX0_royalty_0 2 rfl rfl)
theorem dX0_royalty_3 : decode cX0_royalty 3 = .ok (.aload_n 0, 1) := dk_42 (dk_at dksX0_royalty_0 3 rfl rfl)
theorem dX0_royalty_4 : decode cX0_royalty 4 = .ok (.iload_n 1, 1) := dk_27 (dk_at dksX0_royalty_0 4 rfl rfl)
theorem dX0_royalty_5 : decode cX0_royalty 5 = .ok (.lload_n 2, 1) := dk_32 (dk_at dksX0_royalty_0 5 rfl rfl)
theorem dX0_royalty_6 : decode cX0_royalty 6 = .ok (.invokevirtual 63, 3) := dk_182 0 63 (dk_at dksX0_royalty_0 6 rfl rfl)
theorem dX0_royalty_9 : decode cX0_royalty 9 = .ok (.lastore, 1) := dk_80 (dk_at dksX0_royalty_0 9 rfl rfl)
theorem dX0_royalty_10 : decode cX0_royalty 10 = .ok (.goto 11, 3) := dk_167 0 11 (dk_at dksX0_royalty_0 10 rfl rfl)
theorem dX0_royalty_13 : decode cX0_royalty 13 = .ok (.astore 5, 2) := dk_58 5 (dk_at dksX0_royalty_0 13 rfl rfl)
theorem dX0_royalty_15 : decode cX0_royalty 15 = .ok (.iconst 1, 1) := dk_4 (dk_at dksX0_royalty_0 15 rfl rfl)
theorem dX0_royalty_16 : decode cX0_royalty 16 = .ok (.ireturn, 1) := dk_172 (dk_at dksX0_royalty_0 16 rfl rfl)
theorem dX0_royalty_17 : decode cX0_royalty 17 = .ok (.astore 5, 2) := dk_58 5 (dk_at dksX0_royalty_0 17 rfl rfl)
theorem dX0_royalty_19 : decode cX0_royalty 19 = .ok (.iconst 2, 1) := dk_5 (dk_at dksX0_royalty_0 19 rfl rfl)
theorem dX0_royalty_20 : decode cX0_royalty 20 = .ok (.ireturn, 1) := dk_172 (dk_at dksX0_royalty_0 20 rfl rfl)
theorem dX0_royalty_21 : decode cX0_royalty 21 = .ok (.iconst 0, 1) := dk_3 (dk_at dksX0_royalty_0 21 rfl rfl)
theorem dX0_royalty_22 : decode cX0_royalty 22 = .ok (.ireturn, 1) := dk_172 (dk_at dksX0_royalty_0 22 rfl rfl)
abbrev cX0_planOf : ByteArray := method_19_code
def yX0_planOf : MethodName := ⟨RX0, "planOf", "(LFranchiseLedger;I[J)I"⟩
def dkwX0_planOf_0 : List UInt8 := [44, 3, 42, 27, 182, 0, 67, 133, 80, 167, 0, 6, 78, 4, 172, 3, 172]
abbrev dktX0_planOf_0 : List UInt8 := dkwX0_planOf_0 ++ []
theorem dksX0_planOf_0 : cX0_planOf.data.toList.drop 0 = dktX0_planOf_0 := by decide +kernel
theorem dX0_planOf_0 : decode cX0_planOf 0 = .ok (.aload_n 2, 1) := dk_44 (dk_at dksX0_planOf_0 0 rfl rfl)
theorem dX0_planOf_1 : decode cX0_planOf 1 = .ok (.iconst 0, 1) := dk_3 (dk_at dksX0_planOf_0 1 rfl rfl)
theorem dX0_planOf_2 : decode cX0_planOf 2 = .ok (.aload_n 0, 1) := dk_42 (dk_at dksX0_planOf_0 2 rfl rfl)
theorem dX0_planOf_3 : decode cX0_planOf 3 = .ok (.iload_n 1, 1) := dk_27 (dk_at dksX0_planOf_0 3 rfl rfl)
theorem dX0_planOf_4 : decode cX0_planOf 4 = .ok (.invokevirtual 67, 3) := dk_182 0 67 (dk_at dksX0_planOf_0 4 rfl rfl)
theorem dX0_planOf_7 : decode cX0_planOf 7 = .ok (.i2l, 1) := dk_133 (dk_at dksX0_planOf_0 7 rfl rfl)
theorem dX0_planOf_8 : decode cX0_planOf 8 = .ok (.lastore, 1) := dk_80 (dk_at dksX0_planOf_0 8 rfl rfl)
theorem dX0_planOf_9 : decode cX0_planOf 9 = .ok (.goto 6, 3) := dk_167 0 6 (dk_at dksX0_planOf_0 9 rfl rfl)
theorem dX0_planOf_12 : decode cX0_planOf 12 = .ok (.astore_n 3, 1) := dk_78 (dk_at dksX0_planOf_0 12 rfl rfl)
theorem dX0_planOf_13 : decode cX0_planOf 13 = .ok (.iconst 1, 1) := dk_4 (dk_at dksX0_planOf_0 13 rfl rfl)
theorem dX0_planOf_14 : decode cX0_planOf 14 = .ok (.ireturn, 1) := dk_172 (dk_at dksX0_planOf_0 14 rfl rfl)
theorem dX0_planOf_15 : decode cX0_planOf 15 = .ok (.iconst 0, 1) := dk_3 (dk_at dksX0_planOf_0 15 rfl rfl)
theorem dX0_planOf_16 : decode cX0_planOf 16 = .ok (.ireturn, 1) := dk_172 (dk_at dksX0_planOf_0 16 rfl rfl)
abbrev cX0_setPlan : ByteArray := method_20_code
def yX0_setPlan : MethodName := ⟨RX0, "setPlan", "(LFranchiseLedger;II[J)I"⟩
def dkwX0_setPlan_0 : List UInt8 := [45, 3, 42, 27, 28, 182, 0, 70, 133, 80, 167, 0, 7, 58, 4, 4, 172, 3, 172]
abbrev dktX0_setPlan_0 : List UInt8 := dkwX0_setPlan_0 ++ []
theorem dksX0_setPlan_0 : cX0_setPlan.data.toList.drop 0 = dktX0_setPlan_0 := by decide +kernel
theorem dX0_setPlan_0 : decode cX0_setPlan 0 = .ok (.aload_n 3, 1) := dk_45 (dk_at dksX0_setPlan_0 0 rfl rfl)
theorem dX0_setPlan_1 : decode cX0_setPlan 1 = .ok (.iconst 0, 1) := dk_3 (dk_at dksX0_setPlan_0 1 rfl rfl)
theorem dX0_setPlan_2 : decode cX0_setPlan 2 = .ok (.aload_n 0, 1) := dk_42 (dk_at dksX0_setPlan_0 2 rfl rfl)
theorem dX0_setPlan_3 : decode cX0_setPlan 3 = .ok (.iload_n 1, 1) := dk_27 (dk_at dksX0_setPlan_0 3 rfl rfl)
theorem dX0_setPlan_4 : decode cX0_setPlan 4 = .ok (.iload_n 2, 1) := dk_28 (dk_at dksX0_setPlan_0 4 rfl rfl)
theorem dX0_setPlan_5 : decode cX0_setPlan 5 = .ok (.invokevirtual 70, 3) := dk_182 0 70 (dk_at dksX0_setPlan_0 5 rfl rfl)
theorem dX0_setPlan_8 : decode cX0_setPlan 8 = .ok (.i2l, 1) := dk_133 (dk_at dksX0_setPlan_0 8 rfl rfl)
theorem dX0_setPlan_9 : decode cX0_setPlan 9 = .ok (.lastore, 1) := dk_80 (dk_at dksX0_setPlan_0 9 rfl rfl)
theorem dX0_setPlan_10 : decode cX0_setPlan 10 = .ok (.goto 7, 3) := dk_167 0 7 (dk_at dksX0_setPlan_0 10 rfl rfl)
theorem dX0_setPlan_13 : decode cX0_setPlan 13 = .ok (.astore 4, 2) := dk_58 4 (dk_at dksX0_setPlan_0 13 rfl rfl)
theorem dX0_setPlan_15 : decode cX0_setPlan 15 = .ok (.iconst 1, 1) := dk_4 (dk_at dksX0_setPlan_0 15 rfl rfl)
theorem dX0_setPlan_16 : decode cX0_setPlan 16 = .ok (.ireturn, 1) := dk_172 (dk_at dksX0_setPlan_0 16 rfl rfl)
theorem dX0_setPlan_17 : decode cX0_setPlan 17 = .ok (.iconst 0, 1) := dk_3 (dk_at dksX0_setPlan_0 17 rfl rfl)
theorem dX0_setPlan_18 : decode cX0_setPlan 18 = .ok (.ireturn, 1) := dk_172 (dk_at dksX0_setPlan_0 18 rfl rfl)
abbrev cX0_cheapestPlan : ByteArray := method_21_code
def yX0_cheapestPlan : MethodName := ⟨RX0, "cheapestPlan", "(LFranchiseLedger;I[J)I"⟩
def dkwX0_cheapestPlan_0 : List UInt8 := [44, 3, 42, 27, 182, 0, 73, 133, 80, 167, 0, 6, 78, 4, 172, 3, 172]
abbrev dktX0_cheapestPlan_0 : List UInt8 := dkwX0_cheapestPlan_0 ++ []
theorem dksX0_cheapestPlan_0 : cX0_cheapestPlan.data.toList.drop 0 = dktX0_cheapestPlan_0 := by decide +kernel
theorem dX0_cheapestPlan_0 : decode cX0_cheapestPlan 0 = .ok (.aload_n 2, 1) := dk_44 (dk_at dksX0_cheapestPlan_0 0 rfl rfl)
theorem dX0_cheapestPlan_1 : decode cX0_cheapestPlan 1 = .ok (.iconst 0, 1) := dk_3 (dk_at dksX0_cheapestPlan_0 1 rfl rfl)
theorem dX0_cheapestPlan_2 : decode cX0_cheapestPlan 2 = .ok (.aload_n 0, 1) := dk_42 (dk_at dksX0_cheapestPlan_0 2 rfl rfl)
theorem dX0_cheapestPlan_3 : decode cX0_cheapestPlan 3 = .ok (.iload_n 1, 1) := dk_27 (dk_at dksX0_cheapestPlan_0 3 rfl rfl)
theorem dX0_cheapestPlan_4 : decode cX0_cheapestPlan 4 = .ok (.invokevirtual 73, 3) := dk_182 0 73 (dk_at dksX0_cheapestPlan_0 4 rfl rfl)
theorem dX0_cheapestPlan_7 : decode cX0_cheapestPlan 7 = .ok (.i2l, 1) := dk_133 (dk_at dksX0_cheapestPlan_0 7 rfl rfl)
theorem dX0_cheapestPlan_8 : decode cX0_cheapestPlan 8 = .ok (.lastore, 1) := dk_80 (dk_at dksX0_cheapestPlan_0 8 rfl rfl)
theorem dX0_cheapestPlan_9 : decode cX0_cheapestPlan 9 = .ok (.goto 6, 3) := dk_167 0 6 (dk_at dksX0_cheapestPlan_0 9 rfl rfl)
theorem dX0_cheapestPlan_12 : decode cX0_cheapestPlan 12 = .ok (.astore_n 3, 1) := dk_78 (dk_at dksX0_cheapestPlan_0 12 rfl rfl)
theorem dX0_cheapestPlan_13 : decode cX0_cheapestPlan 13 = .ok (.iconst 1, 1) := dk_4 (dk_at dksX0_cheapestPlan_0 13 rfl rfl)
theorem dX0_cheapestPlan_14 : decode cX0_cheapestPlan 14 = .ok (.ireturn, 1) := dk_172 (dk_at dksX0_cheapestPlan_0 14 rfl rfl)
theorem dX0_cheapestPlan_15 : decode cX0_cheapestPlan 15 = .ok (.iconst 0, 1) := dk_3 (dk_at dksX0_cheapestPlan_0 15 rfl rfl)
theorem dX0_cheapestPlan_16 : decode cX0_cheapestPlan 16 = .ok (.ireturn, 1) := dk_172 (dk_at dksX0_cheapestPlan_0 16 rfl rfl)
abbrev cX0_reportSales : ByteArray := method_22_code
def yX0_reportSales : MethodName := ⟨RX0, "reportSales", "(LFranchiseLedger;IJ[J)I"⟩
def dkwX0_reportSales_1 : List UInt8 := [172, 3, 172]
abbrev dktX0_reportSales_1 : List UInt8 := dkwX0_reportSales_1 ++ []
def dkwX0_reportSales_0 : List UInt8 := [25, 4, 3, 42, 27, 32, 182, 0, 76, 80, 167, 0, 15, 58, 5, 4, 172, 58, 5, 5, 172, 58, 5, 6]
abbrev dktX0_reportSales_0 : List UInt8 := dkwX0_reportSales_0 ++ dktX0_reportSales_1
theorem dksX0_reportSales_0 : cX0_reportSales.data.toList.drop 0 = dktX0_reportSales_0 := by decide +kernel
theorem dksX0_reportSales_1 : cX0_reportSales.data.toList.drop 24 = dktX0_reportSales_1 := dk_seg dksX0_reportSales_0 24 rfl rfl
theorem dX0_reportSales_0 : decode cX0_reportSales 0 = .ok (.aload 4, 2) := dk_25 4 (dk_at dksX0_reportSales_0 0 rfl rfl)
theorem dX0_reportSales_2 : decode cX0_reportSales 2 = .ok (.iconst 0, 1) := dk_3 (dk_at dksX0_reportSales_0 2 rfl rfl)
theorem dX0_reportSales_3 : decode cX0_reportSales 3 = .ok (.aload_n 0, 1) := dk_42 (dk_at dksX0_reportSales_0 3 rfl rfl)
theorem dX0_reportSales_4 : decode cX0_reportSales 4 = .ok (.iload_n 1, 1) := dk_27 (dk_at dksX0_reportSales_0 4 rfl rfl)
theorem dX0_reportSales_5 : decode cX0_reportSales 5 = .ok (.lload_n 2, 1) := dk_32 (dk_at dksX0_reportSales_0 5 rfl rfl)
theorem dX0_reportSales_6 : decode cX0_reportSales 6 = .ok (.invokevirtual 76, 3) := dk_182 0 76 (dk_at dksX0_reportSales_0 6 rfl rfl)
theorem dX0_reportSales_9 : decode cX0_reportSales 9 = .ok (.lastore, 1) := dk_80 (dk_at dksX0_reportSales_0 9 rfl rfl)
theorem dX0_reportSales_10 : decode cX0_reportSales 10 = .ok (.goto 15, 3) := dk_167 0 15 (dk_at dksX0_reportSales_0 10 rfl rfl)
theorem dX0_reportSales_13 : decode cX0_reportSales 13 = .ok (.astore 5, 2) := dk_58 5 (dk_at dksX0_reportSales_0 13 rfl rfl)
theorem dX0_reportSales_15 : decode cX0_reportSales 15 = .ok (.iconst 1, 1) := dk_4 (dk_at dksX0_reportSales_0 15 rfl rfl)
theorem dX0_reportSales_16 : decode cX0_reportSales 16 = .ok (.ireturn, 1) := dk_172 (dk_at dksX0_reportSales_0 16 rfl rfl)
theorem dX0_reportSales_17 : decode cX0_reportSales 17 = .ok (.astore 5, 2) := dk_58 5 (dk_at dksX0_reportSales_0 17 rfl rfl)
theorem dX0_reportSales_19 : decode cX0_reportSales 19 = .ok (.iconst 2, 1) := dk_5 (dk_at dksX0_reportSales_0 19 rfl rfl)
theorem dX0_reportSales_20 : decode cX0_reportSales 20 = .ok (.ireturn, 1) := dk_172 (dk_at dksX0_reportSales_0 20 rfl rfl)
theorem dX0_reportSales_21 : decode cX0_reportSales 21 = .ok (.astore 5, 2) := dk_58 5 (dk_at dksX0_reportSales_0 21 rfl rfl)
theorem dX0_reportSales_23 : decode cX0_reportSales 23 = .ok (.iconst 3, 1) := dk_6 (dk_at dksX0_reportSales_0 23 rfl rfl)
theorem dX0_reportSales_24 : decode cX0_reportSales 24 = .ok (.ireturn, 1) := dk_172 (dk_at dksX0_reportSales_1 0 rfl rfl)
theorem dX0_reportSales_25 : decode cX0_reportSales 25 = .ok (.iconst 0, 1) := dk_3 (dk_at dksX0_reportSales_1 1 rfl rfl)
theorem dX0_reportSales_26 : decode cX0_reportSales 26 = .ok (.ireturn, 1) := dk_172 (dk_at dksX0_reportSales_1 2 rfl rfl)
abbrev cX0_deliver : ByteArray := method_23_code
def yX0_deliver : MethodName := ⟨RX0, "deliver", "(LFranchiseLedger;IIIJ[J)I"⟩
def dkwX0_deliver_1 : List UInt8 := [58, 7, 6, 172, 3, 172]
abbrev dktX0_deliver_1 : List UInt8 := dkwX0_deliver_1 ++ []
def dkwX0_deliver_0 : List UInt8 := [25, 6, 3, 42, 27, 28, 29, 22, 4, 182, 0, 81, 80, 167, 0, 15, 58, 7, 4, 172, 58, 7, 5, 172]
abbrev dktX0_deliver_0 : List UInt8 := dkwX0_deliver_0 ++ dktX0_deliver_1
theorem dksX0_deliver_0 : cX0_deliver.data.toList.drop 0 = dktX0_deliver_0 := by decide +kernel
theorem dksX0_deliver_1 : cX0_deliver.data.toList.drop 24 = dktX0_deliver_1 := dk_seg dksX0_deliver_0 24 rfl rfl
theorem dX0_deliver_0 : decode cX0_deliver 0 = .ok (.aload 6, 2) := dk_25 6 (dk_at dksX0_deliver_0 0 rfl rfl)
theorem dX0_deliver_2 : decode cX0_deliver 2 = .ok (.iconst 0, 1) := dk_3 (dk_at dksX0_deliver_0 2 rfl rfl)
theorem dX0_deliver_3 : decode cX0_deliver 3 = .ok (.aload_n 0, 1) := dk_42 (dk_at dksX0_deliver_0 3 rfl rfl)
theorem dX0_deliver_4 : decode cX0_deliver 4 = .ok (.iload_n 1, 1) := dk_27 (dk_at dksX0_deliver_0 4 rfl rfl)
theorem dX0_deliver_5 : decode cX0_deliver 5 = .ok (.iload_n 2, 1) := dk_28 (dk_at dksX0_deliver_0 5 rfl rfl)
theorem dX0_deliver_6 : decode cX0_deliver 6 = .ok (.iload_n 3, 1) := dk_29 (dk_at dksX0_deliver_0 6 rfl rfl)
theorem dX0_deliver_7 : decode cX0_deliver 7 = .ok (.lload 4, 2) := dk_22 4 (dk_at dksX0_deliver_0 7 rfl rfl)
theorem dX0_deliver_9 : decode cX0_deliver 9 = .ok (.invokevirtual 81, 3) := dk_182 0 81 (dk_at dksX0_deliver_0 9 rfl rfl)
theorem dX0_deliver_12 : decode cX0_deliver 12 = .ok (.lastore, 1) := dk_80 (dk_at dksX0_deliver_0 12 rfl rfl)
theorem dX0_deliver_13 : decode cX0_deliver 13 = .ok (.goto 15, 3) := dk_167 0 15 (dk_at dksX0_deliver_0 13 rfl rfl)
theorem dX0_deliver_16 : decode cX0_deliver 16 = .ok (.astore 7, 2) := dk_58 7 (dk_at dksX0_deliver_0 16 rfl rfl)
theorem dX0_deliver_18 : decode cX0_deliver 18 = .ok (.iconst 1, 1) := dk_4 (dk_at dksX0_deliver_0 18 rfl rfl)
theorem dX0_deliver_19 : decode cX0_deliver 19 = .ok (.ireturn, 1) := dk_172 (dk_at dksX0_deliver_0 19 rfl rfl)
theorem dX0_deliver_20 : decode cX0_deliver 20 = .ok (.astore 7, 2) := dk_58 7 (dk_at dksX0_deliver_0 20 rfl rfl)
theorem dX0_deliver_22 : decode cX0_deliver 22 = .ok (.iconst 2, 1) := dk_5 (dk_at dksX0_deliver_0 22 rfl rfl)
theorem dX0_deliver_23 : decode cX0_deliver 23 = .ok (.ireturn, 1) := dk_172 (dk_at dksX0_deliver_0 23 rfl rfl)
theorem dX0_deliver_24 : decode cX0_deliver 24 = .ok (.astore 7, 2) := dk_58 7 (dk_at dksX0_deliver_1 0 rfl rfl)
theorem dX0_deliver_26 : decode cX0_deliver 26 = .ok (.iconst 3, 1) := dk_6 (dk_at dksX0_deliver_1 2 rfl rfl)
theorem dX0_deliver_27 : decode cX0_deliver 27 = .ok (.ireturn, 1) := dk_172 (dk_at dksX0_deliver_1 3 rfl rfl)
theorem dX0_deliver_28 : decode cX0_deliver 28 = .ok (.iconst 0, 1) := dk_3 (dk_at dksX0_deliver_1 4 rfl rfl)
theorem dX0_deliver_29 : decode cX0_deliver 29 = .ok (.ireturn, 1) := dk_172 (dk_at dksX0_deliver_1 5 rfl rfl)
abbrev cX0_sales : ByteArray := method_24_code
def yX0_sales : MethodName := ⟨RX0, "sales", "(LFranchiseLedger;I[J)I"⟩
def dkwX0_sales_0 : List UInt8 := [44, 3, 42, 27, 182, 0, 85, 80, 167, 0, 6, 78, 4, 172, 3, 172]
abbrev dktX0_sales_0 : List UInt8 := dkwX0_sales_0 ++ []
theorem dksX0_sales_0 : cX0_sales.data.toList.drop 0 = dktX0_sales_0 := by decide +kernel
theorem dX0_sales_0 : decode cX0_sales 0 = .ok (.aload_n 2, 1) := dk_44 (dk_at dksX0_sales_0 0 rfl rfl)
theorem dX0_sales_1 : decode cX0_sales 1 = .ok (.iconst 0, 1) := dk_3 (dk_at dksX0_sales_0 1 rfl rfl)
theorem dX0_sales_2 : decode cX0_sales 2 = .ok (.aload_n 0, 1) := dk_42 (dk_at dksX0_sales_0 2 rfl rfl)
theorem dX0_sales_3 : decode cX0_sales 3 = .ok (.iload_n 1, 1) := dk_27 (dk_at dksX0_sales_0 3 rfl rfl)
theorem dX0_sales_4 : decode cX0_sales 4 = .ok (.invokevirtual 85, 3) := dk_182 0 85 (dk_at dksX0_sales_0 4 rfl rfl)
theorem dX0_sales_7 : decode cX0_sales 7 = .ok (.lastore, 1) := dk_80 (dk_at dksX0_sales_0 7 rfl rfl)
theorem dX0_sales_8 : decode cX0_sales 8 = .ok (.goto 6, 3) := dk_167 0 6 (dk_at dksX0_sales_0 8 rfl rfl)
theorem dX0_sales_11 : decode cX0_sales 11 = .ok (.astore_n 3, 1) := dk_78 (dk_at dksX0_sales_0 11 rfl rfl)
theorem dX0_sales_12 : decode cX0_sales 12 = .ok (.iconst 1, 1) := dk_4 (dk_at dksX0_sales_0 12 rfl rfl)
theorem dX0_sales_13 : decode cX0_sales 13 = .ok (.ireturn, 1) := dk_172 (dk_at dksX0_sales_0 13 rfl rfl)
theorem dX0_sales_14 : decode cX0_sales 14 = .ok (.iconst 0, 1) := dk_3 (dk_at dksX0_sales_0 14 rfl rfl)
theorem dX0_sales_15 : decode cX0_sales 15 = .ok (.ireturn, 1) := dk_172 (dk_at dksX0_sales_0 15 rfl rfl)
abbrev cX0_salesOf : ByteArray := method_25_code
def yX0_salesOf : MethodName := ⟨RX0, "salesOf", "(LFranchiseLedger;II[J)I"⟩
def dkwX0_salesOf_0 : List UInt8 := [45, 3, 42, 27, 28, 182, 0, 89, 80, 167, 0, 11, 58, 4, 4, 172, 58, 4, 5, 172, 3, 172]
abbrev dktX0_salesOf_0 : List UInt8 := dkwX0_salesOf_0 ++ []
theorem dksX0_salesOf_0 : cX0_salesOf.data.toList.drop 0 = dktX0_salesOf_0 := by decide +kernel
theorem dX0_salesOf_0 : decode cX0_salesOf 0 = .ok (.aload_n 3, 1) := dk_45 (dk_at dksX0_salesOf_0 0 rfl rfl)
theorem dX0_salesOf_1 : decode cX0_salesOf 1 = .ok (.iconst 0, 1) := dk_3 (dk_at dksX0_salesOf_0 1 rfl rfl)
theorem dX0_salesOf_2 : decode cX0_salesOf 2 = .ok (.aload_n 0, 1) := dk_42 (dk_at dksX0_salesOf_0 2 rfl rfl)
theorem dX0_salesOf_3 : decode cX0_salesOf 3 = .ok (.iload_n 1, 1) := dk_27 (dk_at dksX0_salesOf_0 3 rfl rfl)
theorem dX0_salesOf_4 : decode cX0_salesOf 4 = .ok (.iload_n 2, 1) := dk_28 (dk_at dksX0_salesOf_0 4 rfl rfl)
theorem dX0_salesOf_5 : decode cX0_salesOf 5 = .ok (.invokevirtual 89, 3) := dk_182 0 89 (dk_at dksX0_salesOf_0 5 rfl rfl)
theorem dX0_salesOf_8 : decode cX0_salesOf 8 = .ok (.lastore, 1) := dk_80 (dk_at dksX0_salesOf_0 8 rfl rfl)
theorem dX0_salesOf_9 : decode cX0_salesOf 9 = .ok (.goto 11, 3) := dk_167 0 11 (dk_at dksX0_salesOf_0 9 rfl rfl)
theorem dX0_salesOf_12 : decode cX0_salesOf 12 = .ok (.astore 4, 2) := dk_58 4 (dk_at dksX0_salesOf_0 12 rfl rfl)
theorem dX0_salesOf_14 : decode cX0_salesOf 14 = .ok (.iconst 1, 1) := dk_4 (dk_at dksX0_salesOf_0 14 rfl rfl)
theorem dX0_salesOf_15 : decode cX0_salesOf 15 = .ok (.ireturn, 1) := dk_172 (dk_at dksX0_salesOf_0 15 rfl rfl)
theorem dX0_salesOf_16 : decode cX0_salesOf 16 = .ok (.astore 4, 2) := dk_58 4 (dk_at dksX0_salesOf_0 16 rfl rfl)
theorem dX0_salesOf_18 : decode cX0_salesOf 18 = .ok (.iconst 2, 1) := dk_5 (dk_at dksX0_salesOf_0 18 rfl rfl)
theorem dX0_salesOf_19 : decode cX0_salesOf 19 = .ok (.ireturn, 1) := dk_172 (dk_at dksX0_salesOf_0 19 rfl rfl)
theorem dX0_salesOf_20 : decode cX0_salesOf 20 = .ok (.iconst 0, 1) := dk_3 (dk_at dksX0_salesOf_0 20 rfl rfl)
theorem dX0_salesOf_21 : decode cX0_salesOf 21 = .ok (.ireturn, 1) := dk_172 (dk_at dksX0_salesOf_0 21 rfl rfl)
abbrev cX0_creditDue : ByteArray := method_26_code
def yX0_creditDue : MethodName := ⟨RX0, "creditDue", "(LFranchiseLedger;II[J)I"⟩
def dkwX0_creditDue_0 : List UInt8 := [45, 3, 42, 27, 28, 182, 0, 93, 80, 167, 0, 7, 58, 4, 4, 172, 3, 172]
abbrev dktX0_creditDue_0 : List UInt8 := dkwX0_creditDue_0 ++ []
theorem dksX0_creditDue_0 : cX0_creditDue.data.toList.drop 0 = dktX0_creditDue_0 := by decide +kernel
theorem dX0_creditDue_0 : decode cX0_creditDue 0 = .ok (.aload_n 3, 1) := dk_45 (dk_at dksX0_creditDue_0 0 rfl rfl)
theorem dX0_creditDue_1 : decode cX0_creditDue 1 = .ok (.iconst 0, 1) := dk_3 (dk_at dksX0_creditDue_0 1 rfl rfl)
theorem dX0_creditDue_2 : decode cX0_creditDue 2 = .ok (.aload_n 0, 1) := dk_42 (dk_at dksX0_creditDue_0 2 rfl rfl)
theorem dX0_creditDue_3 : decode cX0_creditDue 3 = .ok (.iload_n 1, 1) := dk_27 (dk_at dksX0_creditDue_0 3 rfl rfl)
theorem dX0_creditDue_4 : decode cX0_creditDue 4 = .ok (.iload_n 2, 1) := dk_28 (dk_at dksX0_creditDue_0 4 rfl rfl)
theorem dX0_creditDue_5 : decode cX0_creditDue 5 = .ok (.invokevirtual 93, 3) := dk_182 0 93 (dk_at dksX0_creditDue_0 5 rfl rfl)
theorem dX0_creditDue_8 : decode cX0_creditDue 8 = .ok (.lastore, 1) := dk_80 (dk_at dksX0_creditDue_0 8 rfl rfl)
theorem dX0_creditDue_9 : decode cX0_creditDue 9 = .ok (.goto 7, 3) := dk_167 0 7 (dk_at dksX0_creditDue_0 9 rfl rfl)
theorem dX0_creditDue_12 : decode cX0_creditDue 12 = .ok (.astore 4, 2) := dk_58 4 (dk_at dksX0_creditDue_0 12 rfl rfl)
theorem dX0_creditDue_14 : decode cX0_creditDue 14 = .ok (.iconst 1, 1) := dk_4 (dk_at dksX0_creditDue_0 14 rfl rfl)
theorem dX0_creditDue_15 : decode cX0_creditDue 15 = .ok (.ireturn, 1) := dk_172 (dk_at dksX0_creditDue_0 15 rfl rfl)
theorem dX0_creditDue_16 : decode cX0_creditDue 16 = .ok (.iconst 0, 1) := dk_3 (dk_at dksX0_creditDue_0 16 rfl rfl)
theorem dX0_creditDue_17 : decode cX0_creditDue 17 = .ok (.ireturn, 1) := dk_172 (dk_at dksX0_creditDue_0 17 rfl rfl)
abbrev cX0_closeMonth : ByteArray := method_27_code
def yX0_closeMonth : MethodName := ⟨RX0, "closeMonth", "(LFranchiseLedger;[J)I"⟩
def dkwX0_closeMonth_0 : List UInt8 := [43, 3, 42, 182, 0, 96, 133, 80, 167, 0, 6, 77, 4, 172, 3, 172]
abbrev dktX0_closeMonth_0 : List UInt8 := dkwX0_closeMonth_0 ++ []
theorem dksX0_closeMonth_0 : cX0_closeMonth.data.toList.drop 0 = dktX0_closeMonth_0 := by decide +kernel
theorem dX0_closeMonth_0 : decode cX0_closeMonth 0 = .ok (.aload_n 1, 1) := dk_43 (dk_at dksX0_closeMonth_0 0 rfl rfl)
theorem dX0_closeMonth_1 : decode cX0_closeMonth 1 = .ok (.iconst 0, 1) := dk_3 (dk_at dksX0_closeMonth_0 1 rfl rfl)
theorem dX0_closeMonth_2 : decode cX0_closeMonth 2 = .ok (.aload_n 0, 1) := dk_42 (dk_at dksX0_closeMonth_0 2 rfl rfl)
theorem dX0_closeMonth_3 : decode cX0_closeMonth 3 = .ok (.invokevirtual 96, 3) := dk_182 0 96 (dk_at dksX0_closeMonth_0 3 rfl rfl)
theorem dX0_closeMonth_6 : decode cX0_closeMonth 6 = .ok (.i2l, 1) := dk_133 (dk_at dksX0_closeMonth_0 6 rfl rfl)
theorem dX0_closeMonth_7 : decode cX0_closeMonth 7 = .ok (.lastore, 1) := dk_80 (dk_at dksX0_closeMonth_0 7 rfl rfl)
theorem dX0_closeMonth_8 : decode cX0_closeMonth 8 = .ok (.goto 6, 3) := dk_167 0 6 (dk_at dksX0_closeMonth_0 8 rfl rfl)
theorem dX0_closeMonth_11 : decode cX0_closeMonth 11 = .ok (.astore_n 2, 1) := dk_77 (dk_at dksX0_closeMonth_0 11 rfl rfl)
theorem dX0_closeMonth_12 : decode cX0_closeMonth 12 = .ok (.iconst 1, 1) := dk_4 (dk_at dksX0_closeMonth_0 12 rfl rfl)
theorem dX0_closeMonth_13 : decode cX0_closeMonth 13 = .ok (.ireturn, 1) := dk_172 (dk_at dksX0_closeMonth_0 13 rfl rfl)
theorem dX0_closeMonth_14 : decode cX0_closeMonth 14 = .ok (.iconst 0, 1) := dk_3 (dk_at dksX0_closeMonth_0 14 rfl rfl)
theorem dX0_closeMonth_15 : decode cX0_closeMonth 15 = .ok (.ireturn, 1) := dk_172 (dk_at dksX0_closeMonth_0 15 rfl rfl)
abbrev cX0_invoice : ByteArray := method_28_code
def yX0_invoice : MethodName := ⟨RX0, "invoice", "(LFranchiseLedger;III[J)I"⟩
def dkwX0_invoice_0 : List UInt8 := [25, 4, 3, 42, 27, 28, 29, 182, 0, 100, 80, 167, 0, 11, 58, 5, 4, 172, 58, 5, 5, 172, 3, 172]
abbrev dktX0_invoice_0 : List UInt8 := dkwX0_invoice_0 ++ []
theorem dksX0_invoice_0 : cX0_invoice.data.toList.drop 0 = dktX0_invoice_0 := by decide +kernel
theorem dX0_invoice_0 : decode cX0_invoice 0 = .ok (.aload 4, 2) := dk_25 4 (dk_at dksX0_invoice_0 0 rfl rfl)
theorem dX0_invoice_2 : decode cX0_invoice 2 = .ok (.iconst 0, 1) := dk_3 (dk_at dksX0_invoice_0 2 rfl rfl)
theorem dX0_invoice_3 : decode cX0_invoice 3 = .ok (.aload_n 0, 1) := dk_42 (dk_at dksX0_invoice_0 3 rfl rfl)
theorem dX0_invoice_4 : decode cX0_invoice 4 = .ok (.iload_n 1, 1) := dk_27 (dk_at dksX0_invoice_0 4 rfl rfl)
theorem dX0_invoice_5 : decode cX0_invoice 5 = .ok (.iload_n 2, 1) := dk_28 (dk_at dksX0_invoice_0 5 rfl rfl)
theorem dX0_invoice_6 : decode cX0_invoice 6 = .ok (.iload_n 3, 1) := dk_29 (dk_at dksX0_invoice_0 6 rfl rfl)
theorem dX0_invoice_7 : decode cX0_invoice 7 = .ok (.invokevirtual 100, 3) := dk_182 0 100 (dk_at dksX0_invoice_0 7 rfl rfl)
theorem dX0_invoice_10 : decode cX0_invoice 10 = .ok (.lastore, 1) := dk_80 (dk_at dksX0_invoice_0 10 rfl rfl)
theorem dX0_invoice_11 : decode cX0_invoice 11 = .ok (.goto 11, 3) := dk_167 0 11 (dk_at dksX0_invoice_0 11 rfl rfl)
theorem dX0_invoice_14 : decode cX0_invoice 14 = .ok (.astore 5, 2) := dk_58 5 (dk_at dksX0_invoice_0 14 rfl rfl)
theorem dX0_invoice_16 : decode cX0_invoice 16 = .ok (.iconst 1, 1) := dk_4 (dk_at dksX0_invoice_0 16 rfl rfl)
theorem dX0_invoice_17 : decode cX0_invoice 17 = .ok (.ireturn, 1) := dk_172 (dk_at dksX0_invoice_0 17 rfl rfl)
theorem dX0_invoice_18 : decode cX0_invoice 18 = .ok (.astore 5, 2) := dk_58 5 (dk_at dksX0_invoice_0 18 rfl rfl)
theorem dX0_invoice_20 : decode cX0_invoice 20 = .ok (.iconst 2, 1) := dk_5 (dk_at dksX0_invoice_0 20 rfl rfl)
theorem dX0_invoice_21 : decode cX0_invoice 21 = .ok (.ireturn, 1) := dk_172 (dk_at dksX0_invoice_0 21 rfl rfl)
theorem dX0_invoice_22 : decode cX0_invoice 22 = .ok (.iconst 0, 1) := dk_3 (dk_at dksX0_invoice_0 22 rfl rfl)
theorem dX0_invoice_23 : decode cX0_invoice 23 = .ok (.ireturn, 1) := dk_172 (dk_at dksX0_invoice_0 23 rfl rfl)
abbrev cX0_predictDue : ByteArray := method_29_code
def yX0_predictDue : MethodName := ⟨RX0, "predictDue", "(LFranchiseLedger;II[J)I"⟩
def dkwX0_predictDue_0 : List UInt8 := [45, 3, 42, 27, 28, 182, 0, 104, 80, 167, 0, 11, 58, 4, 4, 172, 58, 4, 5, 172, 3, 172]
abbrev dktX0_predictDue_0 : List UInt8 := dkwX0_predictDue_0 ++ []
theorem dksX0_predictDue_0 : cX0_predictDue.data.toList.drop 0 = dktX0_predictDue_0 := by decide +kernel
theorem dX0_predictDue_0 : decode cX0_predictDue 0 = .ok (.aload_n 3, 1) := dk_45 (dk_at dksX0_predictDue_0 0 rfl rfl)
theorem dX0_predictDue_1 : decode cX0_predictDue 1 = .ok (.iconst 0, 1) := dk_3 (dk_at dksX0_predictDue_0 1 rfl rfl)
theorem dX0_predictDue_2 : decode cX0_predictDue 2 = .ok (.aload_n 0, 1) := dk_42 (dk_at dksX0_predictDue_0 2 rfl rfl)
theorem dX0_predictDue_3 : decode cX0_predictDue 3 = .ok (.iload_n 1, 1) := dk_27 (dk_at dksX0_predictDue_0 3 rfl rfl)
theorem dX0_predictDue_4 : decode cX0_predictDue 4 = .ok (.iload_n 2, 1) := dk_28 (dk_at dksX0_predictDue_0 4 rfl rfl)
theorem dX0_predictDue_5 : decode cX0_predictDue 5 = .ok (.invokevirtual 104, 3) := dk_182 0 104 (dk_at dksX0_predictDue_0 5 rfl rfl)
theorem dX0_predictDue_8 : decode cX0_predictDue 8 = .ok (.lastore, 1) := dk_80 (dk_at dksX0_predictDue_0 8 rfl rfl)
theorem dX0_predictDue_9 : decode cX0_predictDue 9 = .ok (.goto 11, 3) := dk_167 0 11 (dk_at dksX0_predictDue_0 9 rfl rfl)
theorem dX0_predictDue_12 : decode cX0_predictDue 12 = .ok (.astore 4, 2) := dk_58 4 (dk_at dksX0_predictDue_0 12 rfl rfl)
theorem dX0_predictDue_14 : decode cX0_predictDue 14 = .ok (.iconst 1, 1) := dk_4 (dk_at dksX0_predictDue_0 14 rfl rfl)
theorem dX0_predictDue_15 : decode cX0_predictDue 15 = .ok (.ireturn, 1) := dk_172 (dk_at dksX0_predictDue_0 15 rfl rfl)
theorem dX0_predictDue_16 : decode cX0_predictDue 16 = .ok (.astore 4, 2) := dk_58 4 (dk_at dksX0_predictDue_0 16 rfl rfl)
theorem dX0_predictDue_18 : decode cX0_predictDue 18 = .ok (.iconst 2, 1) := dk_5 (dk_at dksX0_predictDue_0 18 rfl rfl)
theorem dX0_predictDue_19 : decode cX0_predictDue 19 = .ok (.ireturn, 1) := dk_172 (dk_at dksX0_predictDue_0 19 rfl rfl)
theorem dX0_predictDue_20 : decode cX0_predictDue 20 = .ok (.iconst 0, 1) := dk_3 (dk_at dksX0_predictDue_0 20 rfl rfl)
theorem dX0_predictDue_21 : decode cX0_predictDue 21 = .ok (.ireturn, 1) := dk_172 (dk_at dksX0_predictDue_0 21 rfl rfl)
abbrev cX0_balance : ByteArray := method_30_code
def yX0_balance : MethodName := ⟨RX0, "balance", "(LFranchiseLedger;I[J)I"⟩
def dkwX0_balance_0 : List UInt8 := [44, 3, 42, 27, 182, 0, 107, 80, 167, 0, 6, 78, 4, 172, 3, 172]
abbrev dktX0_balance_0 : List UInt8 := dkwX0_balance_0 ++ []
theorem dksX0_balance_0 : cX0_balance.data.toList.drop 0 = dktX0_balance_0 := by decide +kernel
theorem dX0_balance_0 : decode cX0_balance 0 = .ok (.aload_n 2, 1) := dk_44 (dk_at dksX0_balance_0 0 rfl rfl)
theorem dX0_balance_1 : decode cX0_balance 1 = .ok (.iconst 0, 1) := dk_3 (dk_at dksX0_balance_0 1 rfl rfl)
theorem dX0_balance_2 : decode cX0_balance 2 = .ok (.aload_n 0, 1) := dk_42 (dk_at dksX0_balance_0 2 rfl rfl)
theorem dX0_balance_3 : decode cX0_balance 3 = .ok (.iload_n 1, 1) := dk_27 (dk_at dksX0_balance_0 3 rfl rfl)
theorem dX0_balance_4 : decode cX0_balance 4 = .ok (.invokevirtual 107, 3) := dk_182 0 107 (dk_at dksX0_balance_0 4 rfl rfl)
theorem dX0_balance_7 : decode cX0_balance 7 = .ok (.lastore, 1) := dk_80 (dk_at dksX0_balance_0 7 rfl rfl)
theorem dX0_balance_8 : decode cX0_balance 8 = .ok (.goto 6, 3) := dk_167 0 6 (dk_at dksX0_balance_0 8 rfl rfl)
theorem dX0_balance_11 : decode cX0_balance 11 = .ok (.astore_n 3, 1) := dk_78 (dk_at dksX0_balance_0 11 rfl rfl)
theorem dX0_balance_12 : decode cX0_balance 12 = .ok (.iconst 1, 1) := dk_4 (dk_at dksX0_balance_0 12 rfl rfl)
theorem dX0_balance_13 : decode cX0_balance 13 = .ok (.ireturn, 1) := dk_172 (dk_at dksX0_balance_0 13 rfl rfl)
theorem dX0_balance_14 : decode cX0_balance 14 = .ok (.iconst 0, 1) := dk_3 (dk_at dksX0_balance_0 14 rfl rfl)
theorem dX0_balance_15 : decode cX0_balance 15 = .ok (.ireturn, 1) := dk_172 (dk_at dksX0_balance_0 15 rfl rfl)
abbrev cX0_pay : ByteArray := method_31_code
def yX0_pay : MethodName := ⟨RX0, "pay", "(LFranchiseLedger;IJ[J)I"⟩
def dkwX0_pay_0 : List UInt8 := [25, 4, 3, 42, 27, 32, 182, 0, 110, 80, 167, 0, 11, 58, 5, 4, 172, 58, 5, 5, 172, 3, 172]
abbrev dktX0_pay_0 : List UInt8 := dkwX0_pay_0 ++ []
theorem dksX0_pay_0 : cX0_pay.data.toList.drop 0 = dktX0_pay_0 := by decide +kernel
theorem dX0_pay_0 : decode cX0_pay 0 = .ok (.aload 4, 2) := dk_25 4 (dk_at dksX0_pay_0 0 rfl rfl)
theorem dX0_pay_2 : decode cX0_pay 2 = .ok (.iconst 0, 1) := dk_3 (dk_at dksX0_pay_0 2 rfl rfl)
theorem dX0_pay_3 : decode cX0_pay 3 = .ok (.aload_n 0, 1) := dk_42 (dk_at dksX0_pay_0 3 rfl rfl)
theorem dX0_pay_4 : decode cX0_pay 4 = .ok (.iload_n 1, 1) := dk_27 (dk_at dksX0_pay_0 4 rfl rfl)
theorem dX0_pay_5 : decode cX0_pay 5 = .ok (.lload_n 2, 1) := dk_32 (dk_at dksX0_pay_0 5 rfl rfl)
theorem dX0_pay_6 : decode cX0_pay 6 = .ok (.invokevirtual 110, 3) := dk_182 0 110 (dk_at dksX0_pay_0 6 rfl rfl)
theorem dX0_pay_9 : decode cX0_pay 9 = .ok (.lastore, 1) := dk_80 (dk_at dksX0_pay_0 9 rfl rfl)
theorem dX0_pay_10 : decode cX0_pay 10 = .ok (.goto 11, 3) := dk_167 0 11 (dk_at dksX0_pay_0 10 rfl rfl)
theorem dX0_pay_13 : decode cX0_pay 13 = .ok (.astore 5, 2) := dk_58 5 (dk_at dksX0_pay_0 13 rfl rfl)
theorem dX0_pay_15 : decode cX0_pay 15 = .ok (.iconst 1, 1) := dk_4 (dk_at dksX0_pay_0 15 rfl rfl)
theorem dX0_pay_16 : decode cX0_pay 16 = .ok (.ireturn, 1) := dk_172 (dk_at dksX0_pay_0 16 rfl rfl)
theorem dX0_pay_17 : decode cX0_pay 17 = .ok (.astore 5, 2) := dk_58 5 (dk_at dksX0_pay_0 17 rfl rfl)
theorem dX0_pay_19 : decode cX0_pay 19 = .ok (.iconst 2, 1) := dk_5 (dk_at dksX0_pay_0 19 rfl rfl)
theorem dX0_pay_20 : decode cX0_pay 20 = .ok (.ireturn, 1) := dk_172 (dk_at dksX0_pay_0 20 rfl rfl)
theorem dX0_pay_21 : decode cX0_pay 21 = .ok (.iconst 0, 1) := dk_3 (dk_at dksX0_pay_0 21 rfl rfl)
theorem dX0_pay_22 : decode cX0_pay 22 = .ok (.ireturn, 1) := dk_172 (dk_at dksX0_pay_0 22 rfl rfl)
abbrev cX0_monthsOverdue : ByteArray := method_32_code
def yX0_monthsOverdue : MethodName := ⟨RX0, "monthsOverdue", "(LFranchiseLedger;I[J)I"⟩
def dkwX0_monthsOverdue_0 : List UInt8 := [44, 3, 42, 27, 182, 0, 113, 133, 80, 167, 0, 6, 78, 4, 172, 3, 172]
abbrev dktX0_monthsOverdue_0 : List UInt8 := dkwX0_monthsOverdue_0 ++ []
theorem dksX0_monthsOverdue_0 : cX0_monthsOverdue.data.toList.drop 0 = dktX0_monthsOverdue_0 := by decide +kernel
theorem dX0_monthsOverdue_0 : decode cX0_monthsOverdue 0 = .ok (.aload_n 2, 1) := dk_44 (dk_at dksX0_monthsOverdue_0 0 rfl rfl)
theorem dX0_monthsOverdue_1 : decode cX0_monthsOverdue 1 = .ok (.iconst 0, 1) := dk_3 (dk_at dksX0_monthsOverdue_0 1 rfl rfl)
theorem dX0_monthsOverdue_2 : decode cX0_monthsOverdue 2 = .ok (.aload_n 0, 1) := dk_42 (dk_at dksX0_monthsOverdue_0 2 rfl rfl)
theorem dX0_monthsOverdue_3 : decode cX0_monthsOverdue 3 = .ok (.iload_n 1, 1) := dk_27 (dk_at dksX0_monthsOverdue_0 3 rfl rfl)
theorem dX0_monthsOverdue_4 : decode cX0_monthsOverdue 4 = .ok (.invokevirtual 113, 3) := dk_182 0 113 (dk_at dksX0_monthsOverdue_0 4 rfl rfl)
theorem dX0_monthsOverdue_7 : decode cX0_monthsOverdue 7 = .ok (.i2l, 1) := dk_133 (dk_at dksX0_monthsOverdue_0 7 rfl rfl)
theorem dX0_monthsOverdue_8 : decode cX0_monthsOverdue 8 = .ok (.lastore, 1) := dk_80 (dk_at dksX0_monthsOverdue_0 8 rfl rfl)
theorem dX0_monthsOverdue_9 : decode cX0_monthsOverdue 9 = .ok (.goto 6, 3) := dk_167 0 6 (dk_at dksX0_monthsOverdue_0 9 rfl rfl)
theorem dX0_monthsOverdue_12 : decode cX0_monthsOverdue 12 = .ok (.astore_n 3, 1) := dk_78 (dk_at dksX0_monthsOverdue_0 12 rfl rfl)
theorem dX0_monthsOverdue_13 : decode cX0_monthsOverdue 13 = .ok (.iconst 1, 1) := dk_4 (dk_at dksX0_monthsOverdue_0 13 rfl rfl)
theorem dX0_monthsOverdue_14 : decode cX0_monthsOverdue 14 = .ok (.ireturn, 1) := dk_172 (dk_at dksX0_monthsOverdue_0 14 rfl rfl)
theorem dX0_monthsOverdue_15 : decode cX0_monthsOverdue 15 = .ok (.iconst 0, 1) := dk_3 (dk_at dksX0_monthsOverdue_0 15 rfl rfl)
theorem dX0_monthsOverdue_16 : decode cX0_monthsOverdue 16 = .ok (.ireturn, 1) := dk_172 (dk_at dksX0_monthsOverdue_0 16 rfl rfl)
abbrev cX0_payOff : ByteArray := method_33_code
def yX0_payOff : MethodName := ⟨RX0, "payOff", "(LFranchiseLedger;IJ[J)I"⟩
def dkwX0_payOff_0 : List UInt8 := [25, 4, 3, 42, 27, 32, 182, 0, 116, 133, 80, 167, 0, 11, 58, 5, 4, 172, 58, 5, 5, 172, 3, 172]
abbrev dktX0_payOff_0 : List UInt8 := dkwX0_payOff_0 ++ []
theorem dksX0_payOff_0 : cX0_payOff.data.toList.drop 0 = dktX0_payOff_0 := by decide +kernel
theorem dX0_payOff_0 : decode cX0_payOff 0 = .ok (.aload 4, 2) := dk_25 4 (dk_at dksX0_payOff_0 0 rfl rfl)
theorem dX0_payOff_2 : decode cX0_payOff 2 = .ok (.iconst 0, 1) := dk_3 (dk_at dksX0_payOff_0 2 rfl rfl)
theorem dX0_payOff_3 : decode cX0_payOff 3 = .ok (.aload_n 0, 1) := dk_42 (dk_at dksX0_payOff_0 3 rfl rfl)
theorem dX0_payOff_4 : decode cX0_payOff 4 = .ok (.iload_n 1, 1) := dk_27 (dk_at dksX0_payOff_0 4 rfl rfl)
theorem dX0_payOff_5 : decode cX0_payOff 5 = .ok (.lload_n 2, 1) := dk_32 (dk_at dksX0_payOff_0 5 rfl rfl)
theorem dX0_payOff_6 : decode cX0_payOff 6 = .ok (.invokevirtual 116, 3) := dk_182 0 116 (dk_at dksX0_payOff_0 6 rfl rfl)
theorem dX0_payOff_9 : decode cX0_payOff 9 = .ok (.i2l, 1) := dk_133 (dk_at dksX0_payOff_0 9 rfl rfl)
theorem dX0_payOff_10 : decode cX0_payOff 10 = .ok (.lastore, 1) := dk_80 (dk_at dksX0_payOff_0 10 rfl rfl)
theorem dX0_payOff_11 : decode cX0_payOff 11 = .ok (.goto 11, 3) := dk_167 0 11 (dk_at dksX0_payOff_0 11 rfl rfl)
theorem dX0_payOff_14 : decode cX0_payOff 14 = .ok (.astore 5, 2) := dk_58 5 (dk_at dksX0_payOff_0 14 rfl rfl)
theorem dX0_payOff_16 : decode cX0_payOff 16 = .ok (.iconst 1, 1) := dk_4 (dk_at dksX0_payOff_0 16 rfl rfl)
theorem dX0_payOff_17 : decode cX0_payOff 17 = .ok (.ireturn, 1) := dk_172 (dk_at dksX0_payOff_0 17 rfl rfl)
theorem dX0_payOff_18 : decode cX0_payOff 18 = .ok (.astore 5, 2) := dk_58 5 (dk_at dksX0_payOff_0 18 rfl rfl)
theorem dX0_payOff_20 : decode cX0_payOff 20 = .ok (.iconst 2, 1) := dk_5 (dk_at dksX0_payOff_0 20 rfl rfl)
theorem dX0_payOff_21 : decode cX0_payOff 21 = .ok (.ireturn, 1) := dk_172 (dk_at dksX0_payOff_0 21 rfl rfl)
theorem dX0_payOff_22 : decode cX0_payOff 22 = .ok (.iconst 0, 1) := dk_3 (dk_at dksX0_payOff_0 22 rfl rfl)
theorem dX0_payOff_23 : decode cX0_payOff 23 = .ok (.ireturn, 1) := dk_172 (dk_at dksX0_payOff_0 23 rfl rfl)
abbrev cX0_terminate : ByteArray := method_34_code
def yX0_terminate : MethodName := ⟨RX0, "terminate", "(LFranchiseLedger;I[J)I"⟩
def dkwX0_terminate_0 : List UInt8 := [44, 3, 42, 27, 182, 0, 120, 153, 0, 7, 10, 167, 0, 4, 9, 80, 167, 0, 6, 78, 4, 172, 3, 172]
abbrev dktX0_terminate_0 : List UInt8 := dkwX0_terminate_0 ++ []
theorem dksX0_terminate_0 : cX0_terminate.data.toList.drop 0 = dktX0_terminate_0 := by decide +kernel
theorem dX0_terminate_0 : decode cX0_terminate 0 = .ok (.aload_n 2, 1) := dk_44 (dk_at dksX0_terminate_0 0 rfl rfl)
theorem dX0_terminate_1 : decode cX0_terminate 1 = .ok (.iconst 0, 1) := dk_3 (dk_at dksX0_terminate_0 1 rfl rfl)
theorem dX0_terminate_2 : decode cX0_terminate 2 = .ok (.aload_n 0, 1) := dk_42 (dk_at dksX0_terminate_0 2 rfl rfl)
theorem dX0_terminate_3 : decode cX0_terminate 3 = .ok (.iload_n 1, 1) := dk_27 (dk_at dksX0_terminate_0 3 rfl rfl)
theorem dX0_terminate_4 : decode cX0_terminate 4 = .ok (.invokevirtual 120, 3) := dk_182 0 120 (dk_at dksX0_terminate_0 4 rfl rfl)
theorem dX0_terminate_7 : decode cX0_terminate 7 = .ok (.ifCond .eq 7, 3) := dk_153 0 7 (dk_at dksX0_terminate_0 7 rfl rfl)
theorem dX0_terminate_10 : decode cX0_terminate 10 = .ok (.lconst 1, 1) := dk_10 (dk_at dksX0_terminate_0 10 rfl rfl)
theorem dX0_terminate_11 : decode cX0_terminate 11 = .ok (.goto 4, 3) := dk_167 0 4 (dk_at dksX0_terminate_0 11 rfl rfl)
theorem dX0_terminate_14 : decode cX0_terminate 14 = .ok (.lconst 0, 1) := dk_9 (dk_at dksX0_terminate_0 14 rfl rfl)
theorem dX0_terminate_15 : decode cX0_terminate 15 = .ok (.lastore, 1) := dk_80 (dk_at dksX0_terminate_0 15 rfl rfl)
theorem dX0_terminate_16 : decode cX0_terminate 16 = .ok (.goto 6, 3) := dk_167 0 6 (dk_at dksX0_terminate_0 16 rfl rfl)
theorem dX0_terminate_19 : decode cX0_terminate 19 = .ok (.astore_n 3, 1) := dk_78 (dk_at dksX0_terminate_0 19 rfl rfl)
theorem dX0_terminate_20 : decode cX0_terminate 20 = .ok (.iconst 1, 1) := dk_4 (dk_at dksX0_terminate_0 20 rfl rfl)
theorem dX0_terminate_21 : decode cX0_terminate 21 = .ok (.ireturn, 1) := dk_172 (dk_at dksX0_terminate_0 21 rfl rfl)
theorem dX0_terminate_22 : decode cX0_terminate 22 = .ok (.iconst 0, 1) := dk_3 (dk_at dksX0_terminate_0 22 rfl rfl)
theorem dX0_terminate_23 : decode cX0_terminate 23 = .ok (.ireturn, 1) := dk_172 (dk_at dksX0_terminate_0 23 rfl rfl)
abbrev cX0_status : ByteArray := method_35_code
def yX0_status : MethodName := ⟨RX0, "status", "(LFranchiseLedger;I[J)I"⟩
def dkwX0_status_0 : List UInt8 := [44, 3, 42, 27, 182, 0, 123, 133, 80, 167, 0, 6, 78, 4, 172, 3, 172]
abbrev dktX0_status_0 : List UInt8 := dkwX0_status_0 ++ []
theorem dksX0_status_0 : cX0_status.data.toList.drop 0 = dktX0_status_0 := by decide +kernel
theorem dX0_status_0 : decode cX0_status 0 = .ok (.aload_n 2, 1) := dk_44 (dk_at dksX0_status_0 0 rfl rfl)
theorem dX0_status_1 : decode cX0_status 1 = .ok (.iconst 0, 1) := dk_3 (dk_at dksX0_status_0 1 rfl rfl)
theorem dX0_status_2 : decode cX0_status 2 = .ok (.aload_n 0, 1) := dk_42 (dk_at dksX0_status_0 2 rfl rfl)
theorem dX0_status_3 : decode cX0_status 3 = .ok (.iload_n 1, 1) := dk_27 (dk_at dksX0_status_0 3 rfl rfl)
theorem dX0_status_4 : decode cX0_status 4 = .ok (.invokevirtual 123, 3) := dk_182 0 123 (dk_at dksX0_status_0 4 rfl rfl)
theorem dX0_status_7 : decode cX0_status 7 = .ok (.i2l, 1) := dk_133 (dk_at dksX0_status_0 7 rfl rfl)
theorem dX0_status_8 : decode cX0_status 8 = .ok (.lastore, 1) := dk_80 (dk_at dksX0_status_0 8 rfl rfl)
theorem dX0_status_9 : decode cX0_status 9 = .ok (.goto 6, 3) := dk_167 0 6 (dk_at dksX0_status_0 9 rfl rfl)
theorem dX0_status_12 : decode cX0_status 12 = .ok (.astore_n 3, 1) := dk_78 (dk_at dksX0_status_0 12 rfl rfl)
theorem dX0_status_13 : decode cX0_status 13 = .ok (.iconst 1, 1) := dk_4 (dk_at dksX0_status_0 13 rfl rfl)
theorem dX0_status_14 : decode cX0_status 14 = .ok (.ireturn, 1) := dk_172 (dk_at dksX0_status_0 14 rfl rfl)
theorem dX0_status_15 : decode cX0_status 15 = .ok (.iconst 0, 1) := dk_3 (dk_at dksX0_status_0 15 rfl rfl)
theorem dX0_status_16 : decode cX0_status 16 = .ok (.ireturn, 1) := dk_172 (dk_at dksX0_status_0 16 rfl rfl)
abbrev cX0_contributions : ByteArray := method_36_code
def yX0_contributions : MethodName := ⟨RX0, "contributions", "(LFranchiseLedger;I[J)I"⟩
def dkwX0_contributions_0 : List UInt8 := [44, 3, 42, 27, 182, 0, 126, 80, 167, 0, 6, 78, 4, 172, 3, 172]
abbrev dktX0_contributions_0 : List UInt8 := dkwX0_contributions_0 ++ []
theorem dksX0_contributions_0 : cX0_contributions.data.toList.drop 0 = dktX0_contributions_0 := by decide +kernel
theorem dX0_contributions_0 : decode cX0_contributions 0 = .ok (.aload_n 2, 1) := dk_44 (dk_at dksX0_contributions_0 0 rfl rfl)
theorem dX0_contributions_1 : decode cX0_contributions 1 = .ok (.iconst 0, 1) := dk_3 (dk_at dksX0_contributions_0 1 rfl rfl)
theorem dX0_contributions_2 : decode cX0_contributions 2 = .ok (.aload_n 0, 1) := dk_42 (dk_at dksX0_contributions_0 2 rfl rfl)
theorem dX0_contributions_3 : decode cX0_contributions 3 = .ok (.iload_n 1, 1) := dk_27 (dk_at dksX0_contributions_0 3 rfl rfl)
theorem dX0_contributions_4 : decode cX0_contributions 4 = .ok (.invokevirtual 126, 3) := dk_182 0 126 (dk_at dksX0_contributions_0 4 rfl rfl)
theorem dX0_contributions_7 : decode cX0_contributions 7 = .ok (.lastore, 1) := dk_80 (dk_at dksX0_contributions_0 7 rfl rfl)
theorem dX0_contributions_8 : decode cX0_contributions 8 = .ok (.goto 6, 3) := dk_167 0 6 (dk_at dksX0_contributions_0 8 rfl rfl)
theorem dX0_contributions_11 : decode cX0_contributions 11 = .ok (.astore_n 3, 1) := dk_78 (dk_at dksX0_contributions_0 11 rfl rfl)
theorem dX0_contributions_12 : decode cX0_contributions 12 = .ok (.iconst 1, 1) := dk_4 (dk_at dksX0_contributions_0 12 rfl rfl)
theorem dX0_contributions_13 : decode cX0_contributions 13 = .ok (.ireturn, 1) := dk_172 (dk_at dksX0_contributions_0 13 rfl rfl)
theorem dX0_contributions_14 : decode cX0_contributions 14 = .ok (.iconst 0, 1) := dk_3 (dk_at dksX0_contributions_0 14 rfl rfl)
theorem dX0_contributions_15 : decode cX0_contributions 15 = .ok (.ireturn, 1) := dk_172 (dk_at dksX0_contributions_0 15 rfl rfl)
abbrev cX0_spent : ByteArray := method_37_code
def yX0_spent : MethodName := ⟨RX0, "spent", "(LFranchiseLedger;I[J)I"⟩
def dkwX0_spent_0 : List UInt8 := [44, 3, 42, 27, 182, 0, 129, 80, 167, 0, 6, 78, 4, 172, 3, 172]
abbrev dktX0_spent_0 : List UInt8 := dkwX0_spent_0 ++ []
theorem dksX0_spent_0 : cX0_spent.data.toList.drop 0 = dktX0_spent_0 := by decide +kernel
theorem dX0_spent_0 : decode cX0_spent 0 = .ok (.aload_n 2, 1) := dk_44 (dk_at dksX0_spent_0 0 rfl rfl)
theorem dX0_spent_1 : decode cX0_spent 1 = .ok (.iconst 0, 1) := dk_3 (dk_at dksX0_spent_0 1 rfl rfl)
theorem dX0_spent_2 : decode cX0_spent 2 = .ok (.aload_n 0, 1) := dk_42 (dk_at dksX0_spent_0 2 rfl rfl)
theorem dX0_spent_3 : decode cX0_spent 3 = .ok (.iload_n 1, 1) := dk_27 (dk_at dksX0_spent_0 3 rfl rfl)
theorem dX0_spent_4 : decode cX0_spent 4 = .ok (.invokevirtual 129, 3) := dk_182 0 129 (dk_at dksX0_spent_0 4 rfl rfl)
theorem dX0_spent_7 : decode cX0_spent 7 = .ok (.lastore, 1) := dk_80 (dk_at dksX0_spent_0 7 rfl rfl)
theorem dX0_spent_8 : decode cX0_spent 8 = .ok (.goto 6, 3) := dk_167 0 6 (dk_at dksX0_spent_0 8 rfl rfl)
theorem dX0_spent_11 : decode cX0_spent 11 = .ok (.astore_n 3, 1) := dk_78 (dk_at dksX0_spent_0 11 rfl rfl)
theorem dX0_spent_12 : decode cX0_spent 12 = .ok (.iconst 1, 1) := dk_4 (dk_at dksX0_spent_0 12 rfl rfl)
theorem dX0_spent_13 : decode cX0_spent 13 = .ok (.ireturn, 1) := dk_172 (dk_at dksX0_spent_0 13 rfl rfl)
theorem dX0_spent_14 : decode cX0_spent 14 = .ok (.iconst 0, 1) := dk_3 (dk_at dksX0_spent_0 14 rfl rfl)
theorem dX0_spent_15 : decode cX0_spent 15 = .ok (.ireturn, 1) := dk_172 (dk_at dksX0_spent_0 15 rfl rfl)
abbrev cX0_campaign : ByteArray := method_38_code
def yX0_campaign : MethodName := ⟨RX0, "campaign", "(LFranchiseLedger;J[J)I"⟩
def dkwX0_campaign_1 : List UInt8 := [172]
abbrev dktX0_campaign_1 : List UInt8 := dkwX0_campaign_1 ++ []
def dkwX0_campaign_0 : List UInt8 := [45, 3, 42, 31, 182, 0, 132, 153, 0, 7, 10, 167, 0, 4, 9, 80, 167, 0, 7, 58, 4, 4, 172, 3]
abbrev dktX0_campaign_0 : List UInt8 := dkwX0_campaign_0 ++ dktX0_campaign_1
theorem dksX0_campaign_0 : cX0_campaign.data.toList.drop 0 = dktX0_campaign_0 := by decide +kernel
theorem dksX0_campaign_1 : cX0_campaign.data.toList.drop 24 = dktX0_campaign_1 := dk_seg dksX0_campaign_0 24 rfl rfl
theorem dX0_campaign_0 : decode cX0_campaign 0 = .ok (.aload_n 3, 1) := dk_45 (dk_at dksX0_campaign_0 0 rfl rfl)
theorem dX0_campaign_1 : decode cX0_campaign 1 = .ok (.iconst 0, 1) := dk_3 (dk_at dksX0_campaign_0 1 rfl rfl)
theorem dX0_campaign_2 : decode cX0_campaign 2 = .ok (.aload_n 0, 1) := dk_42 (dk_at dksX0_campaign_0 2 rfl rfl)
theorem dX0_campaign_3 : decode cX0_campaign 3 = .ok (.lload_n 1, 1) := dk_31 (dk_at dksX0_campaign_0 3 rfl rfl)
theorem dX0_campaign_4 : decode cX0_campaign 4 = .ok (.invokevirtual 132, 3) := dk_182 0 132 (dk_at dksX0_campaign_0 4 rfl rfl)
theorem dX0_campaign_7 : decode cX0_campaign 7 = .ok (.ifCond .eq 7, 3) := dk_153 0 7 (dk_at dksX0_campaign_0 7 rfl rfl)
theorem dX0_campaign_10 : decode cX0_campaign 10 = .ok (.lconst 1, 1) := dk_10 (dk_at dksX0_campaign_0 10 rfl rfl)
theorem dX0_campaign_11 : decode cX0_campaign 11 = .ok (.goto 4, 3) := dk_167 0 4 (dk_at dksX0_campaign_0 11 rfl rfl)
theorem dX0_campaign_14 : decode cX0_campaign 14 = .ok (.lconst 0, 1) := dk_9 (dk_at dksX0_campaign_0 14 rfl rfl)
theorem dX0_campaign_15 : decode cX0_campaign 15 = .ok (.lastore, 1) := dk_80 (dk_at dksX0_campaign_0 15 rfl rfl)
theorem dX0_campaign_16 : decode cX0_campaign 16 = .ok (.goto 7, 3) := dk_167 0 7 (dk_at dksX0_campaign_0 16 rfl rfl)
theorem dX0_campaign_19 : decode cX0_campaign 19 = .ok (.astore 4, 2) := dk_58 4 (dk_at dksX0_campaign_0 19 rfl rfl)
theorem dX0_campaign_21 : decode cX0_campaign 21 = .ok (.iconst 1, 1) := dk_4 (dk_at dksX0_campaign_0 21 rfl rfl)
theorem dX0_campaign_22 : decode cX0_campaign 22 = .ok (.ireturn, 1) := dk_172 (dk_at dksX0_campaign_0 22 rfl rfl)
theorem dX0_campaign_23 : decode cX0_campaign 23 = .ok (.iconst 0, 1) := dk_3 (dk_at dksX0_campaign_0 23 rfl rfl)
theorem dX0_campaign_24 : decode cX0_campaign 24 = .ok (.ireturn, 1) := dk_172 (dk_at dksX0_campaign_1 0 rfl rfl)
abbrev cX0_grant : ByteArray := method_39_code
def yX0_grant : MethodName := ⟨RX0, "grant", "(LFranchiseLedger;IJ[J)I"⟩
def dkwX0_grant_1 : List UInt8 := [172, 58, 5, 5, 172, 3, 172]
abbrev dktX0_grant_1 : List UInt8 := dkwX0_grant_1 ++ []
def dkwX0_grant_0 : List UInt8 := [25, 4, 3, 42, 27, 32, 182, 0, 136, 153, 0, 7, 10, 167, 0, 4, 9, 80, 167, 0, 11, 58, 5, 4]
abbrev dktX0_grant_0 : List UInt8 := dkwX0_grant_0 ++ dktX0_grant_1
theorem dksX0_grant_0 : cX0_grant.data.toList.drop 0 = dktX0_grant_0 := by decide +kernel
theorem dksX0_grant_1 : cX0_grant.data.toList.drop 24 = dktX0_grant_1 := dk_seg dksX0_grant_0 24 rfl rfl
theorem dX0_grant_0 : decode cX0_grant 0 = .ok (.aload 4, 2) := dk_25 4 (dk_at dksX0_grant_0 0 rfl rfl)
theorem dX0_grant_2 : decode cX0_grant 2 = .ok (.iconst 0, 1) := dk_3 (dk_at dksX0_grant_0 2 rfl rfl)
theorem dX0_grant_3 : decode cX0_grant 3 = .ok (.aload_n 0, 1) := dk_42 (dk_at dksX0_grant_0 3 rfl rfl)
theorem dX0_grant_4 : decode cX0_grant 4 = .ok (.iload_n 1, 1) := dk_27 (dk_at dksX0_grant_0 4 rfl rfl)
theorem dX0_grant_5 : decode cX0_grant 5 = .ok (.lload_n 2, 1) := dk_32 (dk_at dksX0_grant_0 5 rfl rfl)
theorem dX0_grant_6 : decode cX0_grant 6 = .ok (.invokevirtual 136, 3) := dk_182 0 136 (dk_at dksX0_grant_0 6 rfl rfl)
theorem dX0_grant_9 : decode cX0_grant 9 = .ok (.ifCond .eq 7, 3) := dk_153 0 7 (dk_at dksX0_grant_0 9 rfl rfl)
theorem dX0_grant_12 : decode cX0_grant 12 = .ok (.lconst 1, 1) := dk_10 (dk_at dksX0_grant_0 12 rfl rfl)
theorem dX0_grant_13 : decode cX0_grant 13 = .ok (.goto 4, 3) := dk_167 0 4 (dk_at dksX0_grant_0 13 rfl rfl)
theorem dX0_grant_16 : decode cX0_grant 16 = .ok (.lconst 0, 1) := dk_9 (dk_at dksX0_grant_0 16 rfl rfl)
theorem dX0_grant_17 : decode cX0_grant 17 = .ok (.lastore, 1) := dk_80 (dk_at dksX0_grant_0 17 rfl rfl)
theorem dX0_grant_18 : decode cX0_grant 18 = .ok (.goto 11, 3) := dk_167 0 11 (dk_at dksX0_grant_0 18 rfl rfl)
theorem dX0_grant_21 : decode cX0_grant 21 = .ok (.astore 5, 2) := dk_58 5 (dk_at dksX0_grant_0 21 rfl rfl)
theorem dX0_grant_23 : decode cX0_grant 23 = .ok (.iconst 1, 1) := dk_4 (dk_at dksX0_grant_0 23 rfl rfl)
theorem dX0_grant_24 : decode cX0_grant 24 = .ok (.ireturn, 1) := dk_172 (dk_at dksX0_grant_1 0 rfl rfl)
theorem dX0_grant_25 : decode cX0_grant 25 = .ok (.astore 5, 2) := dk_58 5 (dk_at dksX0_grant_1 1 rfl rfl)
theorem dX0_grant_27 : decode cX0_grant 27 = .ok (.iconst 2, 1) := dk_5 (dk_at dksX0_grant_1 3 rfl rfl)
theorem dX0_grant_28 : decode cX0_grant 28 = .ok (.ireturn, 1) := dk_172 (dk_at dksX0_grant_1 4 rfl rfl)
theorem dX0_grant_29 : decode cX0_grant 29 = .ok (.iconst 0, 1) := dk_3 (dk_at dksX0_grant_1 5 rfl rfl)
theorem dX0_grant_30 : decode cX0_grant 30 = .ok (.ireturn, 1) := dk_172 (dk_at dksX0_grant_1 6 rfl rfl)
abbrev cX0_allowance : ByteArray := method_40_code
def yX0_allowance : MethodName := ⟨RX0, "allowance", "(LFranchiseLedger;I[J)I"⟩
def dkwX0_allowance_0 : List UInt8 := [44, 3, 42, 27, 182, 0, 140, 80, 167, 0, 6, 78, 4, 172, 3, 172]
abbrev dktX0_allowance_0 : List UInt8 := dkwX0_allowance_0 ++ []
theorem dksX0_allowance_0 : cX0_allowance.data.toList.drop 0 = dktX0_allowance_0 := by decide +kernel
theorem dX0_allowance_0 : decode cX0_allowance 0 = .ok (.aload_n 2, 1) := dk_44 (dk_at dksX0_allowance_0 0 rfl rfl)
theorem dX0_allowance_1 : decode cX0_allowance 1 = .ok (.iconst 0, 1) := dk_3 (dk_at dksX0_allowance_0 1 rfl rfl)
theorem dX0_allowance_2 : decode cX0_allowance 2 = .ok (.aload_n 0, 1) := dk_42 (dk_at dksX0_allowance_0 2 rfl rfl)
theorem dX0_allowance_3 : decode cX0_allowance 3 = .ok (.iload_n 1, 1) := dk_27 (dk_at dksX0_allowance_0 3 rfl rfl)
theorem dX0_allowance_4 : decode cX0_allowance 4 = .ok (.invokevirtual 140, 3) := dk_182 0 140 (dk_at dksX0_allowance_0 4 rfl rfl)
theorem dX0_allowance_7 : decode cX0_allowance 7 = .ok (.lastore, 1) := dk_80 (dk_at dksX0_allowance_0 7 rfl rfl)
theorem dX0_allowance_8 : decode cX0_allowance 8 = .ok (.goto 6, 3) := dk_167 0 6 (dk_at dksX0_allowance_0 8 rfl rfl)
theorem dX0_allowance_11 : decode cX0_allowance 11 = .ok (.astore_n 3, 1) := dk_78 (dk_at dksX0_allowance_0 11 rfl rfl)
theorem dX0_allowance_12 : decode cX0_allowance 12 = .ok (.iconst 1, 1) := dk_4 (dk_at dksX0_allowance_0 12 rfl rfl)
theorem dX0_allowance_13 : decode cX0_allowance 13 = .ok (.ireturn, 1) := dk_172 (dk_at dksX0_allowance_0 13 rfl rfl)
theorem dX0_allowance_14 : decode cX0_allowance 14 = .ok (.iconst 0, 1) := dk_3 (dk_at dksX0_allowance_0 14 rfl rfl)
theorem dX0_allowance_15 : decode cX0_allowance 15 = .ok (.ireturn, 1) := dk_172 (dk_at dksX0_allowance_0 15 rfl rfl)
abbrev cX0_nationalShare : ByteArray := method_41_code
def yX0_nationalShare : MethodName := ⟨RX0, "nationalShare", "(LFranchiseLedger;I[J)I"⟩
def dkwX0_nationalShare_0 : List UInt8 := [44, 3, 42, 27, 182, 0, 143, 80, 167, 0, 6, 78, 4, 172, 3, 172]
abbrev dktX0_nationalShare_0 : List UInt8 := dkwX0_nationalShare_0 ++ []
theorem dksX0_nationalShare_0 : cX0_nationalShare.data.toList.drop 0 = dktX0_nationalShare_0 := by decide +kernel
theorem dX0_nationalShare_0 : decode cX0_nationalShare 0 = .ok (.aload_n 2, 1) := dk_44 (dk_at dksX0_nationalShare_0 0 rfl rfl)
theorem dX0_nationalShare_1 : decode cX0_nationalShare 1 = .ok (.iconst 0, 1) := dk_3 (dk_at dksX0_nationalShare_0 1 rfl rfl)
theorem dX0_nationalShare_2 : decode cX0_nationalShare 2 = .ok (.aload_n 0, 1) := dk_42 (dk_at dksX0_nationalShare_0 2 rfl rfl)
theorem dX0_nationalShare_3 : decode cX0_nationalShare 3 = .ok (.iload_n 1, 1) := dk_27 (dk_at dksX0_nationalShare_0 3 rfl rfl)
theorem dX0_nationalShare_4 : decode cX0_nationalShare 4 = .ok (.invokevirtual 143, 3) := dk_182 0 143 (dk_at dksX0_nationalShare_0 4 rfl rfl)
theorem dX0_nationalShare_7 : decode cX0_nationalShare 7 = .ok (.lastore, 1) := dk_80 (dk_at dksX0_nationalShare_0 7 rfl rfl)
theorem dX0_nationalShare_8 : decode cX0_nationalShare 8 = .ok (.goto 6, 3) := dk_167 0 6 (dk_at dksX0_nationalShare_0 8 rfl rfl)
theorem dX0_nationalShare_11 : decode cX0_nationalShare 11 = .ok (.astore_n 3, 1) := dk_78 (dk_at dksX0_nationalShare_0 11 rfl rfl)
theorem dX0_nationalShare_12 : decode cX0_nationalShare 12 = .ok (.iconst 1, 1) := dk_4 (dk_at dksX0_nationalShare_0 12 rfl rfl)
theorem dX0_nationalShare_13 : decode cX0_nationalShare 13 = .ok (.ireturn, 1) := dk_172 (dk_at dksX0_nationalShare_0 13 rfl rfl)
theorem dX0_nationalShare_14 : decode cX0_nationalShare 14 = .ok (.iconst 0, 1) := dk_3 (dk_at dksX0_nationalShare_0 14 rfl rfl)
theorem dX0_nationalShare_15 : decode cX0_nationalShare 15 = .ok (.ireturn, 1) := dk_172 (dk_at dksX0_nationalShare_0 15 rfl rfl)
abbrev cX0_requestTransfer : ByteArray := method_42_code
def yX0_requestTransfer : MethodName := ⟨RX0, "requestTransfer", "(LFranchiseLedger;IIJ[J)I"⟩
def dkwX0_requestTransfer_1 : List UInt8 := [4, 172, 58, 6, 5, 172, 3, 172]
abbrev dktX0_requestTransfer_1 : List UInt8 := dkwX0_requestTransfer_1 ++ []
def dkwX0_requestTransfer_0 : List UInt8 := [25, 5, 3, 42, 27, 28, 33, 182, 0, 146, 153, 0, 7, 10, 167, 0, 4, 9, 80, 167, 0, 11, 58, 6]
abbrev dktX0_requestTransfer_0 : List UInt8 := dkwX0_requestTransfer_0 ++ dktX0_requestTransfer_1
theorem dksX0_requestTransfer_0 : cX0_requestTransfer.data.toList.drop 0 = dktX0_requestTransfer_0 := by decide +kernel
theorem dksX0_requestTransfer_1 : cX0_requestTransfer.data.toList.drop 24 = dktX0_requestTransfer_1 := dk_seg dksX0_requestTransfer_0 24 rfl rfl
theorem dX0_requestTransfer_0 : decode cX0_requestTransfer 0 = .ok (.aload 5, 2) := dk_25 5 (dk_at dksX0_requestTransfer_0 0 rfl rfl)
theorem dX0_requestTransfer_2 : decode cX0_requestTransfer 2 = .ok (.iconst 0, 1) := dk_3 (dk_at dksX0_requestTransfer_0 2 rfl rfl)
theorem dX0_requestTransfer_3 : decode cX0_requestTransfer 3 = .ok (.aload_n 0, 1) := dk_42 (dk_at dksX0_requestTransfer_0 3 rfl rfl)
theorem dX0_requestTransfer_4 : decode cX0_requestTransfer 4 = .ok (.iload_n 1, 1) := dk_27 (dk_at dksX0_requestTransfer_0 4 rfl rfl)
theorem dX0_requestTransfer_5 : decode cX0_requestTransfer 5 = .ok (.iload_n 2, 1) := dk_28 (dk_at dksX0_requestTransfer_0 5 rfl rfl)
theorem dX0_requestTransfer_6 : decode cX0_requestTransfer 6 = .ok (.lload_n 3, 1) := dk_33 (dk_at dksX0_requestTransfer_0 6 rfl rfl)
theorem dX0_requestTransfer_7 : decode cX0_requestTransfer 7 = .ok (.invokevirtual 146, 3) := dk_182 0 146 (dk_at dksX0_requestTransfer_0 7 rfl rfl)
theorem dX0_requestTransfer_10 : decode cX0_requestTransfer 10 = .ok (.ifCond .eq 7, 3) := dk_153 0 7 (dk_at dksX0_requestTransfer_0 10 rfl rfl)
theorem dX0_requestTransfer_13 : decode cX0_requestTransfer 13 = .ok (.lconst 1, 1) := dk_10 (dk_at dksX0_requestTransfer_0 13 rfl rfl)
theorem dX0_requestTransfer_14 : decode cX0_requestTransfer 14 = .ok (.goto 4, 3) := dk_167 0 4 (dk_at dksX0_requestTransfer_0 14 rfl rfl)
theorem dX0_requestTransfer_17 : decode cX0_requestTransfer 17 = .ok (.lconst 0, 1) := dk_9 (dk_at dksX0_requestTransfer_0 17 rfl rfl)
theorem dX0_requestTransfer_18 : decode cX0_requestTransfer 18 = .ok (.lastore, 1) := dk_80 (dk_at dksX0_requestTransfer_0 18 rfl rfl)
theorem dX0_requestTransfer_19 : decode cX0_requestTransfer 19 = .ok (.goto 11, 3) := dk_167 0 11 (dk_at dksX0_requestTransfer_0 19 rfl rfl)
theorem dX0_requestTransfer_22 : decode cX0_requestTransfer 22 = .ok (.astore 6, 2) := dk_58 6 (dk_at dksX0_requestTransfer_0 22 rfl rfl)
theorem dX0_requestTransfer_24 : decode cX0_requestTransfer 24 = .ok (.iconst 1, 1) := dk_4 (dk_at dksX0_requestTransfer_1 0 rfl rfl)
theorem dX0_requestTransfer_25 : decode cX0_requestTransfer 25 = .ok (.ireturn, 1) := dk_172 (dk_at dksX0_requestTransfer_1 1 rfl rfl)
theorem dX0_requestTransfer_26 : decode cX0_requestTransfer 26 = .ok (.astore 6, 2) := dk_58 6 (dk_at dksX0_requestTransfer_1 2 rfl rfl)
theorem dX0_requestTransfer_28 : decode cX0_requestTransfer 28 = .ok (.iconst 2, 1) := dk_5 (dk_at dksX0_requestTransfer_1 4 rfl rfl)
theorem dX0_requestTransfer_29 : decode cX0_requestTransfer 29 = .ok (.ireturn, 1) := dk_172 (dk_at dksX0_requestTransfer_1 5 rfl rfl)
theorem dX0_requestTransfer_30 : decode cX0_requestTransfer 30 = .ok (.iconst 0, 1) := dk_3 (dk_at dksX0_requestTransfer_1 6 rfl rfl)
theorem dX0_requestTransfer_31 : decode cX0_requestTransfer 31 = .ok (.ireturn, 1) := dk_172 (dk_at dksX0_requestTransfer_1 7 rfl rfl)
abbrev cX0_vote : ByteArray := method_43_code
def yX0_vote : MethodName := ⟨RX0, "vote", "(LFranchiseLedger;IIZ[J)I"⟩
def dkwX0_vote_1 : List UInt8 := [172]
abbrev dktX0_vote_1 : List UInt8 := dkwX0_vote_1 ++ []
def dkwX0_vote_0 : List UInt8 := [25, 4, 3, 42, 27, 28, 29, 182, 0, 150, 133, 80, 167, 0, 11, 58, 5, 4, 172, 58, 5, 5, 172, 3]
abbrev dktX0_vote_0 : List UInt8 := dkwX0_vote_0 ++ dktX0_vote_1
theorem dksX0_vote_0 : cX0_vote.data.toList.drop 0 = dktX0_vote_0 := by decide +kernel
theorem dksX0_vote_1 : cX0_vote.data.toList.drop 24 = dktX0_vote_1 := dk_seg dksX0_vote_0 24 rfl rfl
theorem dX0_vote_0 : decode cX0_vote 0 = .ok (.aload 4, 2) := dk_25 4 (dk_at dksX0_vote_0 0 rfl rfl)
theorem dX0_vote_2 : decode cX0_vote 2 = .ok (.iconst 0, 1) := dk_3 (dk_at dksX0_vote_0 2 rfl rfl)
theorem dX0_vote_3 : decode cX0_vote 3 = .ok (.aload_n 0, 1) := dk_42 (dk_at dksX0_vote_0 3 rfl rfl)
theorem dX0_vote_4 : decode cX0_vote 4 = .ok (.iload_n 1, 1) := dk_27 (dk_at dksX0_vote_0 4 rfl rfl)
theorem dX0_vote_5 : decode cX0_vote 5 = .ok (.iload_n 2, 1) := dk_28 (dk_at dksX0_vote_0 5 rfl rfl)
theorem dX0_vote_6 : decode cX0_vote 6 = .ok (.iload_n 3, 1) := dk_29 (dk_at dksX0_vote_0 6 rfl rfl)
theorem dX0_vote_7 : decode cX0_vote 7 = .ok (.invokevirtual 150, 3) := dk_182 0 150 (dk_at dksX0_vote_0 7 rfl rfl)
theorem dX0_vote_10 : decode cX0_vote 10 = .ok (.i2l, 1) := dk_133 (dk_at dksX0_vote_0 10 rfl rfl)
theorem dX0_vote_11 : decode cX0_vote 11 = .ok (.lastore, 1) := dk_80 (dk_at dksX0_vote_0 11 rfl rfl)
theorem dX0_vote_12 : decode cX0_vote 12 = .ok (.goto 11, 3) := dk_167 0 11 (dk_at dksX0_vote_0 12 rfl rfl)
theorem dX0_vote_15 : decode cX0_vote 15 = .ok (.astore 5, 2) := dk_58 5 (dk_at dksX0_vote_0 15 rfl rfl)
theorem dX0_vote_17 : decode cX0_vote 17 = .ok (.iconst 1, 1) := dk_4 (dk_at dksX0_vote_0 17 rfl rfl)
theorem dX0_vote_18 : decode cX0_vote 18 = .ok (.ireturn, 1) := dk_172 (dk_at dksX0_vote_0 18 rfl rfl)
theorem dX0_vote_19 : decode cX0_vote 19 = .ok (.astore 5, 2) := dk_58 5 (dk_at dksX0_vote_0 19 rfl rfl)
theorem dX0_vote_21 : decode cX0_vote 21 = .ok (.iconst 2, 1) := dk_5 (dk_at dksX0_vote_0 21 rfl rfl)
theorem dX0_vote_22 : decode cX0_vote 22 = .ok (.ireturn, 1) := dk_172 (dk_at dksX0_vote_0 22 rfl rfl)
theorem dX0_vote_23 : decode cX0_vote 23 = .ok (.iconst 0, 1) := dk_3 (dk_at dksX0_vote_0 23 rfl rfl)
theorem dX0_vote_24 : decode cX0_vote 24 = .ok (.ireturn, 1) := dk_172 (dk_at dksX0_vote_1 0 rfl rfl)
abbrev cX0_exercise : ByteArray := method_44_code
def yX0_exercise : MethodName := ⟨RX0, "exercise", "(LFranchiseLedger;I[J)I"⟩
def dkwX0_exercise_0 : List UInt8 := [44, 3, 42, 27, 182, 0, 154, 153, 0, 7, 10, 167, 0, 4, 9, 80, 167, 0, 6, 78, 4, 172, 3, 172]
abbrev dktX0_exercise_0 : List UInt8 := dkwX0_exercise_0 ++ []
theorem dksX0_exercise_0 : cX0_exercise.data.toList.drop 0 = dktX0_exercise_0 := by decide +kernel
theorem dX0_exercise_0 : decode cX0_exercise 0 = .ok (.aload_n 2, 1) := dk_44 (dk_at dksX0_exercise_0 0 rfl rfl)
theorem dX0_exercise_1 : decode cX0_exercise 1 = .ok (.iconst 0, 1) := dk_3 (dk_at dksX0_exercise_0 1 rfl rfl)
theorem dX0_exercise_2 : decode cX0_exercise 2 = .ok (.aload_n 0, 1) := dk_42 (dk_at dksX0_exercise_0 2 rfl rfl)
theorem dX0_exercise_3 : decode cX0_exercise 3 = .ok (.iload_n 1, 1) := dk_27 (dk_at dksX0_exercise_0 3 rfl rfl)
theorem dX0_exercise_4 : decode cX0_exercise 4 = .ok (.invokevirtual 154, 3) := dk_182 0 154 (dk_at dksX0_exercise_0 4 rfl rfl)
theorem dX0_exercise_7 : decode cX0_exercise 7 = .ok (.ifCond .eq 7, 3) := dk_153 0 7 (dk_at dksX0_exercise_0 7 rfl rfl)
theorem dX0_exercise_10 : decode cX0_exercise 10 = .ok (.lconst 1, 1) := dk_10 (dk_at dksX0_exercise_0 10 rfl rfl)
theorem dX0_exercise_11 : decode cX0_exercise 11 = .ok (.goto 4, 3) := dk_167 0 4 (dk_at dksX0_exercise_0 11 rfl rfl)
theorem dX0_exercise_14 : decode cX0_exercise 14 = .ok (.lconst 0, 1) := dk_9 (dk_at dksX0_exercise_0 14 rfl rfl)
theorem dX0_exercise_15 : decode cX0_exercise 15 = .ok (.lastore, 1) := dk_80 (dk_at dksX0_exercise_0 15 rfl rfl)
theorem dX0_exercise_16 : decode cX0_exercise 16 = .ok (.goto 6, 3) := dk_167 0 6 (dk_at dksX0_exercise_0 16 rfl rfl)
theorem dX0_exercise_19 : decode cX0_exercise 19 = .ok (.astore_n 3, 1) := dk_78 (dk_at dksX0_exercise_0 19 rfl rfl)
theorem dX0_exercise_20 : decode cX0_exercise 20 = .ok (.iconst 1, 1) := dk_4 (dk_at dksX0_exercise_0 20 rfl rfl)
theorem dX0_exercise_21 : decode cX0_exercise 21 = .ok (.ireturn, 1) := dk_172 (dk_at dksX0_exercise_0 21 rfl rfl)
theorem dX0_exercise_22 : decode cX0_exercise 22 = .ok (.iconst 0, 1) := dk_3 (dk_at dksX0_exercise_0 22 rfl rfl)
theorem dX0_exercise_23 : decode cX0_exercise 23 = .ok (.ireturn, 1) := dk_172 (dk_at dksX0_exercise_0 23 rfl rfl)
abbrev cX0_withdraw : ByteArray := method_45_code
def yX0_withdraw : MethodName := ⟨RX0, "withdraw", "(LFranchiseLedger;I[J)I"⟩
def dkwX0_withdraw_0 : List UInt8 := [44, 3, 42, 27, 182, 0, 157, 153, 0, 7, 10, 167, 0, 4, 9, 80, 167, 0, 6, 78, 4, 172, 3, 172]
abbrev dktX0_withdraw_0 : List UInt8 := dkwX0_withdraw_0 ++ []
theorem dksX0_withdraw_0 : cX0_withdraw.data.toList.drop 0 = dktX0_withdraw_0 := by decide +kernel
theorem dX0_withdraw_0 : decode cX0_withdraw 0 = .ok (.aload_n 2, 1) := dk_44 (dk_at dksX0_withdraw_0 0 rfl rfl)
theorem dX0_withdraw_1 : decode cX0_withdraw 1 = .ok (.iconst 0, 1) := dk_3 (dk_at dksX0_withdraw_0 1 rfl rfl)
theorem dX0_withdraw_2 : decode cX0_withdraw 2 = .ok (.aload_n 0, 1) := dk_42 (dk_at dksX0_withdraw_0 2 rfl rfl)
theorem dX0_withdraw_3 : decode cX0_withdraw 3 = .ok (.iload_n 1, 1) := dk_27 (dk_at dksX0_withdraw_0 3 rfl rfl)
theorem dX0_withdraw_4 : decode cX0_withdraw 4 = .ok (.invokevirtual 157, 3) := dk_182 0 157 (dk_at dksX0_withdraw_0 4 rfl rfl)
theorem dX0_withdraw_7 : decode cX0_withdraw 7 = .ok (.ifCond .eq 7, 3) := dk_153 0 7 (dk_at dksX0_withdraw_0 7 rfl rfl)
theorem dX0_withdraw_10 : decode cX0_withdraw 10 = .ok (.lconst 1, 1) := dk_10 (dk_at dksX0_withdraw_0 10 rfl rfl)
theorem dX0_withdraw_11 : decode cX0_withdraw 11 = .ok (.goto 4, 3) := dk_167 0 4 (dk_at dksX0_withdraw_0 11 rfl rfl)
theorem dX0_withdraw_14 : decode cX0_withdraw 14 = .ok (.lconst 0, 1) := dk_9 (dk_at dksX0_withdraw_0 14 rfl rfl)
theorem dX0_withdraw_15 : decode cX0_withdraw 15 = .ok (.lastore, 1) := dk_80 (dk_at dksX0_withdraw_0 15 rfl rfl)
theorem dX0_withdraw_16 : decode cX0_withdraw 16 = .ok (.goto 6, 3) := dk_167 0 6 (dk_at dksX0_withdraw_0 16 rfl rfl)
theorem dX0_withdraw_19 : decode cX0_withdraw 19 = .ok (.astore_n 3, 1) := dk_78 (dk_at dksX0_withdraw_0 19 rfl rfl)
theorem dX0_withdraw_20 : decode cX0_withdraw 20 = .ok (.iconst 1, 1) := dk_4 (dk_at dksX0_withdraw_0 20 rfl rfl)
theorem dX0_withdraw_21 : decode cX0_withdraw 21 = .ok (.ireturn, 1) := dk_172 (dk_at dksX0_withdraw_0 21 rfl rfl)
theorem dX0_withdraw_22 : decode cX0_withdraw 22 = .ok (.iconst 0, 1) := dk_3 (dk_at dksX0_withdraw_0 22 rfl rfl)
theorem dX0_withdraw_23 : decode cX0_withdraw 23 = .ok (.ireturn, 1) := dk_172 (dk_at dksX0_withdraw_0 23 rfl rfl)
abbrev cX0_transferState : ByteArray := method_46_code
def yX0_transferState : MethodName := ⟨RX0, "transferState", "(LFranchiseLedger;I[J)I"⟩
def dkwX0_transferState_0 : List UInt8 := [44, 3, 42, 27, 182, 0, 160, 133, 80, 167, 0, 6, 78, 4, 172, 3, 172]
abbrev dktX0_transferState_0 : List UInt8 := dkwX0_transferState_0 ++ []
theorem dksX0_transferState_0 : cX0_transferState.data.toList.drop 0 = dktX0_transferState_0 := by decide +kernel
theorem dX0_transferState_0 : decode cX0_transferState 0 = .ok (.aload_n 2, 1) := dk_44 (dk_at dksX0_transferState_0 0 rfl rfl)
theorem dX0_transferState_1 : decode cX0_transferState 1 = .ok (.iconst 0, 1) := dk_3 (dk_at dksX0_transferState_0 1 rfl rfl)
theorem dX0_transferState_2 : decode cX0_transferState 2 = .ok (.aload_n 0, 1) := dk_42 (dk_at dksX0_transferState_0 2 rfl rfl)
theorem dX0_transferState_3 : decode cX0_transferState 3 = .ok (.iload_n 1, 1) := dk_27 (dk_at dksX0_transferState_0 3 rfl rfl)
theorem dX0_transferState_4 : decode cX0_transferState 4 = .ok (.invokevirtual 160, 3) := dk_182 0 160 (dk_at dksX0_transferState_0 4 rfl rfl)
theorem dX0_transferState_7 : decode cX0_transferState 7 = .ok (.i2l, 1) := dk_133 (dk_at dksX0_transferState_0 7 rfl rfl)
theorem dX0_transferState_8 : decode cX0_transferState 8 = .ok (.lastore, 1) := dk_80 (dk_at dksX0_transferState_0 8 rfl rfl)
theorem dX0_transferState_9 : decode cX0_transferState 9 = .ok (.goto 6, 3) := dk_167 0 6 (dk_at dksX0_transferState_0 9 rfl rfl)
theorem dX0_transferState_12 : decode cX0_transferState 12 = .ok (.astore_n 3, 1) := dk_78 (dk_at dksX0_transferState_0 12 rfl rfl)
theorem dX0_transferState_13 : decode cX0_transferState 13 = .ok (.iconst 1, 1) := dk_4 (dk_at dksX0_transferState_0 13 rfl rfl)
theorem dX0_transferState_14 : decode cX0_transferState 14 = .ok (.ireturn, 1) := dk_172 (dk_at dksX0_transferState_0 14 rfl rfl)
theorem dX0_transferState_15 : decode cX0_transferState 15 = .ok (.iconst 0, 1) := dk_3 (dk_at dksX0_transferState_0 15 rfl rfl)
theorem dX0_transferState_16 : decode cX0_transferState 16 = .ok (.ireturn, 1) := dk_172 (dk_at dksX0_transferState_0 16 rfl rfl)
abbrev cX0_transferWait : ByteArray := method_47_code
def yX0_transferWait : MethodName := ⟨RX0, "transferWait", "(LFranchiseLedger;I[J)I"⟩
def dkwX0_transferWait_0 : List UInt8 := [44, 3, 42, 27, 182, 0, 163, 133, 80, 167, 0, 6, 78, 4, 172, 3, 172]
abbrev dktX0_transferWait_0 : List UInt8 := dkwX0_transferWait_0 ++ []
theorem dksX0_transferWait_0 : cX0_transferWait.data.toList.drop 0 = dktX0_transferWait_0 := by decide +kernel
theorem dX0_transferWait_0 : decode cX0_transferWait 0 = .ok (.aload_n 2, 1) := dk_44 (dk_at dksX0_transferWait_0 0 rfl rfl)
theorem dX0_transferWait_1 : decode cX0_transferWait 1 = .ok (.iconst 0, 1) := dk_3 (dk_at dksX0_transferWait_0 1 rfl rfl)
theorem dX0_transferWait_2 : decode cX0_transferWait 2 = .ok (.aload_n 0, 1) := dk_42 (dk_at dksX0_transferWait_0 2 rfl rfl)
theorem dX0_transferWait_3 : decode cX0_transferWait 3 = .ok (.iload_n 1, 1) := dk_27 (dk_at dksX0_transferWait_0 3 rfl rfl)
theorem dX0_transferWait_4 : decode cX0_transferWait 4 = .ok (.invokevirtual 163, 3) := dk_182 0 163 (dk_at dksX0_transferWait_0 4 rfl rfl)
theorem dX0_transferWait_7 : decode cX0_transferWait 7 = .ok (.i2l, 1) := dk_133 (dk_at dksX0_transferWait_0 7 rfl rfl)
theorem dX0_transferWait_8 : decode cX0_transferWait 8 = .ok (.lastore, 1) := dk_80 (dk_at dksX0_transferWait_0 8 rfl rfl)
theorem dX0_transferWait_9 : decode cX0_transferWait 9 = .ok (.goto 6, 3) := dk_167 0 6 (dk_at dksX0_transferWait_0 9 rfl rfl)
theorem dX0_transferWait_12 : decode cX0_transferWait 12 = .ok (.astore_n 3, 1) := dk_78 (dk_at dksX0_transferWait_0 12 rfl rfl)
theorem dX0_transferWait_13 : decode cX0_transferWait 13 = .ok (.iconst 1, 1) := dk_4 (dk_at dksX0_transferWait_0 13 rfl rfl)
theorem dX0_transferWait_14 : decode cX0_transferWait 14 = .ok (.ireturn, 1) := dk_172 (dk_at dksX0_transferWait_0 14 rfl rfl)
theorem dX0_transferWait_15 : decode cX0_transferWait 15 = .ok (.iconst 0, 1) := dk_3 (dk_at dksX0_transferWait_0 15 rfl rfl)
theorem dX0_transferWait_16 : decode cX0_transferWait 16 = .ok (.ireturn, 1) := dk_172 (dk_at dksX0_transferWait_0 16 rfl rfl)
abbrev cX0_generation : ByteArray := method_48_code
def yX0_generation : MethodName := ⟨RX0, "generation", "(LFranchiseLedger;I[J)I"⟩
def dkwX0_generation_0 : List UInt8 := [44, 3, 42, 27, 182, 0, 166, 133, 80, 167, 0, 6, 78, 4, 172, 3, 172]
abbrev dktX0_generation_0 : List UInt8 := dkwX0_generation_0 ++ []
theorem dksX0_generation_0 : cX0_generation.data.toList.drop 0 = dktX0_generation_0 := by decide +kernel
theorem dX0_generation_0 : decode cX0_generation 0 = .ok (.aload_n 2, 1) := dk_44 (dk_at dksX0_generation_0 0 rfl rfl)
theorem dX0_generation_1 : decode cX0_generation 1 = .ok (.iconst 0, 1) := dk_3 (dk_at dksX0_generation_0 1 rfl rfl)
theorem dX0_generation_2 : decode cX0_generation 2 = .ok (.aload_n 0, 1) := dk_42 (dk_at dksX0_generation_0 2 rfl rfl)
theorem dX0_generation_3 : decode cX0_generation 3 = .ok (.iload_n 1, 1) := dk_27 (dk_at dksX0_generation_0 3 rfl rfl)
theorem dX0_generation_4 : decode cX0_generation 4 = .ok (.invokevirtual 166, 3) := dk_182 0 166 (dk_at dksX0_generation_0 4 rfl rfl)
theorem dX0_generation_7 : decode cX0_generation 7 = .ok (.i2l, 1) := dk_133 (dk_at dksX0_generation_0 7 rfl rfl)
theorem dX0_generation_8 : decode cX0_generation 8 = .ok (.lastore, 1) := dk_80 (dk_at dksX0_generation_0 8 rfl rfl)
theorem dX0_generation_9 : decode cX0_generation 9 = .ok (.goto 6, 3) := dk_167 0 6 (dk_at dksX0_generation_0 9 rfl rfl)
theorem dX0_generation_12 : decode cX0_generation 12 = .ok (.astore_n 3, 1) := dk_78 (dk_at dksX0_generation_0 12 rfl rfl)
theorem dX0_generation_13 : decode cX0_generation 13 = .ok (.iconst 1, 1) := dk_4 (dk_at dksX0_generation_0 13 rfl rfl)
theorem dX0_generation_14 : decode cX0_generation 14 = .ok (.ireturn, 1) := dk_172 (dk_at dksX0_generation_0 14 rfl rfl)
theorem dX0_generation_15 : decode cX0_generation 15 = .ok (.iconst 0, 1) := dk_3 (dk_at dksX0_generation_0 15 rfl rfl)
theorem dX0_generation_16 : decode cX0_generation 16 = .ok (.ireturn, 1) := dk_172 (dk_at dksX0_generation_0 16 rfl rfl)
abbrev cX0_worth : ByteArray := method_49_code
def yX0_worth : MethodName := ⟨RX0, "worth", "(LFranchiseLedger;I[J)I"⟩
def dkwX0_worth_0 : List UInt8 := [44, 3, 42, 27, 182, 0, 169, 133, 80, 167, 0, 6, 78, 4, 172, 3, 172]
abbrev dktX0_worth_0 : List UInt8 := dkwX0_worth_0 ++ []
theorem dksX0_worth_0 : cX0_worth.data.toList.drop 0 = dktX0_worth_0 := by decide +kernel
theorem dX0_worth_0 : decode cX0_worth 0 = .ok (.aload_n 2, 1) := dk_44 (dk_at dksX0_worth_0 0 rfl rfl)
theorem dX0_worth_1 : decode cX0_worth 1 = .ok (.iconst 0, 1) := dk_3 (dk_at dksX0_worth_0 1 rfl rfl)
theorem dX0_worth_2 : decode cX0_worth 2 = .ok (.aload_n 0, 1) := dk_42 (dk_at dksX0_worth_0 2 rfl rfl)
theorem dX0_worth_3 : decode cX0_worth 3 = .ok (.iload_n 1, 1) := dk_27 (dk_at dksX0_worth_0 3 rfl rfl)
theorem dX0_worth_4 : decode cX0_worth 4 = .ok (.invokevirtual 169, 3) := dk_182 0 169 (dk_at dksX0_worth_0 4 rfl rfl)
theorem dX0_worth_7 : decode cX0_worth 7 = .ok (.i2l, 1) := dk_133 (dk_at dksX0_worth_0 7 rfl rfl)
theorem dX0_worth_8 : decode cX0_worth 8 = .ok (.lastore, 1) := dk_80 (dk_at dksX0_worth_0 8 rfl rfl)
theorem dX0_worth_9 : decode cX0_worth 9 = .ok (.goto 6, 3) := dk_167 0 6 (dk_at dksX0_worth_0 9 rfl rfl)
theorem dX0_worth_12 : decode cX0_worth 12 = .ok (.astore_n 3, 1) := dk_78 (dk_at dksX0_worth_0 12 rfl rfl)
theorem dX0_worth_13 : decode cX0_worth 13 = .ok (.iconst 1, 1) := dk_4 (dk_at dksX0_worth_0 13 rfl rfl)
theorem dX0_worth_14 : decode cX0_worth 14 = .ok (.ireturn, 1) := dk_172 (dk_at dksX0_worth_0 14 rfl rfl)
theorem dX0_worth_15 : decode cX0_worth 15 = .ok (.iconst 0, 1) := dk_3 (dk_at dksX0_worth_0 15 rfl rfl)
theorem dX0_worth_16 : decode cX0_worth 16 = .ok (.ireturn, 1) := dk_172 (dk_at dksX0_worth_0 16 rfl rfl)
abbrev cX0_formatInvoice : ByteArray := method_50_code
def yX0_formatInvoice : MethodName := ⟨RX0, "formatInvoice", "(LFranchiseLedger;II[J)I"⟩
def dkwX0_formatInvoice_0 : List UInt8 := [45, 3, 42, 27, 28, 182, 0, 172, 133, 80, 167, 0, 11, 58, 4, 4, 172, 58, 4, 5, 172, 3, 172]
abbrev dktX0_formatInvoice_0 : List UInt8 := dkwX0_formatInvoice_0 ++ []
theorem dksX0_formatInvoice_0 : cX0_formatInvoice.data.toList.drop 0 = dktX0_formatInvoice_0 := by decide +kernel
theorem dX0_formatInvoice_0 : decode cX0_formatInvoice 0 = .ok (.aload_n 3, 1) := dk_45 (dk_at dksX0_formatInvoice_0 0 rfl rfl)
theorem dX0_formatInvoice_1 : decode cX0_formatInvoice 1 = .ok (.iconst 0, 1) := dk_3 (dk_at dksX0_formatInvoice_0 1 rfl rfl)
theorem dX0_formatInvoice_2 : decode cX0_formatInvoice 2 = .ok (.aload_n 0, 1) := dk_42 (dk_at dksX0_formatInvoice_0 2 rfl rfl)
theorem dX0_formatInvoice_3 : decode cX0_formatInvoice 3 = .ok (.iload_n 1, 1) := dk_27 (dk_at dksX0_formatInvoice_0 3 rfl rfl)
theorem dX0_formatInvoice_4 : decode cX0_formatInvoice 4 = .ok (.iload_n 2, 1) := dk_28 (dk_at dksX0_formatInvoice_0 4 rfl rfl)
theorem dX0_formatInvoice_5 : decode cX0_formatInvoice 5 = .ok (.invokevirtual 172, 3) := dk_182 0 172 (dk_at dksX0_formatInvoice_0 5 rfl rfl)
theorem dX0_formatInvoice_8 : decode cX0_formatInvoice 8 = .ok (.i2l, 1) := dk_133 (dk_at dksX0_formatInvoice_0 8 rfl rfl)
theorem dX0_formatInvoice_9 : decode cX0_formatInvoice 9 = .ok (.lastore, 1) := dk_80 (dk_at dksX0_formatInvoice_0 9 rfl rfl)
theorem dX0_formatInvoice_10 : decode cX0_formatInvoice 10 = .ok (.goto 11, 3) := dk_167 0 11 (dk_at dksX0_formatInvoice_0 10 rfl rfl)
theorem dX0_formatInvoice_13 : decode cX0_formatInvoice 13 = .ok (.astore 4, 2) := dk_58 4 (dk_at dksX0_formatInvoice_0 13 rfl rfl)
theorem dX0_formatInvoice_15 : decode cX0_formatInvoice 15 = .ok (.iconst 1, 1) := dk_4 (dk_at dksX0_formatInvoice_0 15 rfl rfl)
theorem dX0_formatInvoice_16 : decode cX0_formatInvoice 16 = .ok (.ireturn, 1) := dk_172 (dk_at dksX0_formatInvoice_0 16 rfl rfl)
theorem dX0_formatInvoice_17 : decode cX0_formatInvoice 17 = .ok (.astore 4, 2) := dk_58 4 (dk_at dksX0_formatInvoice_0 17 rfl rfl)
theorem dX0_formatInvoice_19 : decode cX0_formatInvoice 19 = .ok (.iconst 2, 1) := dk_5 (dk_at dksX0_formatInvoice_0 19 rfl rfl)
theorem dX0_formatInvoice_20 : decode cX0_formatInvoice 20 = .ok (.ireturn, 1) := dk_172 (dk_at dksX0_formatInvoice_0 20 rfl rfl)
theorem dX0_formatInvoice_21 : decode cX0_formatInvoice 21 = .ok (.iconst 0, 1) := dk_3 (dk_at dksX0_formatInvoice_0 21 rfl rfl)
theorem dX0_formatInvoice_22 : decode cX0_formatInvoice 22 = .ok (.ireturn, 1) := dk_172 (dk_at dksX0_formatInvoice_0 22 rfl rfl)
theorem q128 : (Jvm.Cond.initialized "FranchiseLedgerLaw") ∈ lw_all := lw_g (lw_at lw_m1 0 rfl) rfl
theorem q176 : (Jvm.Cond.classLink "FranchiseLedgerLaw" (8 : Nat) "FranchiseLedger") ∈ lw_all := lw_g (lw_at lw_m1 48 rfl) rfl
theorem q178 : (Jvm.Cond.methodLink "FranchiseLedgerLaw" (175 : Nat) ({ cls := "FranchiseLedger", name := "<init>", desc := "()V" } : Jvm.MethodName)) ∈ lw_all := lw_g (lw_at lw_m1 50 rfl) rfl
theorem q724 : (Jvm.Cond.methodLink "FranchiseLedgerLaw" (217 : Nat) ({ cls := "FranchiseLedger", name := "count", desc := "(I)I" } : Jvm.MethodName)) ∈ lw_all := lw_g (lw_at lw_m3 116 rfl) rfl
theorem q745 : (Jvm.Cond.methodLink "FranchiseLedgerLaw" (221 : Nat) ({ cls := "FranchiseLedger", name := "month", desc := "()I" } : Jvm.MethodName)) ∈ lw_all := lw_g (lw_at lw_m3 137 rfl) rfl
theorem q749 : (Jvm.Cond.methodLink "FranchiseLedgerLaw" (298 : Nat) ({ cls := "FranchiseLedger", name := "ranked", desc := "(I)I" } : Jvm.MethodName)) ∈ lw_all := lw_g (lw_at lw_m3 141 rfl) rfl
theorem q820 : (Jvm.Cond.methodLink "FranchiseLedgerLaw" (318 : Nat) ({ cls := "FranchiseLedger", name := "totalOwed", desc := "()J" } : Jvm.MethodName)) ∈ lw_all := lw_g (lw_at lw_m3 212 rfl) rfl
theorem q827 : (Jvm.Cond.methodLink "FranchiseLedgerLaw" (338 : Nat) ({ cls := "FranchiseLedger", name := "fundBalance", desc := "()J" } : Jvm.MethodName)) ∈ lw_all := lw_g (lw_at lw_m3 219 rfl) rfl
theorem q844 : (Jvm.Cond.methodLink "FranchiseLedgerLaw" (387 : Nat) ({ cls := "FranchiseLedger", name := "saveSnapshot", desc := "(I)Z" } : Jvm.MethodName)) ∈ lw_all := lw_g (lw_at lw_m3 236 rfl) rfl
theorem q1083 : (Jvm.Cond.methodLink "FranchiseLedgerLaw" (391 : Nat) ({ cls := "FranchiseLedger", name := "restoreSnapshot", desc := "(I)Z" } : Jvm.MethodName)) ∈ lw_all := lw_g (lw_at lw_m4 235 rfl) rfl
theorem q1087 : (Jvm.Cond.methodLink "FranchiseLedgerLaw" (398 : Nat) ({ cls := "FranchiseLedger", name := "formattedByte", desc := "(I)I" } : Jvm.MethodName)) ∈ lw_all := lw_g (lw_at lw_m4 239 rfl) rfl
theorem q1105 : (Jvm.Cond.methodLink "FranchiseLedgerLaw" (179 : Nat) ({ cls := "FranchiseLedger", name := "appendInput", desc := "(IIIII)I" } : Jvm.MethodName)) ∈ lw_all := lw_g (lw_at lw_m5 17 rfl) rfl
theorem q1113 : (Jvm.Cond.methodLink "FranchiseLedgerLaw" (184 : Nat) ({ cls := "FranchiseLedger", name := "truncateInput", desc := "(I)I" } : Jvm.MethodName)) ∈ lw_all := lw_g (lw_at lw_m5 25 rfl) rfl
theorem q1117 : (Jvm.Cond.methodLink "FranchiseLedgerLaw" (200 : Nat) ({ cls := "FranchiseLedger", name := "find", desc := "()I" } : Jvm.MethodName)) ∈ lw_all := lw_g (lw_at lw_m5 29 rfl) rfl
theorem q1324 : (Jvm.Cond.methodLink "FranchiseLedgerLaw" (204 : Nat) ({ cls := "FranchiseLedger", name := "loadJournal", desc := "()I" } : Jvm.MethodName)) ∈ lw_all := lw_g (lw_at lw_m5 236 rfl) rfl
theorem q1605 : (Jvm.Cond.methodLink "FranchiseLedgerLaw" (188 : Nat) ({ cls := "FranchiseLedger", name := "load", desc := "()I" } : Jvm.MethodName)) ∈ lw_all := lw_g (lw_at lw_m7 37 rfl) rfl
theorem q1732 : (Jvm.Cond.methodLink "FranchiseLedgerLaw" (192 : Nat) ({ cls := "FranchiseLedger", name := "errorCode", desc := "()I" } : Jvm.MethodName)) ∈ lw_all := lw_g (lw_at lw_m7 164 rfl) rfl
theorem q1736 : (Jvm.Cond.methodLink "FranchiseLedgerLaw" (196 : Nat) ({ cls := "FranchiseLedger", name := "errorPosition", desc := "()I" } : Jvm.MethodName)) ∈ lw_all := lw_g (lw_at lw_m7 168 rfl) rfl
theorem q1740 : (Jvm.Cond.methodLink "FranchiseLedgerLaw" (208 : Nat) ({ cls := "FranchiseLedgerLaw", name := "runJournal", desc := "(LFranchiseLedger;I[J)I" } : Jvm.MethodName)) ∈ lw_all := lw_g (lw_at lw_m7 172 rfl) rfl
theorem q1741 : (Jvm.Cond.static ({ cls := "FranchiseLedgerLaw", name := "runJournal", desc := "(LFranchiseLedger;I[J)I" } : Jvm.MethodName)) ∈ lw_all := lw_g (lw_at lw_m7 173 rfl) rfl
theorem q1742 : (Jvm.Cond.codeWith ({ cls := "FranchiseLedgerLaw", name := "runJournal", desc := "(LFranchiseLedger;I[J)I" } : Jvm.MethodName) method_3_code (4 : Nat) (Option.some Jvm.ClassFile.FieldType.int) [((0 : Nat), (9 : Nat), (12 : Nat), (13 : Nat))]) ∈ lw_all := lw_g (lw_at lw_m7 174 rfl) rfl
theorem q1743 : (Jvm.Cond.classLink "FranchiseLedgerLaw" (13 : Nat) "java/lang/IllegalArgumentException") ∈ lw_all := lw_g (lw_at lw_m7 175 rfl) rfl
theorem q1744 : (Jvm.Cond.methodLink "FranchiseLedgerLaw" (7 : Nat) ({ cls := "FranchiseLedger", name := "runJournal", desc := "(I)I" } : Jvm.MethodName)) ∈ lw_all := lw_g (lw_at lw_m7 176 rfl) rfl
theorem q2004 : (Jvm.Cond.methodLink "FranchiseLedgerLaw" (225 : Nat) ({ cls := "FranchiseLedgerLaw", name := "owner", desc := "(LFranchiseLedger;II[J)I" } : Jvm.MethodName)) ∈ lw_all := lw_g (lw_at lw_m8 196 rfl) rfl
theorem q2005 : (Jvm.Cond.static ({ cls := "FranchiseLedgerLaw", name := "owner", desc := "(LFranchiseLedger;II[J)I" } : Jvm.MethodName)) ∈ lw_all := lw_g (lw_at lw_m8 197 rfl) rfl
theorem q2006 : (Jvm.Cond.codeWith ({ cls := "FranchiseLedgerLaw", name := "owner", desc := "(LFranchiseLedger;II[J)I" } : Jvm.MethodName) method_4_code (5 : Nat) (Option.some Jvm.ClassFile.FieldType.int) [((0 : Nat), (10 : Nat), (13 : Nat), (13 : Nat))]) ∈ lw_all := lw_g (lw_at lw_m8 198 rfl) rfl
theorem q2007 : (Jvm.Cond.methodLink "FranchiseLedgerLaw" (15 : Nat) ({ cls := "FranchiseLedger", name := "owner", desc := "(II)I" } : Jvm.MethodName)) ∈ lw_all := lw_g (lw_at lw_m8 199 rfl) rfl
theorem q2011 : (Jvm.Cond.methodLink "FranchiseLedgerLaw" (229 : Nat) ({ cls := "FranchiseLedgerLaw", name := "area", desc := "(LFranchiseLedger;I[J)I" } : Jvm.MethodName)) ∈ lw_all := lw_g (lw_at lw_m8 203 rfl) rfl
theorem q2012 : (Jvm.Cond.static ({ cls := "FranchiseLedgerLaw", name := "area", desc := "(LFranchiseLedger;I[J)I" } : Jvm.MethodName)) ∈ lw_all := lw_g (lw_at lw_m8 204 rfl) rfl
theorem q2013 : (Jvm.Cond.codeWith ({ cls := "FranchiseLedgerLaw", name := "area", desc := "(LFranchiseLedger;I[J)I" } : Jvm.MethodName) method_5_code (4 : Nat) (Option.some Jvm.ClassFile.FieldType.int) [((0 : Nat), (9 : Nat), (12 : Nat), (22 : Nat))]) ∈ lw_all := lw_g (lw_at lw_m8 205 rfl) rfl
theorem q2014 : (Jvm.Cond.classLink "FranchiseLedgerLaw" (22 : Nat) "java/lang/IndexOutOfBoundsException") ∈ lw_all := lw_g (lw_at lw_m8 206 rfl) rfl
theorem q2015 : (Jvm.Cond.methodLink "FranchiseLedgerLaw" (19 : Nat) ({ cls := "FranchiseLedger", name := "area", desc := "(I)I" } : Jvm.MethodName)) ∈ lw_all := lw_g (lw_at lw_m8 207 rfl) rfl
theorem q2023 : (Jvm.Cond.methodLink "FranchiseLedgerLaw" (232 : Nat) ({ cls := "FranchiseLedgerLaw", name := "perimeter", desc := "(LFranchiseLedger;I[J)I" } : Jvm.MethodName)) ∈ lw_all := lw_g (lw_at lw_m8 215 rfl) rfl
theorem q2024 : (Jvm.Cond.static ({ cls := "FranchiseLedgerLaw", name := "perimeter", desc := "(LFranchiseLedger;I[J)I" } : Jvm.MethodName)) ∈ lw_all := lw_g (lw_at lw_m8 216 rfl) rfl
theorem q2025 : (Jvm.Cond.codeWith ({ cls := "FranchiseLedgerLaw", name := "perimeter", desc := "(LFranchiseLedger;I[J)I" } : Jvm.MethodName) method_6_code (4 : Nat) (Option.some Jvm.ClassFile.FieldType.int) [((0 : Nat), (9 : Nat), (12 : Nat), (22 : Nat))]) ∈ lw_all := lw_g (lw_at lw_m8 217 rfl) rfl
theorem q2026 : (Jvm.Cond.methodLink "FranchiseLedgerLaw" (24 : Nat) ({ cls := "FranchiseLedger", name := "perimeter", desc := "(I)I" } : Jvm.MethodName)) ∈ lw_all := lw_g (lw_at lw_m8 218 rfl) rfl
theorem q2042 : (Jvm.Cond.methodLink "FranchiseLedgerLaw" (235 : Nat) ({ cls := "FranchiseLedgerLaw", name := "border", desc := "(LFranchiseLedger;II[J)I" } : Jvm.MethodName)) ∈ lw_all := lw_g (lw_at lw_m8 234 rfl) rfl
theorem q2043 : (Jvm.Cond.static ({ cls := "FranchiseLedgerLaw", name := "border", desc := "(LFranchiseLedger;II[J)I" } : Jvm.MethodName)) ∈ lw_all := lw_g (lw_at lw_m8 235 rfl) rfl
theorem q2044 : (Jvm.Cond.codeWith ({ cls := "FranchiseLedgerLaw", name := "border", desc := "(LFranchiseLedger;II[J)I" } : Jvm.MethodName) method_7_code (5 : Nat) (Option.some Jvm.ClassFile.FieldType.int) [((0 : Nat), (10 : Nat), (13 : Nat), (22 : Nat))]) ∈ lw_all := lw_g (lw_at lw_m8 236 rfl) rfl
theorem q2045 : (Jvm.Cond.methodLink "FranchiseLedgerLaw" (27 : Nat) ({ cls := "FranchiseLedger", name := "border", desc := "(II)I" } : Jvm.MethodName)) ∈ lw_all := lw_g (lw_at lw_m8 237 rfl) rfl
theorem q2053 : (Jvm.Cond.methodLink "FranchiseLedgerLaw" (238 : Nat) ({ cls := "FranchiseLedgerLaw", name := "isConnected", desc := "(LFranchiseLedger;I[J)I" } : Jvm.MethodName)) ∈ lw_all := lw_g (lw_at lw_m9 5 rfl) rfl
theorem q2054 : (Jvm.Cond.static ({ cls := "FranchiseLedgerLaw", name := "isConnected", desc := "(LFranchiseLedger;I[J)I" } : Jvm.MethodName)) ∈ lw_all := lw_g (lw_at lw_m9 6 rfl) rfl
theorem q2055 : (Jvm.Cond.codeWith ({ cls := "FranchiseLedgerLaw", name := "isConnected", desc := "(LFranchiseLedger;I[J)I" } : Jvm.MethodName) method_8_code (4 : Nat) (Option.some Jvm.ClassFile.FieldType.int) [((0 : Nat), (16 : Nat), (19 : Nat), (22 : Nat))]) ∈ lw_all := lw_g (lw_at lw_m9 7 rfl) rfl
theorem q2056 : (Jvm.Cond.methodLink "FranchiseLedgerLaw" (30 : Nat) ({ cls := "FranchiseLedger", name := "isConnected", desc := "(I)Z" } : Jvm.MethodName)) ∈ lw_all := lw_g (lw_at lw_m9 8 rfl) rfl
theorem q2069 : (Jvm.Cond.methodLink "FranchiseLedgerLaw" (241 : Nat) ({ cls := "FranchiseLedgerLaw", name := "distance", desc := "(LFranchiseLedger;III[J)I" } : Jvm.MethodName)) ∈ lw_all := lw_g (lw_at lw_m9 21 rfl) rfl
theorem q2070 : (Jvm.Cond.static ({ cls := "FranchiseLedgerLaw", name := "distance", desc := "(LFranchiseLedger;III[J)I" } : Jvm.MethodName)) ∈ lw_all := lw_g (lw_at lw_m9 22 rfl) rfl
theorem q2071 : (Jvm.Cond.codeWith ({ cls := "FranchiseLedgerLaw", name := "distance", desc := "(LFranchiseLedger;III[J)I" } : Jvm.MethodName) method_9_code (6 : Nat) (Option.some Jvm.ClassFile.FieldType.int) [((0 : Nat), (12 : Nat), (15 : Nat), (22 : Nat)), ((0 : Nat), (12 : Nat), (19 : Nat), (13 : Nat))]) ∈ lw_all := lw_g (lw_at lw_m9 23 rfl) rfl
theorem q2072 : (Jvm.Cond.methodLink "FranchiseLedgerLaw" (34 : Nat) ({ cls := "FranchiseLedger", name := "distance", desc := "(III)I" } : Jvm.MethodName)) ∈ lw_all := lw_g (lw_at lw_m9 24 rfl) rfl
theorem q2089 : (Jvm.Cond.methodLink "FranchiseLedgerLaw" (245 : Nat) ({ cls := "FranchiseLedgerLaw", name := "cede", desc := "(LFranchiseLedger;IIIIII[J)I" } : Jvm.MethodName)) ∈ lw_all := lw_g (lw_at lw_m9 41 rfl) rfl
theorem q2090 : (Jvm.Cond.static ({ cls := "FranchiseLedgerLaw", name := "cede", desc := "(LFranchiseLedger;IIIIII[J)I" } : Jvm.MethodName)) ∈ lw_all := lw_g (lw_at lw_m9 42 rfl) rfl
theorem q2091 : (Jvm.Cond.codeWith ({ cls := "FranchiseLedgerLaw", name := "cede", desc := "(LFranchiseLedger;IIIIII[J)I" } : Jvm.MethodName) method_10_code (9 : Nat) (Option.some Jvm.ClassFile.FieldType.int) [((0 : Nat), (18 : Nat), (21 : Nat), (22 : Nat)), ((0 : Nat), (18 : Nat), (25 : Nat), (13 : Nat))]) ∈ lw_all := lw_g (lw_at lw_m9 43 rfl) rfl
theorem q2092 : (Jvm.Cond.methodLink "FranchiseLedgerLaw" (38 : Nat) ({ cls := "FranchiseLedger", name := "cede", desc := "(IIIIII)I" } : Jvm.MethodName)) ∈ lw_all := lw_g (lw_at lw_m9 44 rfl) rfl
theorem q2106 : (Jvm.Cond.methodLink "FranchiseLedgerLaw" (249 : Nat) ({ cls := "FranchiseLedgerLaw", name := "outletOwner", desc := "(LFranchiseLedger;I[J)I" } : Jvm.MethodName)) ∈ lw_all := lw_g (lw_at lw_m9 58 rfl) rfl
theorem q2107 : (Jvm.Cond.static ({ cls := "FranchiseLedgerLaw", name := "outletOwner", desc := "(LFranchiseLedger;I[J)I" } : Jvm.MethodName)) ∈ lw_all := lw_g (lw_at lw_m9 59 rfl) rfl
theorem q2108 : (Jvm.Cond.codeWith ({ cls := "FranchiseLedgerLaw", name := "outletOwner", desc := "(LFranchiseLedger;I[J)I" } : Jvm.MethodName) method_11_code (4 : Nat) (Option.some Jvm.ClassFile.FieldType.int) [((0 : Nat), (9 : Nat), (12 : Nat), (22 : Nat))]) ∈ lw_all := lw_g (lw_at lw_m9 60 rfl) rfl
theorem q2109 : (Jvm.Cond.methodLink "FranchiseLedgerLaw" (42 : Nat) ({ cls := "FranchiseLedger", name := "outletOwner", desc := "(I)I" } : Jvm.MethodName)) ∈ lw_all := lw_g (lw_at lw_m9 61 rfl) rfl
theorem q2113 : (Jvm.Cond.methodLink "FranchiseLedgerLaw" (252 : Nat) ({ cls := "FranchiseLedgerLaw", name := "outletCell", desc := "(LFranchiseLedger;I[J)I" } : Jvm.MethodName)) ∈ lw_all := lw_g (lw_at lw_m9 65 rfl) rfl
theorem q2114 : (Jvm.Cond.static ({ cls := "FranchiseLedgerLaw", name := "outletCell", desc := "(LFranchiseLedger;I[J)I" } : Jvm.MethodName)) ∈ lw_all := lw_g (lw_at lw_m9 66 rfl) rfl
theorem q2115 : (Jvm.Cond.codeWith ({ cls := "FranchiseLedgerLaw", name := "outletCell", desc := "(LFranchiseLedger;I[J)I" } : Jvm.MethodName) method_12_code (4 : Nat) (Option.some Jvm.ClassFile.FieldType.int) [((0 : Nat), (9 : Nat), (12 : Nat), (22 : Nat))]) ∈ lw_all := lw_g (lw_at lw_m9 67 rfl) rfl
theorem q2116 : (Jvm.Cond.methodLink "FranchiseLedgerLaw" (45 : Nat) ({ cls := "FranchiseLedger", name := "outletCell", desc := "(I)I" } : Jvm.MethodName)) ∈ lw_all := lw_g (lw_at lw_m9 68 rfl) rfl
theorem q2123 : (Jvm.Cond.methodLink "FranchiseLedgerLaw" (255 : Nat) ({ cls := "FranchiseLedgerLaw", name := "openOutlet", desc := "(LFranchiseLedger;III[J)I" } : Jvm.MethodName)) ∈ lw_all := lw_g (lw_at lw_m9 75 rfl) rfl
theorem q2124 : (Jvm.Cond.static ({ cls := "FranchiseLedgerLaw", name := "openOutlet", desc := "(LFranchiseLedger;III[J)I" } : Jvm.MethodName)) ∈ lw_all := lw_g (lw_at lw_m9 76 rfl) rfl
theorem q2125 : (Jvm.Cond.codeWith ({ cls := "FranchiseLedgerLaw", name := "openOutlet", desc := "(LFranchiseLedger;III[J)I" } : Jvm.MethodName) method_13_code (6 : Nat) (Option.some Jvm.ClassFile.FieldType.int) [((0 : Nat), (12 : Nat), (15 : Nat), (22 : Nat)), ((0 : Nat), (12 : Nat), (19 : Nat), (13 : Nat))]) ∈ lw_all := lw_g (lw_at lw_m9 77 rfl) rfl
theorem q2126 : (Jvm.Cond.methodLink "FranchiseLedgerLaw" (48 : Nat) ({ cls := "FranchiseLedger", name := "openOutlet", desc := "(III)I" } : Jvm.MethodName)) ∈ lw_all := lw_g (lw_at lw_m9 78 rfl) rfl
theorem q2133 : (Jvm.Cond.methodLink "FranchiseLedgerLaw" (258 : Nat) ({ cls := "FranchiseLedgerLaw", name := "bestSite", desc := "(LFranchiseLedger;I[J)I" } : Jvm.MethodName)) ∈ lw_all := lw_g (lw_at lw_m9 85 rfl) rfl
theorem q2134 : (Jvm.Cond.static ({ cls := "FranchiseLedgerLaw", name := "bestSite", desc := "(LFranchiseLedger;I[J)I" } : Jvm.MethodName)) ∈ lw_all := lw_g (lw_at lw_m9 86 rfl) rfl
theorem q2135 : (Jvm.Cond.codeWith ({ cls := "FranchiseLedgerLaw", name := "bestSite", desc := "(LFranchiseLedger;I[J)I" } : Jvm.MethodName) method_14_code (4 : Nat) (Option.some Jvm.ClassFile.FieldType.int) [((0 : Nat), (9 : Nat), (12 : Nat), (22 : Nat))]) ∈ lw_all := lw_g (lw_at lw_m9 87 rfl) rfl
theorem q2136 : (Jvm.Cond.methodLink "FranchiseLedgerLaw" (51 : Nat) ({ cls := "FranchiseLedger", name := "bestSite", desc := "(I)I" } : Jvm.MethodName)) ∈ lw_all := lw_g (lw_at lw_m9 88 rfl) rfl
theorem q2146 : (Jvm.Cond.methodLink "FranchiseLedgerLaw" (261 : Nat) ({ cls := "FranchiseLedgerLaw", name := "coverage", desc := "(LFranchiseLedger;II[J)I" } : Jvm.MethodName)) ∈ lw_all := lw_g (lw_at lw_m9 98 rfl) rfl
theorem q2147 : (Jvm.Cond.static ({ cls := "FranchiseLedgerLaw", name := "coverage", desc := "(LFranchiseLedger;II[J)I" } : Jvm.MethodName)) ∈ lw_all := lw_g (lw_at lw_m9 99 rfl) rfl
theorem q2148 : (Jvm.Cond.codeWith ({ cls := "FranchiseLedgerLaw", name := "coverage", desc := "(LFranchiseLedger;II[J)I" } : Jvm.MethodName) method_15_code (5 : Nat) (Option.some Jvm.ClassFile.FieldType.int) [((0 : Nat), (10 : Nat), (13 : Nat), (22 : Nat)), ((0 : Nat), (10 : Nat), (17 : Nat), (13 : Nat))]) ∈ lw_all := lw_g (lw_at lw_m9 100 rfl) rfl
theorem q2149 : (Jvm.Cond.methodLink "FranchiseLedgerLaw" (54 : Nat) ({ cls := "FranchiseLedger", name := "coverage", desc := "(II)I" } : Jvm.MethodName)) ∈ lw_all := lw_g (lw_at lw_m9 101 rfl) rfl
theorem q2154 : (Jvm.Cond.methodLink "FranchiseLedgerLaw" (264 : Nat) ({ cls := "FranchiseLedgerLaw", name := "rivalCells", desc := "(LFranchiseLedger;II[J)I" } : Jvm.MethodName)) ∈ lw_all := lw_g (lw_at lw_m9 106 rfl) rfl
theorem q2155 : (Jvm.Cond.static ({ cls := "FranchiseLedgerLaw", name := "rivalCells", desc := "(LFranchiseLedger;II[J)I" } : Jvm.MethodName)) ∈ lw_all := lw_g (lw_at lw_m9 107 rfl) rfl
theorem q2156 : (Jvm.Cond.codeWith ({ cls := "FranchiseLedgerLaw", name := "rivalCells", desc := "(LFranchiseLedger;II[J)I" } : Jvm.MethodName) method_16_code (5 : Nat) (Option.some Jvm.ClassFile.FieldType.int) [((0 : Nat), (10 : Nat), (13 : Nat), (22 : Nat)), ((0 : Nat), (10 : Nat), (17 : Nat), (13 : Nat))]) ∈ lw_all := lw_g (lw_at lw_m9 108 rfl) rfl
theorem q2157 : (Jvm.Cond.methodLink "FranchiseLedgerLaw" (57 : Nat) ({ cls := "FranchiseLedger", name := "rivalCells", desc := "(II)I" } : Jvm.MethodName)) ∈ lw_all := lw_g (lw_at lw_m9 109 rfl) rfl
theorem q2161 : (Jvm.Cond.methodLink "FranchiseLedgerLaw" (267 : Nat) ({ cls := "FranchiseLedgerLaw", name := "halvingLine", desc := "(LFranchiseLedger;I[J)I" } : Jvm.MethodName)) ∈ lw_all := lw_g (lw_at lw_m9 113 rfl) rfl
theorem q2162 : (Jvm.Cond.static ({ cls := "FranchiseLedgerLaw", name := "halvingLine", desc := "(LFranchiseLedger;I[J)I" } : Jvm.MethodName)) ∈ lw_all := lw_g (lw_at lw_m9 114 rfl) rfl
theorem q2163 : (Jvm.Cond.codeWith ({ cls := "FranchiseLedgerLaw", name := "halvingLine", desc := "(LFranchiseLedger;I[J)I" } : Jvm.MethodName) method_17_code (4 : Nat) (Option.some Jvm.ClassFile.FieldType.int) [((0 : Nat), (9 : Nat), (12 : Nat), (22 : Nat))]) ∈ lw_all := lw_g (lw_at lw_m9 115 rfl) rfl
theorem q2164 : (Jvm.Cond.methodLink "FranchiseLedgerLaw" (60 : Nat) ({ cls := "FranchiseLedger", name := "halvingLine", desc := "(I)I" } : Jvm.MethodName)) ∈ lw_all := lw_g (lw_at lw_m9 116 rfl) rfl
theorem q2173 : (Jvm.Cond.methodLink "FranchiseLedgerLaw" (272 : Nat) ({ cls := "FranchiseLedgerLaw", name := "royalty", desc := "(LFranchiseLedger;IJ[J)I" } : Jvm.MethodName)) ∈ lw_all := lw_g (lw_at lw_m9 125 rfl) rfl
theorem q2174 : (Jvm.Cond.static ({ cls := "FranchiseLedgerLaw", name := "royalty", desc := "(LFranchiseLedger;IJ[J)I" } : Jvm.MethodName)) ∈ lw_all := lw_g (lw_at lw_m9 126 rfl) rfl
theorem q2175 : (Jvm.Cond.codeWith ({ cls := "FranchiseLedgerLaw", name := "royalty", desc := "(LFranchiseLedger;IJ[J)I" } : Jvm.MethodName) method_18_code (6 : Nat) (Option.some Jvm.ClassFile.FieldType.int) [((0 : Nat), (10 : Nat), (13 : Nat), (22 : Nat)), ((0 : Nat), (10 : Nat), (17 : Nat), (13 : Nat))]) ∈ lw_all := lw_g (lw_at lw_m9 127 rfl) rfl
theorem q2176 : (Jvm.Cond.methodLink "FranchiseLedgerLaw" (63 : Nat) ({ cls := "FranchiseLedger", name := "royalty", desc := "(IJ)J" } : Jvm.MethodName)) ∈ lw_all := lw_g (lw_at lw_m9 128 rfl) rfl
theorem q2186 : (Jvm.Cond.methodLink "FranchiseLedgerLaw" (276 : Nat) ({ cls := "FranchiseLedgerLaw", name := "planOf", desc := "(LFranchiseLedger;I[J)I" } : Jvm.MethodName)) ∈ lw_all := lw_g (lw_at lw_m9 138 rfl) rfl
theorem q2187 : (Jvm.Cond.static ({ cls := "FranchiseLedgerLaw", name := "planOf", desc := "(LFranchiseLedger;I[J)I" } : Jvm.MethodName)) ∈ lw_all := lw_g (lw_at lw_m9 139 rfl) rfl
theorem q2188 : (Jvm.Cond.codeWith ({ cls := "FranchiseLedgerLaw", name := "planOf", desc := "(LFranchiseLedger;I[J)I" } : Jvm.MethodName) method_19_code (4 : Nat) (Option.some Jvm.ClassFile.FieldType.int) [((0 : Nat), (9 : Nat), (12 : Nat), (22 : Nat))]) ∈ lw_all := lw_g (lw_at lw_m9 140 rfl) rfl
theorem q2189 : (Jvm.Cond.methodLink "FranchiseLedgerLaw" (67 : Nat) ({ cls := "FranchiseLedger", name := "planOf", desc := "(I)I" } : Jvm.MethodName)) ∈ lw_all := lw_g (lw_at lw_m9 141 rfl) rfl
theorem q2193 : (Jvm.Cond.methodLink "FranchiseLedgerLaw" (279 : Nat) ({ cls := "FranchiseLedgerLaw", name := "setPlan", desc := "(LFranchiseLedger;II[J)I" } : Jvm.MethodName)) ∈ lw_all := lw_g (lw_at lw_m9 145 rfl) rfl
theorem q2194 : (Jvm.Cond.static ({ cls := "FranchiseLedgerLaw", name := "setPlan", desc := "(LFranchiseLedger;II[J)I" } : Jvm.MethodName)) ∈ lw_all := lw_g (lw_at lw_m9 146 rfl) rfl
theorem q2195 : (Jvm.Cond.codeWith ({ cls := "FranchiseLedgerLaw", name := "setPlan", desc := "(LFranchiseLedger;II[J)I" } : Jvm.MethodName) method_20_code (5 : Nat) (Option.some Jvm.ClassFile.FieldType.int) [((0 : Nat), (10 : Nat), (13 : Nat), (22 : Nat))]) ∈ lw_all := lw_g (lw_at lw_m9 147 rfl) rfl
theorem q2196 : (Jvm.Cond.methodLink "FranchiseLedgerLaw" (70 : Nat) ({ cls := "FranchiseLedger", name := "setPlan", desc := "(II)I" } : Jvm.MethodName)) ∈ lw_all := lw_g (lw_at lw_m9 148 rfl) rfl
theorem q2200 : (Jvm.Cond.methodLink "FranchiseLedgerLaw" (282 : Nat) ({ cls := "FranchiseLedgerLaw", name := "cheapestPlan", desc := "(LFranchiseLedger;I[J)I" } : Jvm.MethodName)) ∈ lw_all := lw_g (lw_at lw_m9 152 rfl) rfl
theorem q2201 : (Jvm.Cond.static ({ cls := "FranchiseLedgerLaw", name := "cheapestPlan", desc := "(LFranchiseLedger;I[J)I" } : Jvm.MethodName)) ∈ lw_all := lw_g (lw_at lw_m9 153 rfl) rfl
theorem q2202 : (Jvm.Cond.codeWith ({ cls := "FranchiseLedgerLaw", name := "cheapestPlan", desc := "(LFranchiseLedger;I[J)I" } : Jvm.MethodName) method_21_code (4 : Nat) (Option.some Jvm.ClassFile.FieldType.int) [((0 : Nat), (9 : Nat), (12 : Nat), (22 : Nat))]) ∈ lw_all := lw_g (lw_at lw_m9 154 rfl) rfl
theorem q2203 : (Jvm.Cond.methodLink "FranchiseLedgerLaw" (73 : Nat) ({ cls := "FranchiseLedger", name := "cheapestPlan", desc := "(I)I" } : Jvm.MethodName)) ∈ lw_all := lw_g (lw_at lw_m9 155 rfl) rfl
theorem q2216 : (Jvm.Cond.methodLink "FranchiseLedgerLaw" (285 : Nat) ({ cls := "FranchiseLedgerLaw", name := "reportSales", desc := "(LFranchiseLedger;IJ[J)I" } : Jvm.MethodName)) ∈ lw_all := lw_g (lw_at lw_m9 168 rfl) rfl
theorem q2217 : (Jvm.Cond.static ({ cls := "FranchiseLedgerLaw", name := "reportSales", desc := "(LFranchiseLedger;IJ[J)I" } : Jvm.MethodName)) ∈ lw_all := lw_g (lw_at lw_m9 169 rfl) rfl
theorem q2218 : (Jvm.Cond.codeWith ({ cls := "FranchiseLedgerLaw", name := "reportSales", desc := "(LFranchiseLedger;IJ[J)I" } : Jvm.MethodName) method_22_code (6 : Nat) (Option.some Jvm.ClassFile.FieldType.int) [((0 : Nat), (10 : Nat), (13 : Nat), (22 : Nat)), ((0 : Nat), (10 : Nat), (17 : Nat), (13 : Nat)), ((0 : Nat), (10 : Nat), (21 : Nat), (79 : Nat))]) ∈ lw_all := lw_g (lw_at lw_m9 170 rfl) rfl
theorem q2219 : (Jvm.Cond.classLink "FranchiseLedgerLaw" (79 : Nat) "java/lang/IllegalStateException") ∈ lw_all := lw_g (lw_at lw_m9 171 rfl) rfl
theorem q2220 : (Jvm.Cond.methodLink "FranchiseLedgerLaw" (76 : Nat) ({ cls := "FranchiseLedger", name := "reportSales", desc := "(IJ)J" } : Jvm.MethodName)) ∈ lw_all := lw_g (lw_at lw_m9 172 rfl) rfl
theorem q2221 : (Jvm.Cond.methodLink "FranchiseLedgerLaw" (288 : Nat) ({ cls := "FranchiseLedgerLaw", name := "deliver", desc := "(LFranchiseLedger;IIIJ[J)I" } : Jvm.MethodName)) ∈ lw_all := lw_g (lw_at lw_m9 173 rfl) rfl
theorem q2222 : (Jvm.Cond.static ({ cls := "FranchiseLedgerLaw", name := "deliver", desc := "(LFranchiseLedger;IIIJ[J)I" } : Jvm.MethodName)) ∈ lw_all := lw_g (lw_at lw_m9 174 rfl) rfl
theorem q2223 : (Jvm.Cond.codeWith ({ cls := "FranchiseLedgerLaw", name := "deliver", desc := "(LFranchiseLedger;IIIJ[J)I" } : Jvm.MethodName) method_23_code (8 : Nat) (Option.some Jvm.ClassFile.FieldType.int) [((0 : Nat), (13 : Nat), (16 : Nat), (22 : Nat)), ((0 : Nat), (13 : Nat), (20 : Nat), (13 : Nat)), ((0 : Nat), (13 : Nat), (24 : Nat), (79 : Nat))]) ∈ lw_all := lw_g (lw_at lw_m9 175 rfl) rfl
theorem q2224 : (Jvm.Cond.methodLink "FranchiseLedgerLaw" (81 : Nat) ({ cls := "FranchiseLedger", name := "deliver", desc := "(IIIJ)J" } : Jvm.MethodName)) ∈ lw_all := lw_g (lw_at lw_m9 176 rfl) rfl
theorem q2225 : (Jvm.Cond.methodLink "FranchiseLedgerLaw" (292 : Nat) ({ cls := "FranchiseLedgerLaw", name := "sales", desc := "(LFranchiseLedger;I[J)I" } : Jvm.MethodName)) ∈ lw_all := lw_g (lw_at lw_m9 177 rfl) rfl
theorem q2226 : (Jvm.Cond.static ({ cls := "FranchiseLedgerLaw", name := "sales", desc := "(LFranchiseLedger;I[J)I" } : Jvm.MethodName)) ∈ lw_all := lw_g (lw_at lw_m9 178 rfl) rfl
theorem q2227 : (Jvm.Cond.codeWith ({ cls := "FranchiseLedgerLaw", name := "sales", desc := "(LFranchiseLedger;I[J)I" } : Jvm.MethodName) method_24_code (4 : Nat) (Option.some Jvm.ClassFile.FieldType.int) [((0 : Nat), (8 : Nat), (11 : Nat), (22 : Nat))]) ∈ lw_all := lw_g (lw_at lw_m9 179 rfl) rfl
theorem q2228 : (Jvm.Cond.methodLink "FranchiseLedgerLaw" (85 : Nat) ({ cls := "FranchiseLedger", name := "sales", desc := "(I)J" } : Jvm.MethodName)) ∈ lw_all := lw_g (lw_at lw_m9 180 rfl) rfl
theorem q2232 : (Jvm.Cond.methodLink "FranchiseLedgerLaw" (295 : Nat) ({ cls := "FranchiseLedgerLaw", name := "salesOf", desc := "(LFranchiseLedger;II[J)I" } : Jvm.MethodName)) ∈ lw_all := lw_g (lw_at lw_m9 184 rfl) rfl
theorem q2233 : (Jvm.Cond.static ({ cls := "FranchiseLedgerLaw", name := "salesOf", desc := "(LFranchiseLedger;II[J)I" } : Jvm.MethodName)) ∈ lw_all := lw_g (lw_at lw_m9 185 rfl) rfl
theorem q2234 : (Jvm.Cond.codeWith ({ cls := "FranchiseLedgerLaw", name := "salesOf", desc := "(LFranchiseLedger;II[J)I" } : Jvm.MethodName) method_25_code (5 : Nat) (Option.some Jvm.ClassFile.FieldType.int) [((0 : Nat), (9 : Nat), (12 : Nat), (22 : Nat)), ((0 : Nat), (9 : Nat), (16 : Nat), (13 : Nat))]) ∈ lw_all := lw_g (lw_at lw_m9 186 rfl) rfl
theorem q2235 : (Jvm.Cond.methodLink "FranchiseLedgerLaw" (89 : Nat) ({ cls := "FranchiseLedger", name := "salesOf", desc := "(II)J" } : Jvm.MethodName)) ∈ lw_all := lw_g (lw_at lw_m9 187 rfl) rfl
theorem q2243 : (Jvm.Cond.methodLink "FranchiseLedgerLaw" (302 : Nat) ({ cls := "FranchiseLedgerLaw", name := "creditDue", desc := "(LFranchiseLedger;II[J)I" } : Jvm.MethodName)) ∈ lw_all := lw_g (lw_at lw_m9 195 rfl) rfl
theorem q2244 : (Jvm.Cond.static ({ cls := "FranchiseLedgerLaw", name := "creditDue", desc := "(LFranchiseLedger;II[J)I" } : Jvm.MethodName)) ∈ lw_all := lw_g (lw_at lw_m9 196 rfl) rfl
theorem q2245 : (Jvm.Cond.codeWith ({ cls := "FranchiseLedgerLaw", name := "creditDue", desc := "(LFranchiseLedger;II[J)I" } : Jvm.MethodName) method_26_code (5 : Nat) (Option.some Jvm.ClassFile.FieldType.int) [((0 : Nat), (9 : Nat), (12 : Nat), (22 : Nat))]) ∈ lw_all := lw_g (lw_at lw_m9 197 rfl) rfl
theorem q2246 : (Jvm.Cond.methodLink "FranchiseLedgerLaw" (93 : Nat) ({ cls := "FranchiseLedger", name := "creditDue", desc := "(II)J" } : Jvm.MethodName)) ∈ lw_all := lw_g (lw_at lw_m9 198 rfl) rfl
theorem q2251 : (Jvm.Cond.methodLink "FranchiseLedgerLaw" (305 : Nat) ({ cls := "FranchiseLedgerLaw", name := "closeMonth", desc := "(LFranchiseLedger;[J)I" } : Jvm.MethodName)) ∈ lw_all := lw_g (lw_at lw_m9 203 rfl) rfl
theorem q2252 : (Jvm.Cond.static ({ cls := "FranchiseLedgerLaw", name := "closeMonth", desc := "(LFranchiseLedger;[J)I" } : Jvm.MethodName)) ∈ lw_all := lw_g (lw_at lw_m9 204 rfl) rfl
theorem q2253 : (Jvm.Cond.codeWith ({ cls := "FranchiseLedgerLaw", name := "closeMonth", desc := "(LFranchiseLedger;[J)I" } : Jvm.MethodName) method_27_code (3 : Nat) (Option.some Jvm.ClassFile.FieldType.int) [((0 : Nat), (8 : Nat), (11 : Nat), (79 : Nat))]) ∈ lw_all := lw_g (lw_at lw_m9 205 rfl) rfl
theorem q2254 : (Jvm.Cond.methodLink "FranchiseLedgerLaw" (96 : Nat) ({ cls := "FranchiseLedger", name := "closeMonth", desc := "()I" } : Jvm.MethodName)) ∈ lw_all := lw_g (lw_at lw_m9 206 rfl) rfl
theorem q2255 : (Jvm.Cond.methodLink "FranchiseLedgerLaw" (309 : Nat) ({ cls := "FranchiseLedgerLaw", name := "invoice", desc := "(LFranchiseLedger;III[J)I" } : Jvm.MethodName)) ∈ lw_all := lw_g (lw_at lw_m9 207 rfl) rfl
theorem q2256 : (Jvm.Cond.static ({ cls := "FranchiseLedgerLaw", name := "invoice", desc := "(LFranchiseLedger;III[J)I" } : Jvm.MethodName)) ∈ lw_all := lw_g (lw_at lw_m9 208 rfl) rfl
theorem q2257 : (Jvm.Cond.codeWith ({ cls := "FranchiseLedgerLaw", name := "invoice", desc := "(LFranchiseLedger;III[J)I" } : Jvm.MethodName) method_28_code (6 : Nat) (Option.some Jvm.ClassFile.FieldType.int) [((0 : Nat), (11 : Nat), (14 : Nat), (22 : Nat)), ((0 : Nat), (11 : Nat), (18 : Nat), (13 : Nat))]) ∈ lw_all := lw_g (lw_at lw_m9 209 rfl) rfl
theorem q2258 : (Jvm.Cond.methodLink "FranchiseLedgerLaw" (100 : Nat) ({ cls := "FranchiseLedger", name := "invoice", desc := "(III)J" } : Jvm.MethodName)) ∈ lw_all := lw_g (lw_at lw_m9 210 rfl) rfl
theorem q2263 : (Jvm.Cond.methodLink "FranchiseLedgerLaw" (312 : Nat) ({ cls := "FranchiseLedgerLaw", name := "predictDue", desc := "(LFranchiseLedger;II[J)I" } : Jvm.MethodName)) ∈ lw_all := lw_g (lw_at lw_m9 215 rfl) rfl
theorem q2264 : (Jvm.Cond.static ({ cls := "FranchiseLedgerLaw", name := "predictDue", desc := "(LFranchiseLedger;II[J)I" } : Jvm.MethodName)) ∈ lw_all := lw_g (lw_at lw_m9 216 rfl) rfl
theorem q2265 : (Jvm.Cond.codeWith ({ cls := "FranchiseLedgerLaw", name := "predictDue", desc := "(LFranchiseLedger;II[J)I" } : Jvm.MethodName) method_29_code (5 : Nat) (Option.some Jvm.ClassFile.FieldType.int) [((0 : Nat), (9 : Nat), (12 : Nat), (22 : Nat)), ((0 : Nat), (9 : Nat), (16 : Nat), (13 : Nat))]) ∈ lw_all := lw_g (lw_at lw_m9 217 rfl) rfl
theorem q2266 : (Jvm.Cond.methodLink "FranchiseLedgerLaw" (104 : Nat) ({ cls := "FranchiseLedger", name := "predictDue", desc := "(II)J" } : Jvm.MethodName)) ∈ lw_all := lw_g (lw_at lw_m9 218 rfl) rfl
theorem q2272 : (Jvm.Cond.methodLink "FranchiseLedgerLaw" (315 : Nat) ({ cls := "FranchiseLedgerLaw", name := "balance", desc := "(LFranchiseLedger;I[J)I" } : Jvm.MethodName)) ∈ lw_all := lw_g (lw_at lw_m9 224 rfl) rfl
theorem q2273 : (Jvm.Cond.static ({ cls := "FranchiseLedgerLaw", name := "balance", desc := "(LFranchiseLedger;I[J)I" } : Jvm.MethodName)) ∈ lw_all := lw_g (lw_at lw_m9 225 rfl) rfl
theorem q2274 : (Jvm.Cond.codeWith ({ cls := "FranchiseLedgerLaw", name := "balance", desc := "(LFranchiseLedger;I[J)I" } : Jvm.MethodName) method_30_code (4 : Nat) (Option.some Jvm.ClassFile.FieldType.int) [((0 : Nat), (8 : Nat), (11 : Nat), (22 : Nat))]) ∈ lw_all := lw_g (lw_at lw_m9 226 rfl) rfl
theorem q2275 : (Jvm.Cond.methodLink "FranchiseLedgerLaw" (107 : Nat) ({ cls := "FranchiseLedger", name := "balance", desc := "(I)J" } : Jvm.MethodName)) ∈ lw_all := lw_g (lw_at lw_m9 227 rfl) rfl
theorem q2279 : (Jvm.Cond.methodLink "FranchiseLedgerLaw" (323 : Nat) ({ cls := "FranchiseLedgerLaw", name := "pay", desc := "(LFranchiseLedger;IJ[J)I" } : Jvm.MethodName)) ∈ lw_all := lw_g (lw_at lw_m9 231 rfl) rfl
theorem q2280 : (Jvm.Cond.static ({ cls := "FranchiseLedgerLaw", name := "pay", desc := "(LFranchiseLedger;IJ[J)I" } : Jvm.MethodName)) ∈ lw_all := lw_g (lw_at lw_m9 232 rfl) rfl
theorem q2281 : (Jvm.Cond.codeWith ({ cls := "FranchiseLedgerLaw", name := "pay", desc := "(LFranchiseLedger;IJ[J)I" } : Jvm.MethodName) method_31_code (6 : Nat) (Option.some Jvm.ClassFile.FieldType.int) [((0 : Nat), (10 : Nat), (13 : Nat), (22 : Nat)), ((0 : Nat), (10 : Nat), (17 : Nat), (13 : Nat))]) ∈ lw_all := lw_g (lw_at lw_m9 233 rfl) rfl
theorem q2282 : (Jvm.Cond.methodLink "FranchiseLedgerLaw" (110 : Nat) ({ cls := "FranchiseLedger", name := "pay", desc := "(IJ)J" } : Jvm.MethodName)) ∈ lw_all := lw_g (lw_at lw_m9 234 rfl) rfl
theorem q2283 : (Jvm.Cond.methodLink "FranchiseLedgerLaw" (326 : Nat) ({ cls := "FranchiseLedgerLaw", name := "monthsOverdue", desc := "(LFranchiseLedger;I[J)I" } : Jvm.MethodName)) ∈ lw_all := lw_g (lw_at lw_m9 235 rfl) rfl
theorem q2284 : (Jvm.Cond.static ({ cls := "FranchiseLedgerLaw", name := "monthsOverdue", desc := "(LFranchiseLedger;I[J)I" } : Jvm.MethodName)) ∈ lw_all := lw_g (lw_at lw_m9 236 rfl) rfl
theorem q2285 : (Jvm.Cond.codeWith ({ cls := "FranchiseLedgerLaw", name := "monthsOverdue", desc := "(LFranchiseLedger;I[J)I" } : Jvm.MethodName) method_32_code (4 : Nat) (Option.some Jvm.ClassFile.FieldType.int) [((0 : Nat), (9 : Nat), (12 : Nat), (22 : Nat))]) ∈ lw_all := lw_g (lw_at lw_m9 237 rfl) rfl
theorem q2286 : (Jvm.Cond.methodLink "FranchiseLedgerLaw" (113 : Nat) ({ cls := "FranchiseLedger", name := "monthsOverdue", desc := "(I)I" } : Jvm.MethodName)) ∈ lw_all := lw_g (lw_at lw_m9 238 rfl) rfl
theorem q2290 : (Jvm.Cond.methodLink "FranchiseLedgerLaw" (329 : Nat) ({ cls := "FranchiseLedgerLaw", name := "payOff", desc := "(LFranchiseLedger;IJ[J)I" } : Jvm.MethodName)) ∈ lw_all := lw_g (lw_at lw_m10 2 rfl) rfl
theorem q2291 : (Jvm.Cond.static ({ cls := "FranchiseLedgerLaw", name := "payOff", desc := "(LFranchiseLedger;IJ[J)I" } : Jvm.MethodName)) ∈ lw_all := lw_g (lw_at lw_m10 3 rfl) rfl
theorem q2292 : (Jvm.Cond.codeWith ({ cls := "FranchiseLedgerLaw", name := "payOff", desc := "(LFranchiseLedger;IJ[J)I" } : Jvm.MethodName) method_33_code (6 : Nat) (Option.some Jvm.ClassFile.FieldType.int) [((0 : Nat), (11 : Nat), (14 : Nat), (22 : Nat)), ((0 : Nat), (11 : Nat), (18 : Nat), (13 : Nat))]) ∈ lw_all := lw_g (lw_at lw_m10 4 rfl) rfl
theorem q2293 : (Jvm.Cond.methodLink "FranchiseLedgerLaw" (116 : Nat) ({ cls := "FranchiseLedger", name := "payOff", desc := "(IJ)I" } : Jvm.MethodName)) ∈ lw_all := lw_g (lw_at lw_m10 5 rfl) rfl
theorem q2297 : (Jvm.Cond.methodLink "FranchiseLedgerLaw" (332 : Nat) ({ cls := "FranchiseLedgerLaw", name := "terminate", desc := "(LFranchiseLedger;I[J)I" } : Jvm.MethodName)) ∈ lw_all := lw_g (lw_at lw_m10 9 rfl) rfl
theorem q2298 : (Jvm.Cond.static ({ cls := "FranchiseLedgerLaw", name := "terminate", desc := "(LFranchiseLedger;I[J)I" } : Jvm.MethodName)) ∈ lw_all := lw_g (lw_at lw_m10 10 rfl) rfl
theorem q2299 : (Jvm.Cond.codeWith ({ cls := "FranchiseLedgerLaw", name := "terminate", desc := "(LFranchiseLedger;I[J)I" } : Jvm.MethodName) method_34_code (4 : Nat) (Option.some Jvm.ClassFile.FieldType.int) [((0 : Nat), (16 : Nat), (19 : Nat), (22 : Nat))]) ∈ lw_all := lw_g (lw_at lw_m10 11 rfl) rfl
theorem q2300 : (Jvm.Cond.methodLink "FranchiseLedgerLaw" (120 : Nat) ({ cls := "FranchiseLedger", name := "terminate", desc := "(I)Z" } : Jvm.MethodName)) ∈ lw_all := lw_g (lw_at lw_m10 12 rfl) rfl
theorem q2312 : (Jvm.Cond.methodLink "FranchiseLedgerLaw" (335 : Nat) ({ cls := "FranchiseLedgerLaw", name := "status", desc := "(LFranchiseLedger;I[J)I" } : Jvm.MethodName)) ∈ lw_all := lw_g (lw_at lw_m10 24 rfl) rfl
theorem q2313 : (Jvm.Cond.static ({ cls := "FranchiseLedgerLaw", name := "status", desc := "(LFranchiseLedger;I[J)I" } : Jvm.MethodName)) ∈ lw_all := lw_g (lw_at lw_m10 25 rfl) rfl
theorem q2314 : (Jvm.Cond.codeWith ({ cls := "FranchiseLedgerLaw", name := "status", desc := "(LFranchiseLedger;I[J)I" } : Jvm.MethodName) method_35_code (4 : Nat) (Option.some Jvm.ClassFile.FieldType.int) [((0 : Nat), (9 : Nat), (12 : Nat), (22 : Nat))]) ∈ lw_all := lw_g (lw_at lw_m10 26 rfl) rfl
theorem q2315 : (Jvm.Cond.methodLink "FranchiseLedgerLaw" (123 : Nat) ({ cls := "FranchiseLedger", name := "status", desc := "(I)I" } : Jvm.MethodName)) ∈ lw_all := lw_g (lw_at lw_m10 27 rfl) rfl
theorem q2319 : (Jvm.Cond.methodLink "FranchiseLedgerLaw" (342 : Nat) ({ cls := "FranchiseLedgerLaw", name := "contributions", desc := "(LFranchiseLedger;I[J)I" } : Jvm.MethodName)) ∈ lw_all := lw_g (lw_at lw_m10 31 rfl) rfl
theorem q2320 : (Jvm.Cond.static ({ cls := "FranchiseLedgerLaw", name := "contributions", desc := "(LFranchiseLedger;I[J)I" } : Jvm.MethodName)) ∈ lw_all := lw_g (lw_at lw_m10 32 rfl) rfl
theorem q2321 : (Jvm.Cond.codeWith ({ cls := "FranchiseLedgerLaw", name := "contributions", desc := "(LFranchiseLedger;I[J)I" } : Jvm.MethodName) method_36_code (4 : Nat) (Option.some Jvm.ClassFile.FieldType.int) [((0 : Nat), (8 : Nat), (11 : Nat), (22 : Nat))]) ∈ lw_all := lw_g (lw_at lw_m10 33 rfl) rfl
theorem q2322 : (Jvm.Cond.methodLink "FranchiseLedgerLaw" (126 : Nat) ({ cls := "FranchiseLedger", name := "contributions", desc := "(I)J" } : Jvm.MethodName)) ∈ lw_all := lw_g (lw_at lw_m10 34 rfl) rfl
theorem q2326 : (Jvm.Cond.methodLink "FranchiseLedgerLaw" (345 : Nat) ({ cls := "FranchiseLedgerLaw", name := "spent", desc := "(LFranchiseLedger;I[J)I" } : Jvm.MethodName)) ∈ lw_all := lw_g (lw_at lw_m10 38 rfl) rfl
theorem q2327 : (Jvm.Cond.static ({ cls := "FranchiseLedgerLaw", name := "spent", desc := "(LFranchiseLedger;I[J)I" } : Jvm.MethodName)) ∈ lw_all := lw_g (lw_at lw_m10 39 rfl) rfl
theorem q2328 : (Jvm.Cond.codeWith ({ cls := "FranchiseLedgerLaw", name := "spent", desc := "(LFranchiseLedger;I[J)I" } : Jvm.MethodName) method_37_code (4 : Nat) (Option.some Jvm.ClassFile.FieldType.int) [((0 : Nat), (8 : Nat), (11 : Nat), (13 : Nat))]) ∈ lw_all := lw_g (lw_at lw_m10 40 rfl) rfl
theorem q2329 : (Jvm.Cond.methodLink "FranchiseLedgerLaw" (129 : Nat) ({ cls := "FranchiseLedger", name := "spent", desc := "(I)J" } : Jvm.MethodName)) ∈ lw_all := lw_g (lw_at lw_m10 41 rfl) rfl
theorem q2334 : (Jvm.Cond.methodLink "FranchiseLedgerLaw" (348 : Nat) ({ cls := "FranchiseLedgerLaw", name := "campaign", desc := "(LFranchiseLedger;J[J)I" } : Jvm.MethodName)) ∈ lw_all := lw_g (lw_at lw_m10 46 rfl) rfl
theorem q2335 : (Jvm.Cond.static ({ cls := "FranchiseLedgerLaw", name := "campaign", desc := "(LFranchiseLedger;J[J)I" } : Jvm.MethodName)) ∈ lw_all := lw_g (lw_at lw_m10 47 rfl) rfl
theorem q2336 : (Jvm.Cond.codeWith ({ cls := "FranchiseLedgerLaw", name := "campaign", desc := "(LFranchiseLedger;J[J)I" } : Jvm.MethodName) method_38_code (5 : Nat) (Option.some Jvm.ClassFile.FieldType.int) [((0 : Nat), (16 : Nat), (19 : Nat), (13 : Nat))]) ∈ lw_all := lw_g (lw_at lw_m10 48 rfl) rfl
theorem q2337 : (Jvm.Cond.methodLink "FranchiseLedgerLaw" (132 : Nat) ({ cls := "FranchiseLedger", name := "campaign", desc := "(J)Z" } : Jvm.MethodName)) ∈ lw_all := lw_g (lw_at lw_m10 49 rfl) rfl
theorem q2338 : (Jvm.Cond.methodLink "FranchiseLedgerLaw" (352 : Nat) ({ cls := "FranchiseLedgerLaw", name := "grant", desc := "(LFranchiseLedger;IJ[J)I" } : Jvm.MethodName)) ∈ lw_all := lw_g (lw_at lw_m10 50 rfl) rfl
theorem q2339 : (Jvm.Cond.static ({ cls := "FranchiseLedgerLaw", name := "grant", desc := "(LFranchiseLedger;IJ[J)I" } : Jvm.MethodName)) ∈ lw_all := lw_g (lw_at lw_m10 51 rfl) rfl
theorem q2340 : (Jvm.Cond.codeWith ({ cls := "FranchiseLedgerLaw", name := "grant", desc := "(LFranchiseLedger;IJ[J)I" } : Jvm.MethodName) method_39_code (6 : Nat) (Option.some Jvm.ClassFile.FieldType.int) [((0 : Nat), (18 : Nat), (21 : Nat), (22 : Nat)), ((0 : Nat), (18 : Nat), (25 : Nat), (13 : Nat))]) ∈ lw_all := lw_g (lw_at lw_m10 52 rfl) rfl
theorem q2341 : (Jvm.Cond.methodLink "FranchiseLedgerLaw" (136 : Nat) ({ cls := "FranchiseLedger", name := "grant", desc := "(IJ)Z" } : Jvm.MethodName)) ∈ lw_all := lw_g (lw_at lw_m10 53 rfl) rfl
theorem q2342 : (Jvm.Cond.methodLink "FranchiseLedgerLaw" (355 : Nat) ({ cls := "FranchiseLedgerLaw", name := "allowance", desc := "(LFranchiseLedger;I[J)I" } : Jvm.MethodName)) ∈ lw_all := lw_g (lw_at lw_m10 54 rfl) rfl
theorem q2343 : (Jvm.Cond.static ({ cls := "FranchiseLedgerLaw", name := "allowance", desc := "(LFranchiseLedger;I[J)I" } : Jvm.MethodName)) ∈ lw_all := lw_g (lw_at lw_m10 55 rfl) rfl
theorem q2344 : (Jvm.Cond.codeWith ({ cls := "FranchiseLedgerLaw", name := "allowance", desc := "(LFranchiseLedger;I[J)I" } : Jvm.MethodName) method_40_code (4 : Nat) (Option.some Jvm.ClassFile.FieldType.int) [((0 : Nat), (8 : Nat), (11 : Nat), (22 : Nat))]) ∈ lw_all := lw_g (lw_at lw_m10 56 rfl) rfl
theorem q2345 : (Jvm.Cond.methodLink "FranchiseLedgerLaw" (140 : Nat) ({ cls := "FranchiseLedger", name := "allowance", desc := "(I)J" } : Jvm.MethodName)) ∈ lw_all := lw_g (lw_at lw_m10 57 rfl) rfl
theorem q2349 : (Jvm.Cond.methodLink "FranchiseLedgerLaw" (358 : Nat) ({ cls := "FranchiseLedgerLaw", name := "nationalShare", desc := "(LFranchiseLedger;I[J)I" } : Jvm.MethodName)) ∈ lw_all := lw_g (lw_at lw_m10 61 rfl) rfl
theorem q2350 : (Jvm.Cond.static ({ cls := "FranchiseLedgerLaw", name := "nationalShare", desc := "(LFranchiseLedger;I[J)I" } : Jvm.MethodName)) ∈ lw_all := lw_g (lw_at lw_m10 62 rfl) rfl
theorem q2351 : (Jvm.Cond.codeWith ({ cls := "FranchiseLedgerLaw", name := "nationalShare", desc := "(LFranchiseLedger;I[J)I" } : Jvm.MethodName) method_41_code (4 : Nat) (Option.some Jvm.ClassFile.FieldType.int) [((0 : Nat), (8 : Nat), (11 : Nat), (22 : Nat))]) ∈ lw_all := lw_g (lw_at lw_m10 63 rfl) rfl
theorem q2352 : (Jvm.Cond.methodLink "FranchiseLedgerLaw" (143 : Nat) ({ cls := "FranchiseLedger", name := "nationalShare", desc := "(I)J" } : Jvm.MethodName)) ∈ lw_all := lw_g (lw_at lw_m10 64 rfl) rfl
theorem q2364 : (Jvm.Cond.methodLink "FranchiseLedgerLaw" (361 : Nat) ({ cls := "FranchiseLedgerLaw", name := "requestTransfer", desc := "(LFranchiseLedger;IIJ[J)I" } : Jvm.MethodName)) ∈ lw_all := lw_g (lw_at lw_m10 76 rfl) rfl
theorem q2365 : (Jvm.Cond.static ({ cls := "FranchiseLedgerLaw", name := "requestTransfer", desc := "(LFranchiseLedger;IIJ[J)I" } : Jvm.MethodName)) ∈ lw_all := lw_g (lw_at lw_m10 77 rfl) rfl
theorem q2366 : (Jvm.Cond.codeWith ({ cls := "FranchiseLedgerLaw", name := "requestTransfer", desc := "(LFranchiseLedger;IIJ[J)I" } : Jvm.MethodName) method_42_code (7 : Nat) (Option.some Jvm.ClassFile.FieldType.int) [((0 : Nat), (19 : Nat), (22 : Nat), (22 : Nat)), ((0 : Nat), (19 : Nat), (26 : Nat), (13 : Nat))]) ∈ lw_all := lw_g (lw_at lw_m10 78 rfl) rfl
theorem q2367 : (Jvm.Cond.methodLink "FranchiseLedgerLaw" (146 : Nat) ({ cls := "FranchiseLedger", name := "requestTransfer", desc := "(IIJ)Z" } : Jvm.MethodName)) ∈ lw_all := lw_g (lw_at lw_m10 79 rfl) rfl
theorem q2377 : (Jvm.Cond.methodLink "FranchiseLedgerLaw" (365 : Nat) ({ cls := "FranchiseLedgerLaw", name := "vote", desc := "(LFranchiseLedger;IIZ[J)I" } : Jvm.MethodName)) ∈ lw_all := lw_g (lw_at lw_m10 89 rfl) rfl
theorem q2378 : (Jvm.Cond.static ({ cls := "FranchiseLedgerLaw", name := "vote", desc := "(LFranchiseLedger;IIZ[J)I" } : Jvm.MethodName)) ∈ lw_all := lw_g (lw_at lw_m10 90 rfl) rfl
theorem q2379 : (Jvm.Cond.codeWith ({ cls := "FranchiseLedgerLaw", name := "vote", desc := "(LFranchiseLedger;IIZ[J)I" } : Jvm.MethodName) method_43_code (6 : Nat) (Option.some Jvm.ClassFile.FieldType.int) [((0 : Nat), (12 : Nat), (15 : Nat), (22 : Nat)), ((0 : Nat), (12 : Nat), (19 : Nat), (13 : Nat))]) ∈ lw_all := lw_g (lw_at lw_m10 91 rfl) rfl
theorem q2380 : (Jvm.Cond.methodLink "FranchiseLedgerLaw" (150 : Nat) ({ cls := "FranchiseLedger", name := "vote", desc := "(IIZ)I" } : Jvm.MethodName)) ∈ lw_all := lw_g (lw_at lw_m10 92 rfl) rfl
theorem q2381 : (Jvm.Cond.methodLink "FranchiseLedgerLaw" (369 : Nat) ({ cls := "FranchiseLedgerLaw", name := "exercise", desc := "(LFranchiseLedger;I[J)I" } : Jvm.MethodName)) ∈ lw_all := lw_g (lw_at lw_m10 93 rfl) rfl
theorem q2382 : (Jvm.Cond.static ({ cls := "FranchiseLedgerLaw", name := "exercise", desc := "(LFranchiseLedger;I[J)I" } : Jvm.MethodName)) ∈ lw_all := lw_g (lw_at lw_m10 94 rfl) rfl
theorem q2383 : (Jvm.Cond.codeWith ({ cls := "FranchiseLedgerLaw", name := "exercise", desc := "(LFranchiseLedger;I[J)I" } : Jvm.MethodName) method_44_code (4 : Nat) (Option.some Jvm.ClassFile.FieldType.int) [((0 : Nat), (16 : Nat), (19 : Nat), (22 : Nat))]) ∈ lw_all := lw_g (lw_at lw_m10 95 rfl) rfl
theorem q2384 : (Jvm.Cond.methodLink "FranchiseLedgerLaw" (154 : Nat) ({ cls := "FranchiseLedger", name := "exercise", desc := "(I)Z" } : Jvm.MethodName)) ∈ lw_all := lw_g (lw_at lw_m10 96 rfl) rfl
theorem q2388 : (Jvm.Cond.methodLink "FranchiseLedgerLaw" (372 : Nat) ({ cls := "FranchiseLedgerLaw", name := "withdraw", desc := "(LFranchiseLedger;I[J)I" } : Jvm.MethodName)) ∈ lw_all := lw_g (lw_at lw_m10 100 rfl) rfl
theorem q2389 : (Jvm.Cond.static ({ cls := "FranchiseLedgerLaw", name := "withdraw", desc := "(LFranchiseLedger;I[J)I" } : Jvm.MethodName)) ∈ lw_all := lw_g (lw_at lw_m10 101 rfl) rfl
theorem q2390 : (Jvm.Cond.codeWith ({ cls := "FranchiseLedgerLaw", name := "withdraw", desc := "(LFranchiseLedger;I[J)I" } : Jvm.MethodName) method_45_code (4 : Nat) (Option.some Jvm.ClassFile.FieldType.int) [((0 : Nat), (16 : Nat), (19 : Nat), (22 : Nat))]) ∈ lw_all := lw_g (lw_at lw_m10 102 rfl) rfl
theorem q2391 : (Jvm.Cond.methodLink "FranchiseLedgerLaw" (157 : Nat) ({ cls := "FranchiseLedger", name := "withdraw", desc := "(I)Z" } : Jvm.MethodName)) ∈ lw_all := lw_g (lw_at lw_m10 103 rfl) rfl
theorem q2395 : (Jvm.Cond.methodLink "FranchiseLedgerLaw" (375 : Nat) ({ cls := "FranchiseLedgerLaw", name := "transferState", desc := "(LFranchiseLedger;I[J)I" } : Jvm.MethodName)) ∈ lw_all := lw_g (lw_at lw_m10 107 rfl) rfl
theorem q2396 : (Jvm.Cond.static ({ cls := "FranchiseLedgerLaw", name := "transferState", desc := "(LFranchiseLedger;I[J)I" } : Jvm.MethodName)) ∈ lw_all := lw_g (lw_at lw_m10 108 rfl) rfl
theorem q2397 : (Jvm.Cond.codeWith ({ cls := "FranchiseLedgerLaw", name := "transferState", desc := "(LFranchiseLedger;I[J)I" } : Jvm.MethodName) method_46_code (4 : Nat) (Option.some Jvm.ClassFile.FieldType.int) [((0 : Nat), (9 : Nat), (12 : Nat), (22 : Nat))]) ∈ lw_all := lw_g (lw_at lw_m10 109 rfl) rfl
theorem q2398 : (Jvm.Cond.methodLink "FranchiseLedgerLaw" (160 : Nat) ({ cls := "FranchiseLedger", name := "transferState", desc := "(I)I" } : Jvm.MethodName)) ∈ lw_all := lw_g (lw_at lw_m10 110 rfl) rfl
theorem q2402 : (Jvm.Cond.methodLink "FranchiseLedgerLaw" (378 : Nat) ({ cls := "FranchiseLedgerLaw", name := "transferWait", desc := "(LFranchiseLedger;I[J)I" } : Jvm.MethodName)) ∈ lw_all := lw_g (lw_at lw_m10 114 rfl) rfl
theorem q2403 : (Jvm.Cond.static ({ cls := "FranchiseLedgerLaw", name := "transferWait", desc := "(LFranchiseLedger;I[J)I" } : Jvm.MethodName)) ∈ lw_all := lw_g (lw_at lw_m10 115 rfl) rfl
theorem q2404 : (Jvm.Cond.codeWith ({ cls := "FranchiseLedgerLaw", name := "transferWait", desc := "(LFranchiseLedger;I[J)I" } : Jvm.MethodName) method_47_code (4 : Nat) (Option.some Jvm.ClassFile.FieldType.int) [((0 : Nat), (9 : Nat), (12 : Nat), (22 : Nat))]) ∈ lw_all := lw_g (lw_at lw_m10 116 rfl) rfl
theorem q2405 : (Jvm.Cond.methodLink "FranchiseLedgerLaw" (163 : Nat) ({ cls := "FranchiseLedger", name := "transferWait", desc := "(I)I" } : Jvm.MethodName)) ∈ lw_all := lw_g (lw_at lw_m10 117 rfl) rfl
theorem q2410 : (Jvm.Cond.methodLink "FranchiseLedgerLaw" (381 : Nat) ({ cls := "FranchiseLedgerLaw", name := "generation", desc := "(LFranchiseLedger;I[J)I" } : Jvm.MethodName)) ∈ lw_all := lw_g (lw_at lw_m10 122 rfl) rfl
theorem q2411 : (Jvm.Cond.static ({ cls := "FranchiseLedgerLaw", name := "generation", desc := "(LFranchiseLedger;I[J)I" } : Jvm.MethodName)) ∈ lw_all := lw_g (lw_at lw_m10 123 rfl) rfl
theorem q2412 : (Jvm.Cond.codeWith ({ cls := "FranchiseLedgerLaw", name := "generation", desc := "(LFranchiseLedger;I[J)I" } : Jvm.MethodName) method_48_code (4 : Nat) (Option.some Jvm.ClassFile.FieldType.int) [((0 : Nat), (9 : Nat), (12 : Nat), (22 : Nat))]) ∈ lw_all := lw_g (lw_at lw_m10 124 rfl) rfl
theorem q2413 : (Jvm.Cond.methodLink "FranchiseLedgerLaw" (166 : Nat) ({ cls := "FranchiseLedger", name := "generation", desc := "(I)I" } : Jvm.MethodName)) ∈ lw_all := lw_g (lw_at lw_m10 125 rfl) rfl
theorem q2417 : (Jvm.Cond.methodLink "FranchiseLedgerLaw" (384 : Nat) ({ cls := "FranchiseLedgerLaw", name := "worth", desc := "(LFranchiseLedger;I[J)I" } : Jvm.MethodName)) ∈ lw_all := lw_g (lw_at lw_m10 129 rfl) rfl
theorem q2418 : (Jvm.Cond.static ({ cls := "FranchiseLedgerLaw", name := "worth", desc := "(LFranchiseLedger;I[J)I" } : Jvm.MethodName)) ∈ lw_all := lw_g (lw_at lw_m10 130 rfl) rfl
theorem q2419 : (Jvm.Cond.codeWith ({ cls := "FranchiseLedgerLaw", name := "worth", desc := "(LFranchiseLedger;I[J)I" } : Jvm.MethodName) method_49_code (4 : Nat) (Option.some Jvm.ClassFile.FieldType.int) [((0 : Nat), (9 : Nat), (12 : Nat), (22 : Nat))]) ∈ lw_all := lw_g (lw_at lw_m10 131 rfl) rfl
theorem q2420 : (Jvm.Cond.methodLink "FranchiseLedgerLaw" (169 : Nat) ({ cls := "FranchiseLedger", name := "worth", desc := "(I)I" } : Jvm.MethodName)) ∈ lw_all := lw_g (lw_at lw_m10 132 rfl) rfl
theorem q2424 : (Jvm.Cond.methodLink "FranchiseLedgerLaw" (395 : Nat) ({ cls := "FranchiseLedgerLaw", name := "formatInvoice", desc := "(LFranchiseLedger;II[J)I" } : Jvm.MethodName)) ∈ lw_all := lw_g (lw_at lw_m10 136 rfl) rfl
theorem q2425 : (Jvm.Cond.static ({ cls := "FranchiseLedgerLaw", name := "formatInvoice", desc := "(LFranchiseLedger;II[J)I" } : Jvm.MethodName)) ∈ lw_all := lw_g (lw_at lw_m10 137 rfl) rfl
theorem q2426 : (Jvm.Cond.codeWith ({ cls := "FranchiseLedgerLaw", name := "formatInvoice", desc := "(LFranchiseLedger;II[J)I" } : Jvm.MethodName) method_50_code (5 : Nat) (Option.some Jvm.ClassFile.FieldType.int) [((0 : Nat), (10 : Nat), (13 : Nat), (22 : Nat)), ((0 : Nat), (10 : Nat), (17 : Nat), (13 : Nat))]) ∈ lw_all := lw_g (lw_at lw_m10 138 rfl) rfl
theorem q2427 : (Jvm.Cond.methodLink "FranchiseLedgerLaw" (172 : Nat) ({ cls := "FranchiseLedger", name := "formatInvoice", desc := "(II)I" } : Jvm.MethodName)) ∈ lw_all := lw_g (lw_at lw_m10 139 rfl) rfl
theorem q2530 : (Jvm.Cond.classLink "FranchiseLedgerLaw" (176 : Nat) "FranchiseLedgerModel") ∈ lw_all := lw_g (lw_at lw_m11 2 rfl) rfl
theorem q2532 : (Jvm.Cond.methodLink "FranchiseLedgerLaw" (178 : Nat) ({ cls := "FranchiseLedgerModel", name := "<init>", desc := "()V" } : Jvm.MethodName)) ∈ lw_all := lw_g (lw_at lw_m11 4 rfl) rfl
theorem q2608 : (Jvm.Cond.methodLink "FranchiseLedgerLaw" (214 : Nat) ({ cls := "FranchiseLedgerModel", name := "thrown", desc := "()I" } : Jvm.MethodName)) ∈ lw_all := lw_g (lw_at lw_m11 80 rfl) rfl
theorem q2612 : (Jvm.Cond.methodLink "FranchiseLedgerLaw" (390 : Nat) ({ cls := "FranchiseLedgerModel", name := "saveSnapshot", desc := "(I)Z" } : Jvm.MethodName)) ∈ lw_all := lw_g (lw_at lw_m11 84 rfl) rfl
theorem q2623 : (Jvm.Cond.methodLink "FranchiseLedgerLaw" (394 : Nat) ({ cls := "FranchiseLedgerModel", name := "restoreSnapshot", desc := "(I)Z" } : Jvm.MethodName)) ∈ lw_all := lw_g (lw_at lw_m11 95 rfl) rfl
theorem q2627 : (Jvm.Cond.methodLink "FranchiseLedgerLaw" (220 : Nat) ({ cls := "FranchiseLedgerModel", name := "count", desc := "(I)I" } : Jvm.MethodName)) ∈ lw_all := lw_g (lw_at lw_m11 99 rfl) rfl
theorem q2631 : (Jvm.Cond.methodLink "FranchiseLedgerLaw" (224 : Nat) ({ cls := "FranchiseLedgerModel", name := "month", desc := "()I" } : Jvm.MethodName)) ∈ lw_all := lw_g (lw_at lw_m11 103 rfl) rfl
theorem q2635 : (Jvm.Cond.methodLink "FranchiseLedgerLaw" (228 : Nat) ({ cls := "FranchiseLedgerModel", name := "owner", desc := "(II)I" } : Jvm.MethodName)) ∈ lw_all := lw_g (lw_at lw_m11 107 rfl) rfl
theorem q2651 : (Jvm.Cond.methodLink "FranchiseLedgerLaw" (231 : Nat) ({ cls := "FranchiseLedgerModel", name := "area", desc := "(I)I" } : Jvm.MethodName)) ∈ lw_all := lw_g (lw_at lw_m11 123 rfl) rfl
theorem q2663 : (Jvm.Cond.methodLink "FranchiseLedgerLaw" (234 : Nat) ({ cls := "FranchiseLedgerModel", name := "perimeter", desc := "(I)I" } : Jvm.MethodName)) ∈ lw_all := lw_g (lw_at lw_m11 135 rfl) rfl
theorem q2675 : (Jvm.Cond.methodLink "FranchiseLedgerLaw" (237 : Nat) ({ cls := "FranchiseLedgerModel", name := "border", desc := "(II)I" } : Jvm.MethodName)) ∈ lw_all := lw_g (lw_at lw_m11 147 rfl) rfl
theorem q2679 : (Jvm.Cond.methodLink "FranchiseLedgerLaw" (240 : Nat) ({ cls := "FranchiseLedgerModel", name := "isConnected", desc := "(I)Z" } : Jvm.MethodName)) ∈ lw_all := lw_g (lw_at lw_m11 151 rfl) rfl
theorem q2691 : (Jvm.Cond.methodLink "FranchiseLedgerLaw" (244 : Nat) ({ cls := "FranchiseLedgerModel", name := "distance", desc := "(III)I" } : Jvm.MethodName)) ∈ lw_all := lw_g (lw_at lw_m11 163 rfl) rfl
theorem q2701 : (Jvm.Cond.methodLink "FranchiseLedgerLaw" (248 : Nat) ({ cls := "FranchiseLedgerModel", name := "cede", desc := "(IIIIII)I" } : Jvm.MethodName)) ∈ lw_all := lw_g (lw_at lw_m11 173 rfl) rfl
theorem q2740 : (Jvm.Cond.methodLink "FranchiseLedgerLaw" (251 : Nat) ({ cls := "FranchiseLedgerModel", name := "outletOwner", desc := "(I)I" } : Jvm.MethodName)) ∈ lw_all := lw_g (lw_at lw_m11 212 rfl) rfl
theorem q2748 : (Jvm.Cond.methodLink "FranchiseLedgerLaw" (254 : Nat) ({ cls := "FranchiseLedgerModel", name := "outletCell", desc := "(I)I" } : Jvm.MethodName)) ∈ lw_all := lw_g (lw_at lw_m11 220 rfl) rfl
theorem q2753 : (Jvm.Cond.methodLink "FranchiseLedgerLaw" (257 : Nat) ({ cls := "FranchiseLedgerModel", name := "openOutlet", desc := "(III)I" } : Jvm.MethodName)) ∈ lw_all := lw_g (lw_at lw_m11 225 rfl) rfl
theorem q2762 : (Jvm.Cond.methodLink "FranchiseLedgerLaw" (260 : Nat) ({ cls := "FranchiseLedgerModel", name := "bestSite", desc := "(I)I" } : Jvm.MethodName)) ∈ lw_all := lw_g (lw_at lw_m11 234 rfl) rfl
theorem q2770 : (Jvm.Cond.methodLink "FranchiseLedgerLaw" (263 : Nat) ({ cls := "FranchiseLedgerModel", name := "coverage", desc := "(II)I" } : Jvm.MethodName)) ∈ lw_all := lw_g (lw_at lw_m12 2 rfl) rfl
theorem q2775 : (Jvm.Cond.methodLink "FranchiseLedgerLaw" (266 : Nat) ({ cls := "FranchiseLedgerModel", name := "rivalCells", desc := "(II)I" } : Jvm.MethodName)) ∈ lw_all := lw_g (lw_at lw_m12 7 rfl) rfl
theorem q2779 : (Jvm.Cond.methodLink "FranchiseLedgerLaw" (269 : Nat) ({ cls := "FranchiseLedgerModel", name := "halvingLine", desc := "(I)I" } : Jvm.MethodName)) ∈ lw_all := lw_g (lw_at lw_m12 11 rfl) rfl
theorem q2787 : (Jvm.Cond.methodLink "FranchiseLedgerLaw" (275 : Nat) ({ cls := "FranchiseLedgerModel", name := "royalty", desc := "(IJ)J" } : Jvm.MethodName)) ∈ lw_all := lw_g (lw_at lw_m12 19 rfl) rfl
theorem q2809 : (Jvm.Cond.methodLink "FranchiseLedgerLaw" (278 : Nat) ({ cls := "FranchiseLedgerModel", name := "planOf", desc := "(I)I" } : Jvm.MethodName)) ∈ lw_all := lw_g (lw_at lw_m12 41 rfl) rfl
theorem q2817 : (Jvm.Cond.methodLink "FranchiseLedgerLaw" (281 : Nat) ({ cls := "FranchiseLedgerModel", name := "setPlan", desc := "(II)I" } : Jvm.MethodName)) ∈ lw_all := lw_g (lw_at lw_m12 49 rfl) rfl
theorem q2825 : (Jvm.Cond.methodLink "FranchiseLedgerLaw" (284 : Nat) ({ cls := "FranchiseLedgerModel", name := "cheapestPlan", desc := "(I)I" } : Jvm.MethodName)) ∈ lw_all := lw_g (lw_at lw_m12 57 rfl) rfl
theorem q2840 : (Jvm.Cond.methodLink "FranchiseLedgerLaw" (287 : Nat) ({ cls := "FranchiseLedgerModel", name := "reportSales", desc := "(IJ)J" } : Jvm.MethodName)) ∈ lw_all := lw_g (lw_at lw_m12 72 rfl) rfl
theorem q2850 : (Jvm.Cond.methodLink "FranchiseLedgerLaw" (291 : Nat) ({ cls := "FranchiseLedgerModel", name := "deliver", desc := "(IIIJ)J" } : Jvm.MethodName)) ∈ lw_all := lw_g (lw_at lw_m12 82 rfl) rfl
theorem q2855 : (Jvm.Cond.methodLink "FranchiseLedgerLaw" (294 : Nat) ({ cls := "FranchiseLedgerModel", name := "sales", desc := "(I)J" } : Jvm.MethodName)) ∈ lw_all := lw_g (lw_at lw_m12 87 rfl) rfl
theorem q2859 : (Jvm.Cond.methodLink "FranchiseLedgerLaw" (297 : Nat) ({ cls := "FranchiseLedgerModel", name := "salesOf", desc := "(II)J" } : Jvm.MethodName)) ∈ lw_all := lw_g (lw_at lw_m12 91 rfl) rfl
theorem q2871 : (Jvm.Cond.methodLink "FranchiseLedgerLaw" (301 : Nat) ({ cls := "FranchiseLedgerModel", name := "ranked", desc := "(I)I" } : Jvm.MethodName)) ∈ lw_all := lw_g (lw_at lw_m12 103 rfl) rfl
theorem q2879 : (Jvm.Cond.methodLink "FranchiseLedgerLaw" (304 : Nat) ({ cls := "FranchiseLedgerModel", name := "creditDue", desc := "(II)J" } : Jvm.MethodName)) ∈ lw_all := lw_g (lw_at lw_m12 111 rfl) rfl
theorem q2887 : (Jvm.Cond.methodLink "FranchiseLedgerLaw" (308 : Nat) ({ cls := "FranchiseLedgerModel", name := "closeMonth", desc := "()I" } : Jvm.MethodName)) ∈ lw_all := lw_g (lw_at lw_m12 119 rfl) rfl
theorem q2913 : (Jvm.Cond.methodLink "FranchiseLedgerLaw" (311 : Nat) ({ cls := "FranchiseLedgerModel", name := "invoice", desc := "(III)J" } : Jvm.MethodName)) ∈ lw_all := lw_g (lw_at lw_m12 145 rfl) rfl
theorem q2918 : (Jvm.Cond.methodLink "FranchiseLedgerLaw" (314 : Nat) ({ cls := "FranchiseLedgerModel", name := "predictDue", desc := "(II)J" } : Jvm.MethodName)) ∈ lw_all := lw_g (lw_at lw_m12 150 rfl) rfl
theorem q2923 : (Jvm.Cond.methodLink "FranchiseLedgerLaw" (317 : Nat) ({ cls := "FranchiseLedgerModel", name := "balance", desc := "(I)J" } : Jvm.MethodName)) ∈ lw_all := lw_g (lw_at lw_m12 155 rfl) rfl
theorem q2927 : (Jvm.Cond.methodLink "FranchiseLedgerLaw" (322 : Nat) ({ cls := "FranchiseLedgerModel", name := "totalOwed", desc := "()J" } : Jvm.MethodName)) ∈ lw_all := lw_g (lw_at lw_m12 159 rfl) rfl
theorem q2931 : (Jvm.Cond.methodLink "FranchiseLedgerLaw" (325 : Nat) ({ cls := "FranchiseLedgerModel", name := "pay", desc := "(IJ)J" } : Jvm.MethodName)) ∈ lw_all := lw_g (lw_at lw_m12 163 rfl) rfl
theorem q2935 : (Jvm.Cond.methodLink "FranchiseLedgerLaw" (331 : Nat) ({ cls := "FranchiseLedgerModel", name := "payOff", desc := "(IJ)I" } : Jvm.MethodName)) ∈ lw_all := lw_g (lw_at lw_m12 167 rfl) rfl
theorem q2939 : (Jvm.Cond.methodLink "FranchiseLedgerLaw" (328 : Nat) ({ cls := "FranchiseLedgerModel", name := "monthsOverdue", desc := "(I)I" } : Jvm.MethodName)) ∈ lw_all := lw_g (lw_at lw_m12 171 rfl) rfl
theorem q2943 : (Jvm.Cond.methodLink "FranchiseLedgerLaw" (334 : Nat) ({ cls := "FranchiseLedgerModel", name := "terminate", desc := "(I)Z" } : Jvm.MethodName)) ∈ lw_all := lw_g (lw_at lw_m12 175 rfl) rfl
theorem q2952 : (Jvm.Cond.methodLink "FranchiseLedgerLaw" (337 : Nat) ({ cls := "FranchiseLedgerModel", name := "status", desc := "(I)I" } : Jvm.MethodName)) ∈ lw_all := lw_g (lw_at lw_m12 184 rfl) rfl
theorem q2956 : (Jvm.Cond.methodLink "FranchiseLedgerLaw" (341 : Nat) ({ cls := "FranchiseLedgerModel", name := "fundBalance", desc := "()J" } : Jvm.MethodName)) ∈ lw_all := lw_g (lw_at lw_m12 188 rfl) rfl
theorem q2968 : (Jvm.Cond.methodLink "FranchiseLedgerLaw" (344 : Nat) ({ cls := "FranchiseLedgerModel", name := "contributions", desc := "(I)J" } : Jvm.MethodName)) ∈ lw_all := lw_g (lw_at lw_m12 200 rfl) rfl
theorem q2972 : (Jvm.Cond.methodLink "FranchiseLedgerLaw" (347 : Nat) ({ cls := "FranchiseLedgerModel", name := "spent", desc := "(I)J" } : Jvm.MethodName)) ∈ lw_all := lw_g (lw_at lw_m12 204 rfl) rfl
theorem q2976 : (Jvm.Cond.methodLink "FranchiseLedgerLaw" (351 : Nat) ({ cls := "FranchiseLedgerModel", name := "campaign", desc := "(J)Z" } : Jvm.MethodName)) ∈ lw_all := lw_g (lw_at lw_m12 208 rfl) rfl
theorem q2980 : (Jvm.Cond.methodLink "FranchiseLedgerLaw" (354 : Nat) ({ cls := "FranchiseLedgerModel", name := "grant", desc := "(IJ)Z" } : Jvm.MethodName)) ∈ lw_all := lw_g (lw_at lw_m12 212 rfl) rfl
theorem q2988 : (Jvm.Cond.methodLink "FranchiseLedgerLaw" (357 : Nat) ({ cls := "FranchiseLedgerModel", name := "allowance", desc := "(I)J" } : Jvm.MethodName)) ∈ lw_all := lw_g (lw_at lw_m12 220 rfl) rfl
theorem q2992 : (Jvm.Cond.methodLink "FranchiseLedgerLaw" (360 : Nat) ({ cls := "FranchiseLedgerModel", name := "nationalShare", desc := "(I)J" } : Jvm.MethodName)) ∈ lw_all := lw_g (lw_at lw_m12 224 rfl) rfl
theorem q3000 : (Jvm.Cond.methodLink "FranchiseLedgerLaw" (364 : Nat) ({ cls := "FranchiseLedgerModel", name := "requestTransfer", desc := "(IIJ)Z" } : Jvm.MethodName)) ∈ lw_all := lw_g (lw_at lw_m12 232 rfl) rfl
theorem q3005 : (Jvm.Cond.methodLink "FranchiseLedgerLaw" (368 : Nat) ({ cls := "FranchiseLedgerModel", name := "vote", desc := "(IIZ)I" } : Jvm.MethodName)) ∈ lw_all := lw_g (lw_at lw_m12 237 rfl) rfl
theorem q3009 : (Jvm.Cond.methodLink "FranchiseLedgerLaw" (371 : Nat) ({ cls := "FranchiseLedgerModel", name := "exercise", desc := "(I)Z" } : Jvm.MethodName)) ∈ lw_all := lw_g (lw_at lw_m13 1 rfl) rfl
theorem q3014 : (Jvm.Cond.methodLink "FranchiseLedgerLaw" (374 : Nat) ({ cls := "FranchiseLedgerModel", name := "withdraw", desc := "(I)Z" } : Jvm.MethodName)) ∈ lw_all := lw_g (lw_at lw_m13 6 rfl) rfl
theorem q3018 : (Jvm.Cond.methodLink "FranchiseLedgerLaw" (377 : Nat) ({ cls := "FranchiseLedgerModel", name := "transferState", desc := "(I)I" } : Jvm.MethodName)) ∈ lw_all := lw_g (lw_at lw_m13 10 rfl) rfl
theorem q3022 : (Jvm.Cond.methodLink "FranchiseLedgerLaw" (380 : Nat) ({ cls := "FranchiseLedgerModel", name := "transferWait", desc := "(I)I" } : Jvm.MethodName)) ∈ lw_all := lw_g (lw_at lw_m13 14 rfl) rfl
theorem q3026 : (Jvm.Cond.methodLink "FranchiseLedgerLaw" (383 : Nat) ({ cls := "FranchiseLedgerModel", name := "generation", desc := "(I)I" } : Jvm.MethodName)) ∈ lw_all := lw_g (lw_at lw_m13 18 rfl) rfl
theorem q3030 : (Jvm.Cond.methodLink "FranchiseLedgerLaw" (386 : Nat) ({ cls := "FranchiseLedgerModel", name := "worth", desc := "(I)I" } : Jvm.MethodName)) ∈ lw_all := lw_g (lw_at lw_m13 22 rfl) rfl
theorem q3034 : (Jvm.Cond.methodLink "FranchiseLedgerLaw" (397 : Nat) ({ cls := "FranchiseLedgerModel", name := "formatInvoice", desc := "(II)I" } : Jvm.MethodName)) ∈ lw_all := lw_g (lw_at lw_m13 26 rfl) rfl
theorem q3063 : (Jvm.Cond.methodLink "FranchiseLedgerLaw" (401 : Nat) ({ cls := "FranchiseLedgerModel", name := "formattedByte", desc := "(I)I" } : Jvm.MethodName)) ∈ lw_all := lw_g (lw_at lw_m13 55 rfl) rfl
theorem q3067 : (Jvm.Cond.methodLink "FranchiseLedgerLaw" (183 : Nat) ({ cls := "FranchiseLedgerModel", name := "appendInput", desc := "(IIIII)I" } : Jvm.MethodName)) ∈ lw_all := lw_g (lw_at lw_m13 59 rfl) rfl
theorem q3075 : (Jvm.Cond.methodLink "FranchiseLedgerLaw" (187 : Nat) ({ cls := "FranchiseLedgerModel", name := "truncateInput", desc := "(I)I" } : Jvm.MethodName)) ∈ lw_all := lw_g (lw_at lw_m13 67 rfl) rfl
theorem q3079 : (Jvm.Cond.methodLink "FranchiseLedgerLaw" (195 : Nat) ({ cls := "FranchiseLedgerModel", name := "errorCode", desc := "()I" } : Jvm.MethodName)) ∈ lw_all := lw_g (lw_at lw_m13 71 rfl) rfl
theorem q3083 : (Jvm.Cond.methodLink "FranchiseLedgerLaw" (199 : Nat) ({ cls := "FranchiseLedgerModel", name := "errorPosition", desc := "()I" } : Jvm.MethodName)) ∈ lw_all := lw_g (lw_at lw_m13 75 rfl) rfl
theorem q3087 : (Jvm.Cond.methodLink "FranchiseLedgerLaw" (191 : Nat) ({ cls := "FranchiseLedgerModel", name := "load", desc := "()I" } : Jvm.MethodName)) ∈ lw_all := lw_g (lw_at lw_m13 79 rfl) rfl
theorem q3177 : (Jvm.Cond.methodLink "FranchiseLedgerLaw" (207 : Nat) ({ cls := "FranchiseLedgerModel", name := "loadJournal", desc := "()I" } : Jvm.MethodName)) ∈ lw_all := lw_g (lw_at lw_m13 169 rfl) rfl
theorem q3207 : (Jvm.Cond.methodLink "FranchiseLedgerLaw" (213 : Nat) ({ cls := "FranchiseLedgerModel", name := "runJournal", desc := "(I)I" } : Jvm.MethodName)) ∈ lw_all := lw_g (lw_at lw_m13 199 rfl) rfl
theorem q3231 : (Jvm.Cond.methodLink "FranchiseLedgerLaw" (203 : Nat) ({ cls := "FranchiseLedgerModel", name := "find", desc := "()I" } : Jvm.MethodName)) ∈ lw_all := lw_g (lw_at lw_m13 223 rfl) rfl
theorem q3235 : (Jvm.Cond.constantLong "FranchiseLedgerLaw" (270 : Nat) (4294967295 : Int64)) ∈ lw_all := lw_g (lw_at lw_m13 227 rfl) rfl
/-! FranchiseLedger$Rules -/
set_option maxRecDepth 100000
def RX2 : String := "FranchiseLedger$Rules"
def TX2 : u_T := fun k => match k with
  | 0 => ("FranchiseLedger$Rules", "plans", "Ljava/util/List;", true)
  | 1 => ("FranchiseLedger$Rules", "names", "Ljava/util/List;", true)
  | 2 => ("FranchiseLedger$Rules", "credit", "LFranchiseLedger$Rate;", false)
  | 3 => ("FranchiseLedger$Rules", "interest", "LFranchiseLedger$Rate;", false)
  | 4 => ("FranchiseLedger$Rules", "admin", "LFranchiseLedger$Rate;", false)
  | 5 => ("FranchiseLedger$Rules", "creditCap", "J", false)
  | 6 => ("FranchiseLedger$Rules", "fee", "J", false)
  | 7 => ("FranchiseLedger$Rules", "delay", "I", false)
  | 8 => ("FranchiseLedger$Rules", "leastWorth", "I", false)
  | _ => ("FranchiseLedger$Rules", "statements", "I", false)
def tyX2 : Nat → FieldType := fun k => match k with
  | 0 => .object "java/util/List"
  | 1 => .object "java/util/List"
  | 2 => .object "FranchiseLedger$Rate"
  | 3 => .object "FranchiseLedger$Rate"
  | 4 => .object "FranchiseLedger$Rate"
  | 5 => .long
  | 6 => .long
  | 7 => .int
  | 8 => .int
  | _ => .int
abbrev wsX20 : List Cond := u_ws RX2 TX2 10
theorem nmX2 : ∀ a, a < 10 → ∀ b, b < 10 → a ≠ b → (TX2 a).2.1 ≠ (TX2 b).2.1 := by decide +kernel
theorem tyX2_ok : ∀ k, k < 10 → parseFieldDescriptor (TX2 k).2.2.1 = some (tyX2 k) := by decide +kernel
abbrev cX2_init : ByteArray := prog_12_method_1_code
def yX2_init : MethodName := ⟨RX2, "<init>", "()V"⟩
def dkwX2_init_2 : List UInt8 := [183, 0, 25, 181, 0, 30, 42, 187, 0, 23, 89, 3, 183, 0, 25, 181, 0, 33, 177]
abbrev dktX2_init_2 : List UInt8 := dkwX2_init_2 ++ []
def dkwX2_init_1 : List UInt8 := [183, 0, 11, 181, 0, 20, 42, 187, 0, 23, 89, 3, 183, 0, 25, 181, 0, 26, 42, 187, 0, 23, 89, 3]
abbrev dktX2_init_1 : List UInt8 := dkwX2_init_1 ++ dktX2_init_2
def dkwX2_init_0 : List UInt8 := [42, 183, 0, 3, 42, 187, 0, 9, 89, 5, 183, 0, 11, 181, 0, 14, 42, 187, 0, 9, 89, 5]
abbrev dktX2_init_0 : List UInt8 := dkwX2_init_0 ++ dktX2_init_1
theorem dksX2_init_0 : cX2_init.data.toList.drop 0 = dktX2_init_0 := by decide +kernel
theorem dksX2_init_1 : cX2_init.data.toList.drop 22 = dktX2_init_1 := dk_seg dksX2_init_0 22 rfl rfl
theorem dksX2_init_2 : cX2_init.data.toList.drop 46 = dktX2_init_2 := dk_seg dksX2_init_1 24 rfl rfl
theorem dX2_init_0 : decode cX2_init 0 = .ok (.aload_n 0, 1) := dk_42 (dk_at dksX2_init_0 0 rfl rfl)
theorem dX2_init_1 : decode cX2_init 1 = .ok (.invokespecial 3, 3) := dk_183 0 3 (dk_at dksX2_init_0 1 rfl rfl)
theorem dX2_init_4 : decode cX2_init 4 = .ok (.aload_n 0, 1) := dk_42 (dk_at dksX2_init_0 4 rfl rfl)
theorem dX2_init_5 : decode cX2_init 5 = .ok (.new 9, 3) := dk_187 0 9 (dk_at dksX2_init_0 5 rfl rfl)
theorem dX2_init_8 : decode cX2_init 8 = .ok (.dup, 1) := dk_89 (dk_at dksX2_init_0 8 rfl rfl)
theorem dX2_init_9 : decode cX2_init 9 = .ok (.iconst 2, 1) := dk_5 (dk_at dksX2_init_0 9 rfl rfl)
theorem dX2_init_10 : decode cX2_init 10 = .ok (.invokespecial 11, 3) := dk_183 0 11 (dk_at dksX2_init_0 10 rfl rfl)
theorem dX2_init_13 : decode cX2_init 13 = .ok (.putfield 14, 3) := dk_181 0 14 (dk_at dksX2_init_0 13 rfl rfl)
theorem dX2_init_16 : decode cX2_init 16 = .ok (.aload_n 0, 1) := dk_42 (dk_at dksX2_init_0 16 rfl rfl)
theorem dX2_init_17 : decode cX2_init 17 = .ok (.new 9, 3) := dk_187 0 9 (dk_at dksX2_init_0 17 rfl rfl)
theorem dX2_init_20 : decode cX2_init 20 = .ok (.dup, 1) := dk_89 (dk_at dksX2_init_0 20 rfl rfl)
theorem dX2_init_21 : decode cX2_init 21 = .ok (.iconst 2, 1) := dk_5 (dk_at dksX2_init_0 21 rfl rfl)
theorem dX2_init_22 : decode cX2_init 22 = .ok (.invokespecial 11, 3) := dk_183 0 11 (dk_at dksX2_init_1 0 rfl rfl)
theorem dX2_init_25 : decode cX2_init 25 = .ok (.putfield 20, 3) := dk_181 0 20 (dk_at dksX2_init_1 3 rfl rfl)
theorem dX2_init_28 : decode cX2_init 28 = .ok (.aload_n 0, 1) := dk_42 (dk_at dksX2_init_1 6 rfl rfl)
theorem dX2_init_29 : decode cX2_init 29 = .ok (.new 23, 3) := dk_187 0 23 (dk_at dksX2_init_1 7 rfl rfl)
theorem dX2_init_32 : decode cX2_init 32 = .ok (.dup, 1) := dk_89 (dk_at dksX2_init_1 10 rfl rfl)
theorem dX2_init_33 : decode cX2_init 33 = .ok (.iconst 0, 1) := dk_3 (dk_at dksX2_init_1 11 rfl rfl)
theorem dX2_init_34 : decode cX2_init 34 = .ok (.invokespecial 25, 3) := dk_183 0 25 (dk_at dksX2_init_1 12 rfl rfl)
theorem dX2_init_37 : decode cX2_init 37 = .ok (.putfield 26, 3) := dk_181 0 26 (dk_at dksX2_init_1 15 rfl rfl)
theorem dX2_init_40 : decode cX2_init 40 = .ok (.aload_n 0, 1) := dk_42 (dk_at dksX2_init_1 18 rfl rfl)
theorem dX2_init_41 : decode cX2_init 41 = .ok (.new 23, 3) := dk_187 0 23 (dk_at dksX2_init_1 19 rfl rfl)
theorem dX2_init_44 : decode cX2_init 44 = .ok (.dup, 1) := dk_89 (dk_at dksX2_init_1 22 rfl rfl)
theorem dX2_init_45 : decode cX2_init 45 = .ok (.iconst 0, 1) := dk_3 (dk_at dksX2_init_1 23 rfl rfl)
theorem dX2_init_46 : decode cX2_init 46 = .ok (.invokespecial 25, 3) := dk_183 0 25 (dk_at dksX2_init_2 0 rfl rfl)
theorem dX2_init_49 : decode cX2_init 49 = .ok (.putfield 30, 3) := dk_181 0 30 (dk_at dksX2_init_2 3 rfl rfl)
theorem dX2_init_52 : decode cX2_init 52 = .ok (.aload_n 0, 1) := dk_42 (dk_at dksX2_init_2 6 rfl rfl)
theorem dX2_init_53 : decode cX2_init 53 = .ok (.new 23, 3) := dk_187 0 23 (dk_at dksX2_init_2 7 rfl rfl)
theorem dX2_init_56 : decode cX2_init 56 = .ok (.dup, 1) := dk_89 (dk_at dksX2_init_2 10 rfl rfl)
theorem dX2_init_57 : decode cX2_init 57 = .ok (.iconst 0, 1) := dk_3 (dk_at dksX2_init_2 11 rfl rfl)
theorem dX2_init_58 : decode cX2_init 58 = .ok (.invokespecial 25, 3) := dk_183 0 25 (dk_at dksX2_init_2 12 rfl rfl)
theorem dX2_init_61 : decode cX2_init 61 = .ok (.putfield 33, 3) := dk_181 0 33 (dk_at dksX2_init_2 15 rfl rfl)
theorem dX2_init_64 : decode cX2_init 64 = .ok (.return_, 1) := dk_177 (dk_at dksX2_init_2 18 rfl rfl)
abbrev cX2_named : ByteArray := prog_12_method_2_code
def yX2_named : MethodName := ⟨RX2, "named", "(Ljava/lang/CharSequence;)I"⟩
def dkwX2_named_2 : List UInt8 := [172]
abbrev dktX2_named_2 : List UInt8 := dkwX2_named_2 ++ []
def dkwX2_named_1 : List UInt8 := [185, 0, 42, 2, 0, 192, 0, 46, 43, 182, 0, 48, 153, 0, 5, 28, 172, 132, 2, 1, 167, 255, 218, 2]
abbrev dktX2_named_1 : List UInt8 := dkwX2_named_1 ++ dktX2_named_2
def dkwX2_named_0 : List UInt8 := [3, 61, 28, 42, 180, 0, 20, 185, 0, 36, 1, 0, 162, 0, 31, 42, 180, 0, 20, 28]
abbrev dktX2_named_0 : List UInt8 := dkwX2_named_0 ++ dktX2_named_1
theorem dksX2_named_0 : cX2_named.data.toList.drop 0 = dktX2_named_0 := by decide +kernel
theorem dksX2_named_1 : cX2_named.data.toList.drop 20 = dktX2_named_1 := dk_seg dksX2_named_0 20 rfl rfl
theorem dksX2_named_2 : cX2_named.data.toList.drop 44 = dktX2_named_2 := dk_seg dksX2_named_1 24 rfl rfl
theorem dX2_named_0 : decode cX2_named 0 = .ok (.iconst 0, 1) := dk_3 (dk_at dksX2_named_0 0 rfl rfl)
theorem dX2_named_1 : decode cX2_named 1 = .ok (.istore_n 2, 1) := dk_61 (dk_at dksX2_named_0 1 rfl rfl)
theorem dX2_named_2 : decode cX2_named 2 = .ok (.iload_n 2, 1) := dk_28 (dk_at dksX2_named_0 2 rfl rfl)
theorem dX2_named_3 : decode cX2_named 3 = .ok (.aload_n 0, 1) := dk_42 (dk_at dksX2_named_0 3 rfl rfl)
theorem dX2_named_4 : decode cX2_named 4 = .ok (.getfield 20, 3) := dk_180 0 20 (dk_at dksX2_named_0 4 rfl rfl)
theorem dX2_named_7 : decode cX2_named 7 = .ok (.invokeinterface 36 1, 5) := by decide +kernel
theorem dX2_named_12 : decode cX2_named 12 = .ok (.if_icmp .ge 31, 3) := dk_162 0 31 (dk_at dksX2_named_0 12 rfl rfl)
theorem dX2_named_15 : decode cX2_named 15 = .ok (.aload_n 0, 1) := dk_42 (dk_at dksX2_named_0 15 rfl rfl)
theorem dX2_named_16 : decode cX2_named 16 = .ok (.getfield 20, 3) := dk_180 0 20 (dk_at dksX2_named_0 16 rfl rfl)
theorem dX2_named_19 : decode cX2_named 19 = .ok (.iload_n 2, 1) := dk_28 (dk_at dksX2_named_0 19 rfl rfl)
theorem dX2_named_20 : decode cX2_named 20 = .ok (.invokeinterface 42 2, 5) := by decide +kernel
theorem dX2_named_25 : decode cX2_named 25 = .ok (.checkcast 46, 3) := dk_192 0 46 (dk_at dksX2_named_1 5 rfl rfl)
theorem dX2_named_28 : decode cX2_named 28 = .ok (.aload_n 1, 1) := dk_43 (dk_at dksX2_named_1 8 rfl rfl)
theorem dX2_named_29 : decode cX2_named 29 = .ok (.invokevirtual 48, 3) := dk_182 0 48 (dk_at dksX2_named_1 9 rfl rfl)
theorem dX2_named_32 : decode cX2_named 32 = .ok (.ifCond .eq 5, 3) := dk_153 0 5 (dk_at dksX2_named_1 12 rfl rfl)
theorem dX2_named_35 : decode cX2_named 35 = .ok (.iload_n 2, 1) := dk_28 (dk_at dksX2_named_1 15 rfl rfl)
theorem dX2_named_36 : decode cX2_named 36 = .ok (.ireturn, 1) := dk_172 (dk_at dksX2_named_1 16 rfl rfl)
theorem dX2_named_37 : decode cX2_named 37 = .ok (.iinc 2 1, 3) := dk_132 2 1 (dk_at dksX2_named_1 17 rfl rfl)
theorem dX2_named_40 : decode cX2_named 40 = .ok (.goto (-38), 3) := dk_167 255 218 (dk_at dksX2_named_1 20 rfl rfl)
theorem dX2_named_43 : decode cX2_named 43 = .ok (.iconst (-1), 1) := dk_2 (dk_at dksX2_named_1 23 rfl rfl)
theorem dX2_named_44 : decode cX2_named 44 = .ok (.ireturn, 1) := dk_172 (dk_at dksX2_named_2 0 rfl rfl)
theorem q130 : (Jvm.Cond.initialized "FranchiseLedger$Rules") ∈ lw_all := lw_g (lw_at lw_m1 2 rfl) rfl
theorem q185 : (Jvm.Cond.instantiable "FranchiseLedger$Rules" (10 : Nat)) ∈ lw_all := lw_g (lw_at lw_m1 57 rfl) rfl
theorem q187 : (Jvm.Cond.instanceMethod ({ cls := "FranchiseLedger$Rules", name := "<init>", desc := "()V" } : Jvm.MethodName)) ∈ lw_all := lw_g (lw_at lw_m1 59 rfl) rfl
theorem q188 : (Jvm.Cond.code ({ cls := "FranchiseLedger$Rules", name := "<init>", desc := "()V" } : Jvm.MethodName) prog_12_method_1_code (1 : Nat) (Option.none : Option Jvm.ClassFile.FieldType)) ∈ lw_all := lw_g (lw_at lw_m1 60 rfl) rfl
theorem q189 : (Jvm.Cond.methodLink "FranchiseLedger$Rules" (3 : Nat) ({ cls := "java/lang/Object", name := "<init>", desc := "()V" } : Jvm.MethodName)) ∈ lw_all := lw_g (lw_at lw_m1 61 rfl) rfl
theorem q190 : (Jvm.Cond.classLink "FranchiseLedger$Rules" (9 : Nat) "java/util/ArrayList") ∈ lw_all := lw_g (lw_at lw_m1 62 rfl) rfl
theorem q192 : (Jvm.Cond.methodLink "FranchiseLedger$Rules" (11 : Nat) ({ cls := "java/util/ArrayList", name := "<init>", desc := "(I)V" } : Jvm.MethodName)) ∈ lw_all := lw_g (lw_at lw_m1 64 rfl) rfl
theorem q538 : (Jvm.Cond.classLink "FranchiseLedger$Rules" (23 : Nat) "FranchiseLedger$Rate") ∈ lw_all := lw_g (lw_at lw_m2 170 rfl) rfl
theorem q540 : (Jvm.Cond.methodLinkNest "FranchiseLedger$Rules" (25 : Nat) ({ cls := "FranchiseLedger$Rate", name := "<init>", desc := "(I)V" } : Jvm.MethodName) "FranchiseLedger") ∈ lw_tbl := lw_at lw_m2 172 rfl
theorem q551 : (Jvm.Cond.fieldLink "FranchiseLedger$Rules" (14 : Nat) "FranchiseLedger$Rules" "plans" "Ljava/util/List;") ∈ lw_all := lw_g (lw_at lw_m2 183 rfl) rfl
theorem q555 : (Jvm.Cond.fieldLink "FranchiseLedger$Rules" (20 : Nat) "FranchiseLedger$Rules" "names" "Ljava/util/List;") ∈ lw_all := lw_g (lw_at lw_m2 187 rfl) rfl
theorem q557 : (Jvm.Cond.fieldLink "FranchiseLedger$Rules" (26 : Nat) "FranchiseLedger$Rules" "credit" "LFranchiseLedger$Rate;") ∈ lw_all := lw_g (lw_at lw_m2 189 rfl) rfl
theorem q560 : (Jvm.Cond.fieldLink "FranchiseLedger$Rules" (30 : Nat) "FranchiseLedger$Rules" "interest" "LFranchiseLedger$Rate;") ∈ lw_all := lw_g (lw_at lw_m2 192 rfl) rfl
theorem q564 : (Jvm.Cond.fieldLink "FranchiseLedger$Rules" (33 : Nat) "FranchiseLedger$Rules" "admin" "LFranchiseLedger$Rate;") ∈ lw_all := lw_g (lw_at lw_m2 196 rfl) rfl
theorem q578 : (Jvm.Cond.laysFinal "FranchiseLedger$Rules" "FranchiseLedger$Rules" "plans" "Ljava/util/List;") ∈ lw_all := lw_g (lw_at lw_m2 210 rfl) rfl
theorem q579 : (Jvm.Cond.soleField "FranchiseLedger$Rules" "plans") ∈ lw_all := lw_g (lw_at lw_m2 211 rfl) rfl
theorem q580 : (Jvm.Cond.laysFinal "FranchiseLedger$Rules" "FranchiseLedger$Rules" "names" "Ljava/util/List;") ∈ lw_all := lw_g (lw_at lw_m2 212 rfl) rfl
theorem q581 : (Jvm.Cond.soleField "FranchiseLedger$Rules" "names") ∈ lw_all := lw_g (lw_at lw_m2 213 rfl) rfl
theorem q582 : (Jvm.Cond.lays "FranchiseLedger$Rules" "FranchiseLedger$Rules" "credit" "LFranchiseLedger$Rate;") ∈ lw_all := lw_g (lw_at lw_m2 214 rfl) rfl
theorem q583 : (Jvm.Cond.soleField "FranchiseLedger$Rules" "credit") ∈ lw_all := lw_g (lw_at lw_m2 215 rfl) rfl
theorem q584 : (Jvm.Cond.lays "FranchiseLedger$Rules" "FranchiseLedger$Rules" "interest" "LFranchiseLedger$Rate;") ∈ lw_all := lw_g (lw_at lw_m2 216 rfl) rfl
theorem q585 : (Jvm.Cond.soleField "FranchiseLedger$Rules" "interest") ∈ lw_all := lw_g (lw_at lw_m2 217 rfl) rfl
theorem q586 : (Jvm.Cond.lays "FranchiseLedger$Rules" "FranchiseLedger$Rules" "admin" "LFranchiseLedger$Rate;") ∈ lw_all := lw_g (lw_at lw_m2 218 rfl) rfl
theorem q587 : (Jvm.Cond.soleField "FranchiseLedger$Rules" "admin") ∈ lw_all := lw_g (lw_at lw_m2 219 rfl) rfl
theorem q588 : (Jvm.Cond.lays "FranchiseLedger$Rules" "FranchiseLedger$Rules" "creditCap" "J") ∈ lw_all := lw_g (lw_at lw_m2 220 rfl) rfl
theorem q589 : (Jvm.Cond.soleField "FranchiseLedger$Rules" "creditCap") ∈ lw_all := lw_g (lw_at lw_m2 221 rfl) rfl
theorem q590 : (Jvm.Cond.lays "FranchiseLedger$Rules" "FranchiseLedger$Rules" "fee" "J") ∈ lw_all := lw_g (lw_at lw_m2 222 rfl) rfl
theorem q591 : (Jvm.Cond.soleField "FranchiseLedger$Rules" "fee") ∈ lw_all := lw_g (lw_at lw_m2 223 rfl) rfl
theorem q592 : (Jvm.Cond.lays "FranchiseLedger$Rules" "FranchiseLedger$Rules" "delay" "I") ∈ lw_all := lw_g (lw_at lw_m2 224 rfl) rfl
theorem q593 : (Jvm.Cond.soleField "FranchiseLedger$Rules" "delay") ∈ lw_all := lw_g (lw_at lw_m2 225 rfl) rfl
theorem q594 : (Jvm.Cond.lays "FranchiseLedger$Rules" "FranchiseLedger$Rules" "leastWorth" "I") ∈ lw_all := lw_g (lw_at lw_m2 226 rfl) rfl
theorem q595 : (Jvm.Cond.soleField "FranchiseLedger$Rules" "leastWorth") ∈ lw_all := lw_g (lw_at lw_m2 227 rfl) rfl
theorem q596 : (Jvm.Cond.lays "FranchiseLedger$Rules" "FranchiseLedger$Rules" "statements" "I") ∈ lw_all := lw_g (lw_at lw_m2 228 rfl) rfl
theorem q597 : (Jvm.Cond.soleField "FranchiseLedger$Rules" "statements") ∈ lw_all := lw_g (lw_at lw_m2 229 rfl) rfl
theorem q598 : (Jvm.Cond.superclass "FranchiseLedger$Rules" "java/lang/Object") ∈ lw_all := lw_g (lw_at lw_m2 230 rfl) rfl
theorem q1003 : (Jvm.Cond.selects "FranchiseLedger$Rules" ({ cls := "java/lang/Object", name := "getClass", desc := "()Ljava/lang/Class;" } : Jvm.MethodName) ({ cls := "java/lang/Object", name := "getClass", desc := "()Ljava/lang/Class;" } : Jvm.MethodName)) ∈ lw_all := lw_g (lw_at lw_m4 155 rfl) rfl
theorem q1139 : (Jvm.Cond.instanceMethod ({ cls := "FranchiseLedger$Rules", name := "named", desc := "(Ljava/lang/CharSequence;)I" } : Jvm.MethodName)) ∈ lw_all := lw_g (lw_at lw_m5 51 rfl) rfl
theorem q1140 : (Jvm.Cond.selects "FranchiseLedger$Rules" ({ cls := "FranchiseLedger$Rules", name := "named", desc := "(Ljava/lang/CharSequence;)I" } : Jvm.MethodName) ({ cls := "FranchiseLedger$Rules", name := "named", desc := "(Ljava/lang/CharSequence;)I" } : Jvm.MethodName)) ∈ lw_all := lw_g (lw_at lw_m5 52 rfl) rfl
theorem q1141 : (Jvm.Cond.code ({ cls := "FranchiseLedger$Rules", name := "named", desc := "(Ljava/lang/CharSequence;)I" } : Jvm.MethodName) prog_12_method_2_code (3 : Nat) (Option.some Jvm.ClassFile.FieldType.int)) ∈ lw_all := lw_g (lw_at lw_m5 53 rfl) rfl
theorem q1142 : (Jvm.Cond.interfaceEntry "FranchiseLedger$Rules" (36 : Nat)) ∈ lw_tbl := lw_at lw_m5 54 rfl
theorem q1143 : (Jvm.Cond.methodLink "FranchiseLedger$Rules" (36 : Nat) ({ cls := "java/util/List", name := "size", desc := "()I" } : Jvm.MethodName)) ∈ lw_all := lw_g (lw_at lw_m5 55 rfl) rfl
theorem q1144 : (Jvm.Cond.interfaceEntry "FranchiseLedger$Rules" (42 : Nat)) ∈ lw_tbl := lw_at lw_m5 56 rfl
theorem q1145 : (Jvm.Cond.methodLink "FranchiseLedger$Rules" (42 : Nat) ({ cls := "java/util/List", name := "get", desc := "(I)Ljava/lang/Object;" } : Jvm.MethodName)) ∈ lw_all := lw_g (lw_at lw_m5 57 rfl) rfl
theorem q1146 : (Jvm.Cond.classLink "FranchiseLedger$Rules" (46 : Nat) "java/lang/String") ∈ lw_all := lw_g (lw_at lw_m5 58 rfl) rfl
theorem q1147 : (Jvm.Cond.methodLink "FranchiseLedger$Rules" (48 : Nat) ({ cls := "java/lang/String", name := "contentEquals", desc := "(Ljava/lang/CharSequence;)Z" } : Jvm.MethodName)) ∈ lw_all := lw_g (lw_at lw_m5 59 rfl) rfl
theorem q3257 : (Jvm.Cond.castable "FranchiseLedger$Rules" "java/lang/Object") ∈ lw_tbl := lw_at lw_m14 9 rfl
theorem in_X2 : ∀ w ∈ wsX20, w ∈ lw_all := lw_in wsX20 [578, 580, 582, 584, 586, 588, 590, 592, 594, 596] (by decide +kernel) (by decide +kernel)
/-! FranchiseLedger$Rate -/
set_option maxRecDepth 100000
def RX3 : String := "FranchiseLedger$Rate"
def TX3 : u_T := fun k => match k with
  | _ => ("FranchiseLedger$Rate", "rate", "I", true)
def tyX3 : Nat → FieldType := fun k => match k with
  | _ => .int
abbrev wsX30 : List Cond := u_ws RX3 TX3 1
theorem nmX3 : ∀ a, a < 1 → ∀ b, b < 1 → a ≠ b → (TX3 a).2.1 ≠ (TX3 b).2.1 := by decide +kernel
theorem tyX3_ok : ∀ k, k < 1 → parseFieldDescriptor (TX3 k).2.2.1 = some (tyX3 k) := by decide +kernel
abbrev cX3_init : ByteArray := prog_9_method_1_code
def yX3_init : MethodName := ⟨RX3, "<init>", "(I)V"⟩
def dkwX3_init_0 : List UInt8 := [42, 183, 0, 1, 42, 27, 181, 0, 7, 177]
abbrev dktX3_init_0 : List UInt8 := dkwX3_init_0 ++ []
theorem dksX3_init_0 : cX3_init.data.toList.drop 0 = dktX3_init_0 := by decide +kernel
theorem dX3_init_0 : decode cX3_init 0 = .ok (.aload_n 0, 1) := dk_42 (dk_at dksX3_init_0 0 rfl rfl)
theorem dX3_init_1 : decode cX3_init 1 = .ok (.invokespecial 1, 3) := dk_183 0 1 (dk_at dksX3_init_0 1 rfl rfl)
theorem dX3_init_4 : decode cX3_init 4 = .ok (.aload_n 0, 1) := dk_42 (dk_at dksX3_init_0 4 rfl rfl)
theorem dX3_init_5 : decode cX3_init 5 = .ok (.iload_n 1, 1) := dk_27 (dk_at dksX3_init_0 5 rfl rfl)
theorem dX3_init_6 : decode cX3_init 6 = .ok (.putfield 7, 3) := dk_181 0 7 (dk_at dksX3_init_0 6 rfl rfl)
theorem dX3_init_9 : decode cX3_init 9 = .ok (.return_, 1) := dk_177 (dk_at dksX3_init_0 9 rfl rfl)
abbrev cX3_rate : ByteArray := prog_9_method_5_code
def yX3_rate : MethodName := ⟨RX3, "rate", "()I"⟩
theorem dX3_rate_0 : decode cX3_rate 0 = .ok (.aload_n 0, 1) := by decide +kernel
theorem dX3_rate_1 : decode cX3_rate 1 = .ok (.getfield 7, 3) := by decide +kernel
theorem dX3_rate_4 : decode cX3_rate 4 = .ok (.ireturn, 1) := by decide +kernel
theorem q151 : (Jvm.Cond.initialized "FranchiseLedger$Rate") ∈ lw_all := lw_g (lw_at lw_m1 23 rfl) rfl
theorem q539 : (Jvm.Cond.instantiable "FranchiseLedger$Rate" (1 : Nat)) ∈ lw_all := lw_g (lw_at lw_m2 171 rfl) rfl
theorem q541 : (Jvm.Cond.instanceMethod ({ cls := "FranchiseLedger$Rate", name := "<init>", desc := "(I)V" } : Jvm.MethodName)) ∈ lw_all := lw_g (lw_at lw_m2 173 rfl) rfl
theorem q542 : (Jvm.Cond.code ({ cls := "FranchiseLedger$Rate", name := "<init>", desc := "(I)V" } : Jvm.MethodName) prog_9_method_1_code (2 : Nat) (Option.none : Option Jvm.ClassFile.FieldType)) ∈ lw_all := lw_g (lw_at lw_m2 174 rfl) rfl
theorem q543 : (Jvm.Cond.methodLink "FranchiseLedger$Rate" (1 : Nat) ({ cls := "java/lang/Record", name := "<init>", desc := "()V" } : Jvm.MethodName)) ∈ lw_all := lw_g (lw_at lw_m2 175 rfl) rfl
theorem q547 : (Jvm.Cond.fieldLink "FranchiseLedger$Rate" (7 : Nat) "FranchiseLedger$Rate" "rate" "I") ∈ lw_all := lw_g (lw_at lw_m2 179 rfl) rfl
theorem q548 : (Jvm.Cond.laysFinal "FranchiseLedger$Rate" "FranchiseLedger$Rate" "rate" "I") ∈ lw_all := lw_g (lw_at lw_m2 180 rfl) rfl
theorem q549 : (Jvm.Cond.soleField "FranchiseLedger$Rate" "rate") ∈ lw_all := lw_g (lw_at lw_m2 181 rfl) rfl
theorem q550 : (Jvm.Cond.superclass "FranchiseLedger$Rate" "java/lang/Record") ∈ lw_all := lw_g (lw_at lw_m2 182 rfl) rfl
theorem q1001 : (Jvm.Cond.selects "FranchiseLedger$Rate" ({ cls := "java/lang/Object", name := "getClass", desc := "()Ljava/lang/Class;" } : Jvm.MethodName) ({ cls := "java/lang/Object", name := "getClass", desc := "()Ljava/lang/Class;" } : Jvm.MethodName)) ∈ lw_all := lw_g (lw_at lw_m4 153 rfl) rfl
theorem q1968 : (Jvm.Cond.unhidden "FranchiseLedger$Rate" "of" "(J)J") ∈ lw_tbl := lw_at lw_m8 160 rfl
theorem q1976 : (Jvm.Cond.castable "FranchiseLedger$Rate" "FranchiseLedger$Rated") ∈ lw_tbl := lw_at lw_m8 168 rfl
theorem q1977 : (Jvm.Cond.selects "FranchiseLedger$Rate" ({ cls := "FranchiseLedger$Rated", name := "rate", desc := "()I" } : Jvm.MethodName) ({ cls := "FranchiseLedger$Rate", name := "rate", desc := "()I" } : Jvm.MethodName)) ∈ lw_all := lw_g (lw_at lw_m8 169 rfl) rfl
theorem q1978 : (Jvm.Cond.unhidden "FranchiseLedger$Rate" "rate" "()I") ∈ lw_tbl := lw_at lw_m8 170 rfl
theorem q1979 : (Jvm.Cond.instanceMethod ({ cls := "FranchiseLedger$Rate", name := "rate", desc := "()I" } : Jvm.MethodName)) ∈ lw_all := lw_g (lw_at lw_m8 171 rfl) rfl
theorem q1980 : (Jvm.Cond.publicMethod ({ cls := "FranchiseLedger$Rate", name := "rate", desc := "()I" } : Jvm.MethodName)) ∈ lw_tbl := lw_at lw_m8 172 rfl
theorem q1981 : (Jvm.Cond.code ({ cls := "FranchiseLedger$Rate", name := "rate", desc := "()I" } : Jvm.MethodName) prog_9_method_5_code (1 : Nat) (Option.some Jvm.ClassFile.FieldType.int)) ∈ lw_all := lw_g (lw_at lw_m8 173 rfl) rfl
theorem q3262 : (Jvm.Cond.castable "FranchiseLedger$Rate" "java/lang/Object") ∈ lw_tbl := lw_at lw_m14 14 rfl
theorem in_X3 : ∀ w ∈ wsX30, w ∈ lw_all := lw_in wsX30 [548] (by decide +kernel) (by decide +kernel)
/-! FranchiseLedger$Grid -/
set_option maxRecDepth 100000
def RX5 : String := "FranchiseLedger$Grid"
def TX5 : u_T := fun k => match k with
  | 0 => ("FranchiseLedger$Grid", "owners", "[B", true)
  | 1 => ("FranchiseLedger$Grid", "reached", "[I", true)
  | _ => ("FranchiseLedger$Grid", "isReached", "[Z", true)
def tyX5 : Nat → FieldType := fun k => match k with
  | 0 => .array .byte
  | 1 => .array .int
  | _ => .array .boolean
abbrev wsX50 : List Cond := u_ws RX5 TX5 3
theorem nmX5 : ∀ a, a < 3 → ∀ b, b < 3 → a ≠ b → (TX5 a).2.1 ≠ (TX5 b).2.1 := by decide +kernel
theorem tyX5_ok : ∀ k, k < 3 → parseFieldDescriptor (TX5 k).2.2.1 = some (tyX5 k) := by decide +kernel
abbrev cX5_init : ByteArray := prog_5_method_1_code
def yX5_init : MethodName := ⟨RX5, "<init>", "()V"⟩
def dkwX5_init_2 : List UInt8 := [132, 1, 1, 167, 255, 239, 177]
abbrev dktX5_init_2 : List UInt8 := dkwX5_init_2 ++ []
def dkwX5_init_1 : List UInt8 := [17, 3, 132, 188, 4, 181, 0, 19, 3, 60, 27, 17, 3, 132, 162, 0, 16, 42, 180, 0, 9, 27, 2, 84]
abbrev dktX5_init_1 : List UInt8 := dkwX5_init_1 ++ dktX5_init_2
def dkwX5_init_0 : List UInt8 := [42, 183, 0, 3, 42, 17, 3, 132, 188, 8, 181, 0, 9, 42, 17, 3, 132, 188, 10, 181, 0, 15, 42]
abbrev dktX5_init_0 : List UInt8 := dkwX5_init_0 ++ dktX5_init_1
theorem dksX5_init_0 : cX5_init.data.toList.drop 0 = dktX5_init_0 := by decide +kernel
theorem dksX5_init_1 : cX5_init.data.toList.drop 23 = dktX5_init_1 := dk_seg dksX5_init_0 23 rfl rfl
theorem dksX5_init_2 : cX5_init.data.toList.drop 47 = dktX5_init_2 := dk_seg dksX5_init_1 24 rfl rfl
theorem dX5_init_0 : decode cX5_init 0 = .ok (.aload_n 0, 1) := dk_42 (dk_at dksX5_init_0 0 rfl rfl)
theorem dX5_init_1 : decode cX5_init 1 = .ok (.invokespecial 3, 3) := dk_183 0 3 (dk_at dksX5_init_0 1 rfl rfl)
theorem dX5_init_4 : decode cX5_init 4 = .ok (.aload_n 0, 1) := dk_42 (dk_at dksX5_init_0 4 rfl rfl)
theorem dX5_init_5 : decode cX5_init 5 = .ok (.sipush 900, 3) := dk_17 3 132 (dk_at dksX5_init_0 5 rfl rfl)
theorem dX5_init_8 : decode cX5_init 8 = .ok (.newarray .byte, 2) := dk_188_8 (dk_at dksX5_init_0 8 rfl rfl)
theorem dX5_init_10 : decode cX5_init 10 = .ok (.putfield 9, 3) := dk_181 0 9 (dk_at dksX5_init_0 10 rfl rfl)
theorem dX5_init_13 : decode cX5_init 13 = .ok (.aload_n 0, 1) := dk_42 (dk_at dksX5_init_0 13 rfl rfl)
theorem dX5_init_14 : decode cX5_init 14 = .ok (.sipush 900, 3) := dk_17 3 132 (dk_at dksX5_init_0 14 rfl rfl)
theorem dX5_init_17 : decode cX5_init 17 = .ok (.newarray .int, 2) := dk_188_10 (dk_at dksX5_init_0 17 rfl rfl)
theorem dX5_init_19 : decode cX5_init 19 = .ok (.putfield 15, 3) := dk_181 0 15 (dk_at dksX5_init_0 19 rfl rfl)
theorem dX5_init_22 : decode cX5_init 22 = .ok (.aload_n 0, 1) := dk_42 (dk_at dksX5_init_0 22 rfl rfl)
theorem dX5_init_23 : decode cX5_init 23 = .ok (.sipush 900, 3) := dk_17 3 132 (dk_at dksX5_init_1 0 rfl rfl)
theorem dX5_init_26 : decode cX5_init 26 = .ok (.newarray .boolean, 2) := dk_188_4 (dk_at dksX5_init_1 3 rfl rfl)
theorem dX5_init_28 : decode cX5_init 28 = .ok (.putfield 19, 3) := dk_181 0 19 (dk_at dksX5_init_1 5 rfl rfl)
theorem dX5_init_31 : decode cX5_init 31 = .ok (.iconst 0, 1) := dk_3 (dk_at dksX5_init_1 8 rfl rfl)
theorem dX5_init_32 : decode cX5_init 32 = .ok (.istore_n 1, 1) := dk_60 (dk_at dksX5_init_1 9 rfl rfl)
theorem dX5_init_33 : decode cX5_init 33 = .ok (.iload_n 1, 1) := dk_27 (dk_at dksX5_init_1 10 rfl rfl)
theorem dX5_init_34 : decode cX5_init 34 = .ok (.sipush 900, 3) := dk_17 3 132 (dk_at dksX5_init_1 11 rfl rfl)
theorem dX5_init_37 : decode cX5_init 37 = .ok (.if_icmp .ge 16, 3) := dk_162 0 16 (dk_at dksX5_init_1 14 rfl rfl)
theorem dX5_init_40 : decode cX5_init 40 = .ok (.aload_n 0, 1) := dk_42 (dk_at dksX5_init_1 17 rfl rfl)
theorem dX5_init_41 : decode cX5_init 41 = .ok (.getfield 9, 3) := dk_180 0 9 (dk_at dksX5_init_1 18 rfl rfl)
theorem dX5_init_44 : decode cX5_init 44 = .ok (.iload_n 1, 1) := dk_27 (dk_at dksX5_init_1 21 rfl rfl)
theorem dX5_init_45 : decode cX5_init 45 = .ok (.iconst (-1), 1) := dk_2 (dk_at dksX5_init_1 22 rfl rfl)
theorem dX5_init_46 : decode cX5_init 46 = .ok (.bastore, 1) := dk_84 (dk_at dksX5_init_1 23 rfl rfl)
theorem dX5_init_47 : decode cX5_init 47 = .ok (.iinc 1 1, 3) := dk_132 1 1 (dk_at dksX5_init_2 0 rfl rfl)
theorem dX5_init_50 : decode cX5_init 50 = .ok (.goto (-17), 3) := dk_167 255 239 (dk_at dksX5_init_2 3 rfl rfl)
theorem dX5_init_53 : decode cX5_init 53 = .ok (.return_, 1) := dk_177 (dk_at dksX5_init_2 6 rfl rfl)
abbrev cX5_like : ByteArray := prog_5_method_2_code
def yX5_like : MethodName := ⟨RX5, "like", "(LFranchiseLedger$Grid;)V"⟩
def dkwX5_like_0 : List UInt8 := [43, 180, 0, 9, 3, 42, 180, 0, 9, 3, 17, 3, 132, 184, 0, 23, 177]
abbrev dktX5_like_0 : List UInt8 := dkwX5_like_0 ++ []
theorem dksX5_like_0 : cX5_like.data.toList.drop 0 = dktX5_like_0 := by decide +kernel
theorem dX5_like_0 : decode cX5_like 0 = .ok (.aload_n 1, 1) := dk_43 (dk_at dksX5_like_0 0 rfl rfl)
theorem dX5_like_1 : decode cX5_like 1 = .ok (.getfield 9, 3) := dk_180 0 9 (dk_at dksX5_like_0 1 rfl rfl)
theorem dX5_like_4 : decode cX5_like 4 = .ok (.iconst 0, 1) := dk_3 (dk_at dksX5_like_0 4 rfl rfl)
theorem dX5_like_5 : decode cX5_like 5 = .ok (.aload_n 0, 1) := dk_42 (dk_at dksX5_like_0 5 rfl rfl)
theorem dX5_like_6 : decode cX5_like 6 = .ok (.getfield 9, 3) := dk_180 0 9 (dk_at dksX5_like_0 6 rfl rfl)
theorem dX5_like_9 : decode cX5_like 9 = .ok (.iconst 0, 1) := dk_3 (dk_at dksX5_like_0 9 rfl rfl)
theorem dX5_like_10 : decode cX5_like 10 = .ok (.sipush 900, 3) := dk_17 3 132 (dk_at dksX5_like_0 10 rfl rfl)
theorem dX5_like_13 : decode cX5_like 13 = .ok (.invokestatic 23, 3) := dk_184 0 23 (dk_at dksX5_like_0 13 rfl rfl)
theorem dX5_like_16 : decode cX5_like 16 = .ok (.return_, 1) := dk_177 (dk_at dksX5_like_0 16 rfl rfl)
abbrev cX5_area : ByteArray := prog_5_method_4_code
def yX5_area : MethodName := ⟨RX5, "area", "(I)I"⟩
def dkwX5_area_1 : List UInt8 := [167, 0, 4, 3, 96, 61, 132, 3, 1, 167, 255, 228, 28, 172]
abbrev dktX5_area_1 : List UInt8 := dkwX5_area_1 ++ []
def dkwX5_area_0 : List UInt8 := [3, 61, 3, 62, 29, 17, 3, 132, 162, 0, 27, 28, 42, 180, 0, 9, 29, 51, 27, 160, 0, 7, 4]
abbrev dktX5_area_0 : List UInt8 := dkwX5_area_0 ++ dktX5_area_1
theorem dksX5_area_0 : cX5_area.data.toList.drop 0 = dktX5_area_0 := by decide +kernel
theorem dksX5_area_1 : cX5_area.data.toList.drop 23 = dktX5_area_1 := dk_seg dksX5_area_0 23 rfl rfl
theorem dX5_area_0 : decode cX5_area 0 = .ok (.iconst 0, 1) := dk_3 (dk_at dksX5_area_0 0 rfl rfl)
theorem dX5_area_1 : decode cX5_area 1 = .ok (.istore_n 2, 1) := dk_61 (dk_at dksX5_area_0 1 rfl rfl)
theorem dX5_area_2 : decode cX5_area 2 = .ok (.iconst 0, 1) := dk_3 (dk_at dksX5_area_0 2 rfl rfl)
theorem dX5_area_3 : decode cX5_area 3 = .ok (.istore_n 3, 1) := dk_62 (dk_at dksX5_area_0 3 rfl rfl)
theorem dX5_area_4 : decode cX5_area 4 = .ok (.iload_n 3, 1) := dk_29 (dk_at dksX5_area_0 4 rfl rfl)
theorem dX5_area_5 : decode cX5_area 5 = .ok (.sipush 900, 3) := dk_17 3 132 (dk_at dksX5_area_0 5 rfl rfl)
theorem dX5_area_8 : decode cX5_area 8 = .ok (.if_icmp .ge 27, 3) := dk_162 0 27 (dk_at dksX5_area_0 8 rfl rfl)
theorem dX5_area_11 : decode cX5_area 11 = .ok (.iload_n 2, 1) := dk_28 (dk_at dksX5_area_0 11 rfl rfl)
theorem dX5_area_12 : decode cX5_area 12 = .ok (.aload_n 0, 1) := dk_42 (dk_at dksX5_area_0 12 rfl rfl)
theorem dX5_area_13 : decode cX5_area 13 = .ok (.getfield 9, 3) := dk_180 0 9 (dk_at dksX5_area_0 13 rfl rfl)
theorem dX5_area_16 : decode cX5_area 16 = .ok (.iload_n 3, 1) := dk_29 (dk_at dksX5_area_0 16 rfl rfl)
theorem dX5_area_17 : decode cX5_area 17 = .ok (.baload, 1) := dk_51 (dk_at dksX5_area_0 17 rfl rfl)
theorem dX5_area_18 : decode cX5_area 18 = .ok (.iload_n 1, 1) := dk_27 (dk_at dksX5_area_0 18 rfl rfl)
theorem dX5_area_19 : decode cX5_area 19 = .ok (.if_icmp .ne 7, 3) := dk_160 0 7 (dk_at dksX5_area_0 19 rfl rfl)
theorem dX5_area_22 : decode cX5_area 22 = .ok (.iconst 1, 1) := dk_4 (dk_at dksX5_area_0 22 rfl rfl)
theorem dX5_area_23 : decode cX5_area 23 = .ok (.goto 4, 3) := dk_167 0 4 (dk_at dksX5_area_1 0 rfl rfl)
theorem dX5_area_26 : decode cX5_area 26 = .ok (.iconst 0, 1) := dk_3 (dk_at dksX5_area_1 3 rfl rfl)
theorem dX5_area_27 : decode cX5_area 27 = .ok (.iadd, 1) := dk_96 (dk_at dksX5_area_1 4 rfl rfl)
theorem dX5_area_28 : decode cX5_area 28 = .ok (.istore_n 2, 1) := dk_61 (dk_at dksX5_area_1 5 rfl rfl)
theorem dX5_area_29 : decode cX5_area 29 = .ok (.iinc 3 1, 3) := dk_132 3 1 (dk_at dksX5_area_1 6 rfl rfl)
theorem dX5_area_32 : decode cX5_area 32 = .ok (.goto (-28), 3) := dk_167 255 228 (dk_at dksX5_area_1 9 rfl rfl)
theorem dX5_area_35 : decode cX5_area 35 = .ok (.iload_n 2, 1) := dk_28 (dk_at dksX5_area_1 12 rfl rfl)
theorem dX5_area_36 : decode cX5_area 36 = .ok (.ireturn, 1) := dk_172 (dk_at dksX5_area_1 13 rfl rfl)
abbrev cX5_perimeter : ByteArray := prog_5_method_5_code
def yX5_perimeter : MethodName := ⟨RX5, "perimeter", "(I)I"⟩
def dkwX5_perimeter_3 : List UInt8 := [132, 3, 1, 167, 255, 188, 28, 172]
abbrev dktX5_perimeter_3 : List UInt8 := dkwX5_perimeter_3 ++ []
def dkwX5_perimeter_2 : List UInt8 := [180, 0, 9, 21, 5, 51, 27, 159, 0, 7, 4, 167, 0, 4, 3, 96, 61, 132, 4, 1, 167, 255, 204]
abbrev dktX5_perimeter_2 : List UInt8 := dkwX5_perimeter_2 ++ dktX5_perimeter_3
def dkwX5_perimeter_1 : List UInt8 := [29, 51, 27, 160, 0, 42, 29, 21, 4, 184, 0, 46, 54, 5, 28, 21, 5, 2, 159, 0, 14, 42]
abbrev dktX5_perimeter_1 : List UInt8 := dkwX5_perimeter_1 ++ dktX5_perimeter_2
def dkwX5_perimeter_0 : List UInt8 := [3, 61, 3, 62, 29, 17, 3, 132, 162, 0, 67, 3, 54, 4, 21, 4, 7, 162, 0, 52, 42, 180, 0, 9]
abbrev dktX5_perimeter_0 : List UInt8 := dkwX5_perimeter_0 ++ dktX5_perimeter_1
theorem dksX5_perimeter_0 : cX5_perimeter.data.toList.drop 0 = dktX5_perimeter_0 := by decide +kernel
theorem dksX5_perimeter_1 : cX5_perimeter.data.toList.drop 24 = dktX5_perimeter_1 := dk_seg dksX5_perimeter_0 24 rfl rfl
theorem dksX5_perimeter_2 : cX5_perimeter.data.toList.drop 46 = dktX5_perimeter_2 := dk_seg dksX5_perimeter_1 22 rfl rfl
theorem dksX5_perimeter_3 : cX5_perimeter.data.toList.drop 69 = dktX5_perimeter_3 := dk_seg dksX5_perimeter_2 23 rfl rfl
theorem dX5_perimeter_0 : decode cX5_perimeter 0 = .ok (.iconst 0, 1) := dk_3 (dk_at dksX5_perimeter_0 0 rfl rfl)
theorem dX5_perimeter_1 : decode cX5_perimeter 1 = .ok (.istore_n 2, 1) := dk_61 (dk_at dksX5_perimeter_0 1 rfl rfl)
theorem dX5_perimeter_2 : decode cX5_perimeter 2 = .ok (.iconst 0, 1) := dk_3 (dk_at dksX5_perimeter_0 2 rfl rfl)
theorem dX5_perimeter_3 : decode cX5_perimeter 3 = .ok (.istore_n 3, 1) := dk_62 (dk_at dksX5_perimeter_0 3 rfl rfl)
theorem dX5_perimeter_4 : decode cX5_perimeter 4 = .ok (.iload_n 3, 1) := dk_29 (dk_at dksX5_perimeter_0 4 rfl rfl)
theorem dX5_perimeter_5 : decode cX5_perimeter 5 = .ok (.sipush 900, 3) := dk_17 3 132 (dk_at dksX5_perimeter_0 5 rfl rfl)
theorem dX5_perimeter_8 : decode cX5_perimeter 8 = .ok (.if_icmp .ge 67, 3) := dk_162 0 67 (dk_at dksX5_perimeter_0 8 rfl rfl)
theorem dX5_perimeter_11 : decode cX5_perimeter 11 = .ok (.iconst 0, 1) := dk_3 (dk_at dksX5_perimeter_0 11 rfl rfl)
theorem dX5_perimeter_12 : decode cX5_perimeter 12 = .ok (.istore 4, 2) := dk_54 4 (dk_at dksX5_perimeter_0 12 rfl rfl)
theorem dX5_perimeter_14 : decode cX5_perimeter 14 = .ok (.iload 4, 2) := dk_21 4 (dk_at dksX5_perimeter_0 14 rfl rfl)
theorem dX5_perimeter_16 : decode cX5_perimeter 16 = .ok (.iconst 4, 1) := dk_7 (dk_at dksX5_perimeter_0 16 rfl rfl)
theorem dX5_perimeter_17 : decode cX5_perimeter 17 = .ok (.if_icmp .ge 52, 3) := dk_162 0 52 (dk_at dksX5_perimeter_0 17 rfl rfl)
theorem dX5_perimeter_20 : decode cX5_perimeter 20 = .ok (.aload_n 0, 1) := dk_42 (dk_at dksX5_perimeter_0 20 rfl rfl)
theorem dX5_perimeter_21 : decode cX5_perimeter 21 = .ok (.getfield 9, 3) := dk_180 0 9 (dk_at dksX5_perimeter_0 21 rfl rfl)
theorem dX5_perimeter_24 : decode cX5_perimeter 24 = .ok (.iload_n 3, 1) := dk_29 (dk_at dksX5_perimeter_1 0 rfl rfl)
theorem dX5_perimeter_25 : decode cX5_perimeter 25 = .ok (.baload, 1) := dk_51 (dk_at dksX5_perimeter_1 1 rfl rfl)
theorem dX5_perimeter_26 : decode cX5_perimeter 26 = .ok (.iload_n 1, 1) := dk_27 (dk_at dksX5_perimeter_1 2 rfl rfl)
theorem dX5_perimeter_27 : decode cX5_perimeter 27 = .ok (.if_icmp .ne 42, 3) := dk_160 0 42 (dk_at dksX5_perimeter_1 3 rfl rfl)
theorem dX5_perimeter_30 : decode cX5_perimeter 30 = .ok (.iload_n 3, 1) := dk_29 (dk_at dksX5_perimeter_1 6 rfl rfl)
theorem dX5_perimeter_31 : decode cX5_perimeter 31 = .ok (.iload 4, 2) := dk_21 4 (dk_at dksX5_perimeter_1 7 rfl rfl)
theorem dX5_perimeter_33 : decode cX5_perimeter 33 = .ok (.invokestatic 46, 3) := dk_184 0 46 (dk_at dksX5_perimeter_1 9 rfl rfl)
theorem dX5_perimeter_36 : decode cX5_perimeter 36 = .ok (.istore 5, 2) := dk_54 5 (dk_at dksX5_perimeter_1 12 rfl rfl)
theorem dX5_perimeter_38 : decode cX5_perimeter 38 = .ok (.iload_n 2, 1) := dk_28 (dk_at dksX5_perimeter_1 14 rfl rfl)
theorem dX5_perimeter_39 : decode cX5_perimeter 39 = .ok (.iload 5, 2) := dk_21 5 (dk_at dksX5_perimeter_1 15 rfl rfl)
theorem dX5_perimeter_41 : decode cX5_perimeter 41 = .ok (.iconst (-1), 1) := dk_2 (dk_at dksX5_perimeter_1 17 rfl rfl)
theorem dX5_perimeter_42 : decode cX5_perimeter 42 = .ok (.if_icmp .eq 14, 3) := dk_159 0 14 (dk_at dksX5_perimeter_1 18 rfl rfl)
theorem dX5_perimeter_45 : decode cX5_perimeter 45 = .ok (.aload_n 0, 1) := dk_42 (dk_at dksX5_perimeter_1 21 rfl rfl)
theorem dX5_perimeter_46 : decode cX5_perimeter 46 = .ok (.getfield 9, 3) := dk_180 0 9 (dk_at dksX5_perimeter_2 0 rfl rfl)
theorem dX5_perimeter_49 : decode cX5_perimeter 49 = .ok (.iload 5, 2) := dk_21 5 (dk_at dksX5_perimeter_2 3 rfl rfl)
theorem dX5_perimeter_51 : decode cX5_perimeter 51 = .ok (.baload, 1) := dk_51 (dk_at dksX5_perimeter_2 5 rfl rfl)
theorem dX5_perimeter_52 : decode cX5_perimeter 52 = .ok (.iload_n 1, 1) := dk_27 (dk_at dksX5_perimeter_2 6 rfl rfl)
theorem dX5_perimeter_53 : decode cX5_perimeter 53 = .ok (.if_icmp .eq 7, 3) := dk_159 0 7 (dk_at dksX5_perimeter_2 7 rfl rfl)
theorem dX5_perimeter_56 : decode cX5_perimeter 56 = .ok (.iconst 1, 1) := dk_4 (dk_at dksX5_perimeter_2 10 rfl rfl)
theorem dX5_perimeter_57 : decode cX5_perimeter 57 = .ok (.goto 4, 3) := dk_167 0 4 (dk_at dksX5_perimeter_2 11 rfl rfl)
theorem dX5_perimeter_60 : decode cX5_perimeter 60 = .ok (.iconst 0, 1) := dk_3 (dk_at dksX5_perimeter_2 14 rfl rfl)
theorem dX5_perimeter_61 : decode cX5_perimeter 61 = .ok (.iadd, 1) := dk_96 (dk_at dksX5_perimeter_2 15 rfl rfl)
theorem dX5_perimeter_62 : decode cX5_perimeter 62 = .ok (.istore_n 2, 1) := dk_61 (dk_at dksX5_perimeter_2 16 rfl rfl)
theorem dX5_perimeter_63 : decode cX5_perimeter 63 = .ok (.iinc 4 1, 3) := dk_132 4 1 (dk_at dksX5_perimeter_2 17 rfl rfl)
theorem dX5_perimeter_66 : decode cX5_perimeter 66 = .ok (.goto (-52), 3) := dk_167 255 204 (dk_at dksX5_perimeter_2 20 rfl rfl)
theorem dX5_perimeter_69 : decode cX5_perimeter 69 = .ok (.iinc 3 1, 3) := dk_132 3 1 (dk_at dksX5_perimeter_3 0 rfl rfl)
theorem dX5_perimeter_72 : decode cX5_perimeter 72 = .ok (.goto (-68), 3) := dk_167 255 188 (dk_at dksX5_perimeter_3 3 rfl rfl)
theorem dX5_perimeter_75 : decode cX5_perimeter 75 = .ok (.iload_n 2, 1) := dk_28 (dk_at dksX5_perimeter_3 6 rfl rfl)
theorem dX5_perimeter_76 : decode cX5_perimeter 76 = .ok (.ireturn, 1) := dk_172 (dk_at dksX5_perimeter_3 7 rfl rfl)
abbrev cX5_neighbour : ByteArray := prog_5_method_3_code
def yX5_neighbour : MethodName := ⟨RX5, "neighbour", "(II)I"⟩
def dkwX5_neighbour_3 : List UInt8 := [153, 0, 11, 28, 29, 184, 0, 42, 167, 0, 4, 2, 172]
abbrev dktX5_neighbour_3 : List UInt8 := dkwX5_neighbour_3 ++ []
def dkwX5_neighbour_2 : List UInt8 := [62, 28, 133, 9, 20, 0, 36, 184, 0, 38, 153, 0, 23, 29, 133, 9, 20, 0, 36, 184, 0, 38]
abbrev dktX5_neighbour_2 : List UInt8 := dkwX5_neighbour_2 ++ dktX5_neighbour_3
def dkwX5_neighbour_1 : List UInt8 := [26, 184, 0, 33, 27, 5, 160, 0, 7, 4, 167, 0, 13, 27, 6, 160, 0, 7, 2, 167, 0, 4, 3, 96]
abbrev dktX5_neighbour_1 : List UInt8 := dkwX5_neighbour_1 ++ dktX5_neighbour_2
def dkwX5_neighbour_0 : List UInt8 := [26, 184, 0, 29, 27, 154, 0, 7, 4, 167, 0, 13, 27, 4, 160, 0, 7, 2, 167, 0, 4, 3, 96, 61]
abbrev dktX5_neighbour_0 : List UInt8 := dkwX5_neighbour_0 ++ dktX5_neighbour_1
theorem dksX5_neighbour_0 : cX5_neighbour.data.toList.drop 0 = dktX5_neighbour_0 := by decide +kernel
theorem dksX5_neighbour_1 : cX5_neighbour.data.toList.drop 24 = dktX5_neighbour_1 := dk_seg dksX5_neighbour_0 24 rfl rfl
theorem dksX5_neighbour_2 : cX5_neighbour.data.toList.drop 48 = dktX5_neighbour_2 := dk_seg dksX5_neighbour_1 24 rfl rfl
theorem dksX5_neighbour_3 : cX5_neighbour.data.toList.drop 70 = dktX5_neighbour_3 := dk_seg dksX5_neighbour_2 22 rfl rfl
theorem dX5_neighbour_0 : decode cX5_neighbour 0 = .ok (.iload_n 0, 1) := dk_26 (dk_at dksX5_neighbour_0 0 rfl rfl)
theorem dX5_neighbour_1 : decode cX5_neighbour 1 = .ok (.invokestatic 29, 3) := dk_184 0 29 (dk_at dksX5_neighbour_0 1 rfl rfl)
theorem dX5_neighbour_4 : decode cX5_neighbour 4 = .ok (.iload_n 1, 1) := dk_27 (dk_at dksX5_neighbour_0 4 rfl rfl)
theorem dX5_neighbour_5 : decode cX5_neighbour 5 = .ok (.ifCond .ne 7, 3) := dk_154 0 7 (dk_at dksX5_neighbour_0 5 rfl rfl)
theorem dX5_neighbour_8 : decode cX5_neighbour 8 = .ok (.iconst 1, 1) := dk_4 (dk_at dksX5_neighbour_0 8 rfl rfl)
theorem dX5_neighbour_9 : decode cX5_neighbour 9 = .ok (.goto 13, 3) := dk_167 0 13 (dk_at dksX5_neighbour_0 9 rfl rfl)
theorem dX5_neighbour_12 : decode cX5_neighbour 12 = .ok (.iload_n 1, 1) := dk_27 (dk_at dksX5_neighbour_0 12 rfl rfl)
theorem dX5_neighbour_13 : decode cX5_neighbour 13 = .ok (.iconst 1, 1) := dk_4 (dk_at dksX5_neighbour_0 13 rfl rfl)
theorem dX5_neighbour_14 : decode cX5_neighbour 14 = .ok (.if_icmp .ne 7, 3) := dk_160 0 7 (dk_at dksX5_neighbour_0 14 rfl rfl)
theorem dX5_neighbour_17 : decode cX5_neighbour 17 = .ok (.iconst (-1), 1) := dk_2 (dk_at dksX5_neighbour_0 17 rfl rfl)
theorem dX5_neighbour_18 : decode cX5_neighbour 18 = .ok (.goto 4, 3) := dk_167 0 4 (dk_at dksX5_neighbour_0 18 rfl rfl)
theorem dX5_neighbour_21 : decode cX5_neighbour 21 = .ok (.iconst 0, 1) := dk_3 (dk_at dksX5_neighbour_0 21 rfl rfl)
theorem dX5_neighbour_22 : decode cX5_neighbour 22 = .ok (.iadd, 1) := dk_96 (dk_at dksX5_neighbour_0 22 rfl rfl)
theorem dX5_neighbour_23 : decode cX5_neighbour 23 = .ok (.istore_n 2, 1) := dk_61 (dk_at dksX5_neighbour_0 23 rfl rfl)
theorem dX5_neighbour_24 : decode cX5_neighbour 24 = .ok (.iload_n 0, 1) := dk_26 (dk_at dksX5_neighbour_1 0 rfl rfl)
theorem dX5_neighbour_25 : decode cX5_neighbour 25 = .ok (.invokestatic 33, 3) := dk_184 0 33 (dk_at dksX5_neighbour_1 1 rfl rfl)
theorem dX5_neighbour_28 : decode cX5_neighbour 28 = .ok (.iload_n 1, 1) := dk_27 (dk_at dksX5_neighbour_1 4 rfl rfl)
theorem dX5_neighbour_29 : decode cX5_neighbour 29 = .ok (.iconst 2, 1) := dk_5 (dk_at dksX5_neighbour_1 5 rfl rfl)
theorem dX5_neighbour_30 : decode cX5_neighbour 30 = .ok (.if_icmp .ne 7, 3) := dk_160 0 7 (dk_at dksX5_neighbour_1 6 rfl rfl)
theorem dX5_neighbour_33 : decode cX5_neighbour 33 = .ok (.iconst 1, 1) := dk_4 (dk_at dksX5_neighbour_1 9 rfl rfl)
theorem dX5_neighbour_34 : decode cX5_neighbour 34 = .ok (.goto 13, 3) := dk_167 0 13 (dk_at dksX5_neighbour_1 10 rfl rfl)
theorem dX5_neighbour_37 : decode cX5_neighbour 37 = .ok (.iload_n 1, 1) := dk_27 (dk_at dksX5_neighbour_1 13 rfl rfl)
theorem dX5_neighbour_38 : decode cX5_neighbour 38 = .ok (.iconst 3, 1) := dk_6 (dk_at dksX5_neighbour_1 14 rfl rfl)
theorem dX5_neighbour_39 : decode cX5_neighbour 39 = .ok (.if_icmp .ne 7, 3) := dk_160 0 7 (dk_at dksX5_neighbour_1 15 rfl rfl)
theorem dX5_neighbour_42 : decode cX5_neighbour 42 = .ok (.iconst (-1), 1) := dk_2 (dk_at dksX5_neighbour_1 18 rfl rfl)
theorem dX5_neighbour_43 : decode cX5_neighbour 43 = .ok (.goto 4, 3) := dk_167 0 4 (dk_at dksX5_neighbour_1 19 rfl rfl)
theorem dX5_neighbour_46 : decode cX5_neighbour 46 = .ok (.iconst 0, 1) := dk_3 (dk_at dksX5_neighbour_1 22 rfl rfl)
theorem dX5_neighbour_47 : decode cX5_neighbour 47 = .ok (.iadd, 1) := dk_96 (dk_at dksX5_neighbour_1 23 rfl rfl)
theorem dX5_neighbour_48 : decode cX5_neighbour 48 = .ok (.istore_n 3, 1) := dk_62 (dk_at dksX5_neighbour_2 0 rfl rfl)
theorem dX5_neighbour_49 : decode cX5_neighbour 49 = .ok (.iload_n 2, 1) := dk_28 (dk_at dksX5_neighbour_2 1 rfl rfl)
theorem dX5_neighbour_50 : decode cX5_neighbour 50 = .ok (.i2l, 1) := dk_133 (dk_at dksX5_neighbour_2 2 rfl rfl)
theorem dX5_neighbour_51 : decode cX5_neighbour 51 = .ok (.lconst 0, 1) := dk_9 (dk_at dksX5_neighbour_2 3 rfl rfl)
theorem dX5_neighbour_52 : decode cX5_neighbour 52 = .ok (.ldc2_w 36, 3) := dk_20 0 36 (dk_at dksX5_neighbour_2 4 rfl rfl)
theorem dX5_neighbour_55 : decode cX5_neighbour 55 = .ok (.invokestatic 38, 3) := dk_184 0 38 (dk_at dksX5_neighbour_2 7 rfl rfl)
theorem dX5_neighbour_58 : decode cX5_neighbour 58 = .ok (.ifCond .eq 23, 3) := dk_153 0 23 (dk_at dksX5_neighbour_2 10 rfl rfl)
theorem dX5_neighbour_61 : decode cX5_neighbour 61 = .ok (.iload_n 3, 1) := dk_29 (dk_at dksX5_neighbour_2 13 rfl rfl)
theorem dX5_neighbour_62 : decode cX5_neighbour 62 = .ok (.i2l, 1) := dk_133 (dk_at dksX5_neighbour_2 14 rfl rfl)
theorem dX5_neighbour_63 : decode cX5_neighbour 63 = .ok (.lconst 0, 1) := dk_9 (dk_at dksX5_neighbour_2 15 rfl rfl)
theorem dX5_neighbour_64 : decode cX5_neighbour 64 = .ok (.ldc2_w 36, 3) := dk_20 0 36 (dk_at dksX5_neighbour_2 16 rfl rfl)
theorem dX5_neighbour_67 : decode cX5_neighbour 67 = .ok (.invokestatic 38, 3) := dk_184 0 38 (dk_at dksX5_neighbour_2 19 rfl rfl)
theorem dX5_neighbour_70 : decode cX5_neighbour 70 = .ok (.ifCond .eq 11, 3) := dk_153 0 11 (dk_at dksX5_neighbour_3 0 rfl rfl)
theorem dX5_neighbour_73 : decode cX5_neighbour 73 = .ok (.iload_n 2, 1) := dk_28 (dk_at dksX5_neighbour_3 3 rfl rfl)
theorem dX5_neighbour_74 : decode cX5_neighbour 74 = .ok (.iload_n 3, 1) := dk_29 (dk_at dksX5_neighbour_3 4 rfl rfl)
theorem dX5_neighbour_75 : decode cX5_neighbour 75 = .ok (.invokestatic 42, 3) := dk_184 0 42 (dk_at dksX5_neighbour_3 5 rfl rfl)
theorem dX5_neighbour_78 : decode cX5_neighbour 78 = .ok (.goto 4, 3) := dk_167 0 4 (dk_at dksX5_neighbour_3 8 rfl rfl)
theorem dX5_neighbour_81 : decode cX5_neighbour 81 = .ok (.iconst (-1), 1) := dk_2 (dk_at dksX5_neighbour_3 11 rfl rfl)
theorem dX5_neighbour_82 : decode cX5_neighbour 82 = .ok (.ireturn, 1) := dk_172 (dk_at dksX5_neighbour_3 12 rfl rfl)
abbrev cX5_border : ByteArray := prog_5_method_6_code
def yX5_border : MethodName := ⟨RX5, "border", "(II)I"⟩
def dkwX5_border_3 : List UInt8 := [167, 255, 202, 132, 4, 1, 167, 255, 185, 29, 172]
abbrev dktX5_border_3 : List UInt8 := dkwX5_border_3 ++ []
def dkwX5_border_2 : List UInt8 := [159, 0, 18, 42, 180, 0, 9, 21, 6, 51, 28, 160, 0, 7, 4, 167, 0, 4, 3, 96, 62, 132, 5, 1]
abbrev dktX5_border_2 : List UInt8 := dkwX5_border_2 ++ dktX5_border_3
def dkwX5_border_1 : List UInt8 := [180, 0, 9, 21, 4, 51, 27, 160, 0, 43, 21, 4, 21, 5, 184, 0, 46, 54, 6, 29, 21, 6, 2]
abbrev dktX5_border_1 : List UInt8 := dkwX5_border_1 ++ dktX5_border_2
def dkwX5_border_0 : List UInt8 := [3, 62, 3, 54, 4, 21, 4, 17, 3, 132, 162, 0, 69, 3, 54, 5, 21, 5, 7, 162, 0, 54, 42]
abbrev dktX5_border_0 : List UInt8 := dkwX5_border_0 ++ dktX5_border_1
theorem dksX5_border_0 : cX5_border.data.toList.drop 0 = dktX5_border_0 := by decide +kernel
theorem dksX5_border_1 : cX5_border.data.toList.drop 23 = dktX5_border_1 := dk_seg dksX5_border_0 23 rfl rfl
theorem dksX5_border_2 : cX5_border.data.toList.drop 46 = dktX5_border_2 := dk_seg dksX5_border_1 23 rfl rfl
theorem dksX5_border_3 : cX5_border.data.toList.drop 70 = dktX5_border_3 := dk_seg dksX5_border_2 24 rfl rfl
theorem dX5_border_0 : decode cX5_border 0 = .ok (.iconst 0, 1) := dk_3 (dk_at dksX5_border_0 0 rfl rfl)
theorem dX5_border_1 : decode cX5_border 1 = .ok (.istore_n 3, 1) := dk_62 (dk_at dksX5_border_0 1 rfl rfl)
theorem dX5_border_2 : decode cX5_border 2 = .ok (.iconst 0, 1) := dk_3 (dk_at dksX5_border_0 2 rfl rfl)
theorem dX5_border_3 : decode cX5_border 3 = .ok (.istore 4, 2) := dk_54 4 (dk_at dksX5_border_0 3 rfl rfl)
theorem dX5_border_5 : decode cX5_border 5 = .ok (.iload 4, 2) := dk_21 4 (dk_at dksX5_border_0 5 rfl rfl)
theorem dX5_border_7 : decode cX5_border 7 = .ok (.sipush 900, 3) := dk_17 3 132 (dk_at dksX5_border_0 7 rfl rfl)
theorem dX5_border_10 : decode cX5_border 10 = .ok (.if_icmp .ge 69, 3) := dk_162 0 69 (dk_at dksX5_border_0 10 rfl rfl)
theorem dX5_border_13 : decode cX5_border 13 = .ok (.iconst 0, 1) := dk_3 (dk_at dksX5_border_0 13 rfl rfl)
theorem dX5_border_14 : decode cX5_border 14 = .ok (.istore 5, 2) := dk_54 5 (dk_at dksX5_border_0 14 rfl rfl)
theorem dX5_border_16 : decode cX5_border 16 = .ok (.iload 5, 2) := dk_21 5 (dk_at dksX5_border_0 16 rfl rfl)
theorem dX5_border_18 : decode cX5_border 18 = .ok (.iconst 4, 1) := dk_7 (dk_at dksX5_border_0 18 rfl rfl)
theorem dX5_border_19 : decode cX5_border 19 = .ok (.if_icmp .ge 54, 3) := dk_162 0 54 (dk_at dksX5_border_0 19 rfl rfl)
theorem dX5_border_22 : decode cX5_border 22 = .ok (.aload_n 0, 1) := dk_42 (dk_at dksX5_border_0 22 rfl rfl)
theorem dX5_border_23 : decode cX5_border 23 = .ok (.getfield 9, 3) := dk_180 0 9 (dk_at dksX5_border_1 0 rfl rfl)
theorem dX5_border_26 : decode cX5_border 26 = .ok (.iload 4, 2) := dk_21 4 (dk_at dksX5_border_1 3 rfl rfl)
theorem dX5_border_28 : decode cX5_border 28 = .ok (.baload, 1) := dk_51 (dk_at dksX5_border_1 5 rfl rfl)
theorem dX5_border_29 : decode cX5_border 29 = .ok (.iload_n 1, 1) := dk_27 (dk_at dksX5_border_1 6 rfl rfl)
theorem dX5_border_30 : decode cX5_border 30 = .ok (.if_icmp .ne 43, 3) := dk_160 0 43 (dk_at dksX5_border_1 7 rfl rfl)
theorem dX5_border_33 : decode cX5_border 33 = .ok (.iload 4, 2) := dk_21 4 (dk_at dksX5_border_1 10 rfl rfl)
theorem dX5_border_35 : decode cX5_border 35 = .ok (.iload 5, 2) := dk_21 5 (dk_at dksX5_border_1 12 rfl rfl)
theorem dX5_border_37 : decode cX5_border 37 = .ok (.invokestatic 46, 3) := dk_184 0 46 (dk_at dksX5_border_1 14 rfl rfl)
theorem dX5_border_40 : decode cX5_border 40 = .ok (.istore 6, 2) := dk_54 6 (dk_at dksX5_border_1 17 rfl rfl)
theorem dX5_border_42 : decode cX5_border 42 = .ok (.iload_n 3, 1) := dk_29 (dk_at dksX5_border_1 19 rfl rfl)
theorem dX5_border_43 : decode cX5_border 43 = .ok (.iload 6, 2) := dk_21 6 (dk_at dksX5_border_1 20 rfl rfl)
theorem dX5_border_45 : decode cX5_border 45 = .ok (.iconst (-1), 1) := dk_2 (dk_at dksX5_border_1 22 rfl rfl)
theorem dX5_border_46 : decode cX5_border 46 = .ok (.if_icmp .eq 18, 3) := dk_159 0 18 (dk_at dksX5_border_2 0 rfl rfl)
theorem dX5_border_49 : decode cX5_border 49 = .ok (.aload_n 0, 1) := dk_42 (dk_at dksX5_border_2 3 rfl rfl)
theorem dX5_border_50 : decode cX5_border 50 = .ok (.getfield 9, 3) := dk_180 0 9 (dk_at dksX5_border_2 4 rfl rfl)
theorem dX5_border_53 : decode cX5_border 53 = .ok (.iload 6, 2) := dk_21 6 (dk_at dksX5_border_2 7 rfl rfl)
theorem dX5_border_55 : decode cX5_border 55 = .ok (.baload, 1) := dk_51 (dk_at dksX5_border_2 9 rfl rfl)
theorem dX5_border_56 : decode cX5_border 56 = .ok (.iload_n 2, 1) := dk_28 (dk_at dksX5_border_2 10 rfl rfl)
theorem dX5_border_57 : decode cX5_border 57 = .ok (.if_icmp .ne 7, 3) := dk_160 0 7 (dk_at dksX5_border_2 11 rfl rfl)
theorem dX5_border_60 : decode cX5_border 60 = .ok (.iconst 1, 1) := dk_4 (dk_at dksX5_border_2 14 rfl rfl)
theorem dX5_border_61 : decode cX5_border 61 = .ok (.goto 4, 3) := dk_167 0 4 (dk_at dksX5_border_2 15 rfl rfl)
theorem dX5_border_64 : decode cX5_border 64 = .ok (.iconst 0, 1) := dk_3 (dk_at dksX5_border_2 18 rfl rfl)
theorem dX5_border_65 : decode cX5_border 65 = .ok (.iadd, 1) := dk_96 (dk_at dksX5_border_2 19 rfl rfl)
theorem dX5_border_66 : decode cX5_border 66 = .ok (.istore_n 3, 1) := dk_62 (dk_at dksX5_border_2 20 rfl rfl)
theorem dX5_border_67 : decode cX5_border 67 = .ok (.iinc 5 1, 3) := dk_132 5 1 (dk_at dksX5_border_2 21 rfl rfl)
theorem dX5_border_70 : decode cX5_border 70 = .ok (.goto (-54), 3) := dk_167 255 202 (dk_at dksX5_border_3 0 rfl rfl)
theorem dX5_border_73 : decode cX5_border 73 = .ok (.iinc 4 1, 3) := dk_132 4 1 (dk_at dksX5_border_3 3 rfl rfl)
theorem dX5_border_76 : decode cX5_border 76 = .ok (.goto (-71), 3) := dk_167 255 185 (dk_at dksX5_border_3 6 rfl rfl)
theorem dX5_border_79 : decode cX5_border 79 = .ok (.iload_n 3, 1) := dk_29 (dk_at dksX5_border_3 9 rfl rfl)
theorem dX5_border_80 : decode cX5_border 80 = .ok (.ireturn, 1) := dk_172 (dk_at dksX5_border_3 10 rfl rfl)
abbrev cX5_isConnected : ByteArray := prog_5_method_8_code
def yX5_isConnected : MethodName := ⟨RX5, "isConnected", "(I)Z"⟩
def dkwX5_isConnected_6 : List UInt8 := [167, 255, 169, 29, 42, 27, 182, 0, 52, 160, 0, 7, 4, 167, 0, 4, 3, 172]
abbrev dktX5_isConnected_6 : List UInt8 := dkwX5_isConnected_6 ++ []
def dkwX5_isConnected_5 : List UInt8 := [21, 6, 4, 84, 42, 180, 0, 15, 29, 21, 6, 79, 132, 3, 1, 132, 5, 1, 167, 255, 184, 132, 4, 1]
abbrev dktX5_isConnected_5 : List UInt8 := dkwX5_isConnected_5 ++ dktX5_isConnected_6
def dkwX5_isConnected_4 : List UInt8 := [21, 6, 51, 154, 0, 36, 42, 180, 0, 9, 21, 6, 51, 27, 159, 0, 6, 167, 0, 22, 42, 180, 0, 19]
abbrev dktX5_isConnected_4 : List UInt8 := dkwX5_isConnected_4 ++ dktX5_isConnected_5
def dkwX5_isConnected_3 : List UInt8 := [42, 180, 0, 15, 21, 4, 46, 21, 5, 184, 0, 46, 54, 6, 21, 6, 2, 159, 0, 46, 42, 180, 0, 19]
abbrev dktX5_isConnected_3 : List UInt8 := dkwX5_isConnected_3 ++ dktX5_isConnected_4
def dkwX5_isConnected_2 : List UInt8 := [180, 0, 19, 28, 4, 84, 3, 54, 4, 21, 4, 29, 162, 0, 87, 3, 54, 5, 21, 5, 7, 162, 0, 72]
abbrev dktX5_isConnected_2 : List UInt8 := dkwX5_isConnected_2 ++ dktX5_isConnected_3
def dkwX5_isConnected_1 : List UInt8 := [180, 0, 19, 29, 3, 84, 132, 3, 1, 167, 255, 239, 4, 62, 42, 180, 0, 15, 3, 28, 79, 42]
abbrev dktX5_isConnected_1 : List UInt8 := dkwX5_isConnected_1 ++ dktX5_isConnected_2
def dkwX5_isConnected_0 : List UInt8 := [42, 27, 182, 0, 49, 61, 28, 2, 160, 0, 5, 3, 172, 3, 62, 29, 17, 3, 132, 162, 0, 16, 42]
abbrev dktX5_isConnected_0 : List UInt8 := dkwX5_isConnected_0 ++ dktX5_isConnected_1
theorem dksX5_isConnected_0 : cX5_isConnected.data.toList.drop 0 = dktX5_isConnected_0 := by decide +kernel
theorem dksX5_isConnected_1 : cX5_isConnected.data.toList.drop 23 = dktX5_isConnected_1 := dk_seg dksX5_isConnected_0 23 rfl rfl
theorem dksX5_isConnected_2 : cX5_isConnected.data.toList.drop 45 = dktX5_isConnected_2 := dk_seg dksX5_isConnected_1 22 rfl rfl
theorem dksX5_isConnected_3 : cX5_isConnected.data.toList.drop 69 = dktX5_isConnected_3 := dk_seg dksX5_isConnected_2 24 rfl rfl
theorem dksX5_isConnected_4 : cX5_isConnected.data.toList.drop 93 = dktX5_isConnected_4 := dk_seg dksX5_isConnected_3 24 rfl rfl
theorem dksX5_isConnected_5 : cX5_isConnected.data.toList.drop 117 = dktX5_isConnected_5 := dk_seg dksX5_isConnected_4 24 rfl rfl
theorem dksX5_isConnected_6 : cX5_isConnected.data.toList.drop 141 = dktX5_isConnected_6 := dk_seg dksX5_isConnected_5 24 rfl rfl
theorem dX5_isConnected_0 : decode cX5_isConnected 0 = .ok (.aload_n 0, 1) := dk_42 (dk_at dksX5_isConnected_0 0 rfl rfl)
theorem dX5_isConnected_1 : decode cX5_isConnected 1 = .ok (.iload_n 1, 1) := dk_27 (dk_at dksX5_isConnected_0 1 rfl rfl)
theorem dX5_isConnected_2 : decode cX5_isConnected 2 = .ok (.invokevirtual 49, 3) := dk_182 0 49 (dk_at dksX5_isConnected_0 2 rfl rfl)
theorem dX5_isConnected_5 : decode cX5_isConnected 5 = .ok (.istore_n 2, 1) := dk_61 (dk_at dksX5_isConnected_0 5 rfl rfl)
theorem dX5_isConnected_6 : decode cX5_isConnected 6 = .ok (.iload_n 2, 1) := dk_28 (dk_at dksX5_isConnected_0 6 rfl rfl)
theorem dX5_isConnected_7 : decode cX5_isConnected 7 = .ok (.iconst (-1), 1) := dk_2 (dk_at dksX5_isConnected_0 7 rfl rfl)
theorem dX5_isConnected_8 : decode cX5_isConnected 8 = .ok (.if_icmp .ne 5, 3) := dk_160 0 5 (dk_at dksX5_isConnected_0 8 rfl rfl)
theorem dX5_isConnected_11 : decode cX5_isConnected 11 = .ok (.iconst 0, 1) := dk_3 (dk_at dksX5_isConnected_0 11 rfl rfl)
theorem dX5_isConnected_12 : decode cX5_isConnected 12 = .ok (.ireturn, 1) := dk_172 (dk_at dksX5_isConnected_0 12 rfl rfl)
theorem dX5_isConnected_13 : decode cX5_isConnected 13 = .ok (.iconst 0, 1) := dk_3 (dk_at dksX5_isConnected_0 13 rfl rfl)
theorem dX5_isConnected_14 : decode cX5_isConnected 14 = .ok (.istore_n 3, 1) := dk_62 (dk_at dksX5_isConnected_0 14 rfl rfl)
theorem dX5_isConnected_15 : decode cX5_isConnected 15 = .ok (.iload_n 3, 1) := dk_29 (dk_at dksX5_isConnected_0 15 rfl rfl)
theorem dX5_isConnected_16 : decode cX5_isConnected 16 = .ok (.sipush 900, 3) := dk_17 3 132 (dk_at dksX5_isConnected_0 16 rfl rfl)
theorem dX5_isConnected_19 : decode cX5_isConnected 19 = .ok (.if_icmp .ge 16, 3) := dk_162 0 16 (dk_at dksX5_isConnected_0 19 rfl rfl)
theorem dX5_isConnected_22 : decode cX5_isConnected 22 = .ok (.aload_n 0, 1) := dk_42 (dk_at dksX5_isConnected_0 22 rfl rfl)
theorem dX5_isConnected_23 : decode cX5_isConnected 23 = .ok (.getfield 19, 3) := dk_180 0 19 (dk_at dksX5_isConnected_1 0 rfl rfl)
theorem dX5_isConnected_26 : decode cX5_isConnected 26 = .ok (.iload_n 3, 1) := dk_29 (dk_at dksX5_isConnected_1 3 rfl rfl)
theorem dX5_isConnected_27 : decode cX5_isConnected 27 = .ok (.iconst 0, 1) := dk_3 (dk_at dksX5_isConnected_1 4 rfl rfl)
theorem dX5_isConnected_28 : decode cX5_isConnected 28 = .ok (.bastore, 1) := dk_84 (dk_at dksX5_isConnected_1 5 rfl rfl)
theorem dX5_isConnected_29 : decode cX5_isConnected 29 = .ok (.iinc 3 1, 3) := dk_132 3 1 (dk_at dksX5_isConnected_1 6 rfl rfl)
theorem dX5_isConnected_32 : decode cX5_isConnected 32 = .ok (.goto (-17), 3) := dk_167 255 239 (dk_at dksX5_isConnected_1 9 rfl rfl)
theorem dX5_isConnected_35 : decode cX5_isConnected 35 = .ok (.iconst 1, 1) := dk_4 (dk_at dksX5_isConnected_1 12 rfl rfl)
theorem dX5_isConnected_36 : decode cX5_isConnected 36 = .ok (.istore_n 3, 1) := dk_62 (dk_at dksX5_isConnected_1 13 rfl rfl)
theorem dX5_isConnected_37 : decode cX5_isConnected 37 = .ok (.aload_n 0, 1) := dk_42 (dk_at dksX5_isConnected_1 14 rfl rfl)
theorem dX5_isConnected_38 : decode cX5_isConnected 38 = .ok (.getfield 15, 3) := dk_180 0 15 (dk_at dksX5_isConnected_1 15 rfl rfl)
theorem dX5_isConnected_41 : decode cX5_isConnected 41 = .ok (.iconst 0, 1) := dk_3 (dk_at dksX5_isConnected_1 18 rfl rfl)
theorem dX5_isConnected_42 : decode cX5_isConnected 42 = .ok (.iload_n 2, 1) := dk_28 (dk_at dksX5_isConnected_1 19 rfl rfl)
theorem dX5_isConnected_43 : decode cX5_isConnected 43 = .ok (.iastore, 1) := dk_79 (dk_at dksX5_isConnected_1 20 rfl rfl)
theorem dX5_isConnected_44 : decode cX5_isConnected 44 = .ok (.aload_n 0, 1) := dk_42 (dk_at dksX5_isConnected_1 21 rfl rfl)
theorem dX5_isConnected_45 : decode cX5_isConnected 45 = .ok (.getfield 19, 3) := dk_180 0 19 (dk_at dksX5_isConnected_2 0 rfl rfl)
theorem dX5_isConnected_48 : decode cX5_isConnected 48 = .ok (.iload_n 2, 1) := dk_28 (dk_at dksX5_isConnected_2 3 rfl rfl)
theorem dX5_isConnected_49 : decode cX5_isConnected 49 = .ok (.iconst 1, 1) := dk_4 (dk_at dksX5_isConnected_2 4 rfl rfl)
theorem dX5_isConnected_50 : decode cX5_isConnected 50 = .ok (.bastore, 1) := dk_84 (dk_at dksX5_isConnected_2 5 rfl rfl)
theorem dX5_isConnected_51 : decode cX5_isConnected 51 = .ok (.iconst 0, 1) := dk_3 (dk_at dksX5_isConnected_2 6 rfl rfl)
theorem dX5_isConnected_52 : decode cX5_isConnected 52 = .ok (.istore 4, 2) := dk_54 4 (dk_at dksX5_isConnected_2 7 rfl rfl)
theorem dX5_isConnected_54 : decode cX5_isConnected 54 = .ok (.iload 4, 2) := dk_21 4 (dk_at dksX5_isConnected_2 9 rfl rfl)
theorem dX5_isConnected_56 : decode cX5_isConnected 56 = .ok (.iload_n 3, 1) := dk_29 (dk_at dksX5_isConnected_2 11 rfl rfl)
theorem dX5_isConnected_57 : decode cX5_isConnected 57 = .ok (.if_icmp .ge 87, 3) := dk_162 0 87 (dk_at dksX5_isConnected_2 12 rfl rfl)
theorem dX5_isConnected_60 : decode cX5_isConnected 60 = .ok (.iconst 0, 1) := dk_3 (dk_at dksX5_isConnected_2 15 rfl rfl)
theorem dX5_isConnected_61 : decode cX5_isConnected 61 = .ok (.istore 5, 2) := dk_54 5 (dk_at dksX5_isConnected_2 16 rfl rfl)
theorem dX5_isConnected_63 : decode cX5_isConnected 63 = .ok (.iload 5, 2) := dk_21 5 (dk_at dksX5_isConnected_2 18 rfl rfl)
theorem dX5_isConnected_65 : decode cX5_isConnected 65 = .ok (.iconst 4, 1) := dk_7 (dk_at dksX5_isConnected_2 20 rfl rfl)
theorem dX5_isConnected_66 : decode cX5_isConnected 66 = .ok (.if_icmp .ge 72, 3) := dk_162 0 72 (dk_at dksX5_isConnected_2 21 rfl rfl)
theorem dX5_isConnected_69 : decode cX5_isConnected 69 = .ok (.aload_n 0, 1) := dk_42 (dk_at dksX5_isConnected_3 0 rfl rfl)
theorem dX5_isConnected_70 : decode cX5_isConnected 70 = .ok (.getfield 15, 3) := dk_180 0 15 (dk_at dksX5_isConnected_3 1 rfl rfl)
theorem dX5_isConnected_73 : decode cX5_isConnected 73 = .ok (.iload 4, 2) := dk_21 4 (dk_at dksX5_isConnected_3 4 rfl rfl)
theorem dX5_isConnected_75 : decode cX5_isConnected 75 = .ok (.iaload, 1) := dk_46 (dk_at dksX5_isConnected_3 6 rfl rfl)
theorem dX5_isConnected_76 : decode cX5_isConnected 76 = .ok (.iload 5, 2) := dk_21 5 (dk_at dksX5_isConnected_3 7 rfl rfl)
theorem dX5_isConnected_78 : decode cX5_isConnected 78 = .ok (.invokestatic 46, 3) := dk_184 0 46 (dk_at dksX5_isConnected_3 9 rfl rfl)
theorem dX5_isConnected_81 : decode cX5_isConnected 81 = .ok (.istore 6, 2) := dk_54 6 (dk_at dksX5_isConnected_3 12 rfl rfl)
theorem dX5_isConnected_83 : decode cX5_isConnected 83 = .ok (.iload 6, 2) := dk_21 6 (dk_at dksX5_isConnected_3 14 rfl rfl)
theorem dX5_isConnected_85 : decode cX5_isConnected 85 = .ok (.iconst (-1), 1) := dk_2 (dk_at dksX5_isConnected_3 16 rfl rfl)
theorem dX5_isConnected_86 : decode cX5_isConnected 86 = .ok (.if_icmp .eq 46, 3) := dk_159 0 46 (dk_at dksX5_isConnected_3 17 rfl rfl)
theorem dX5_isConnected_89 : decode cX5_isConnected 89 = .ok (.aload_n 0, 1) := dk_42 (dk_at dksX5_isConnected_3 20 rfl rfl)
theorem dX5_isConnected_90 : decode cX5_isConnected 90 = .ok (.getfield 19, 3) := dk_180 0 19 (dk_at dksX5_isConnected_3 21 rfl rfl)
theorem dX5_isConnected_93 : decode cX5_isConnected 93 = .ok (.iload 6, 2) := dk_21 6 (dk_at dksX5_isConnected_4 0 rfl rfl)
theorem dX5_isConnected_95 : decode cX5_isConnected 95 = .ok (.baload, 1) := dk_51 (dk_at dksX5_isConnected_4 2 rfl rfl)
theorem dX5_isConnected_96 : decode cX5_isConnected 96 = .ok (.ifCond .ne 36, 3) := dk_154 0 36 (dk_at dksX5_isConnected_4 3 rfl rfl)
theorem dX5_isConnected_99 : decode cX5_isConnected 99 = .ok (.aload_n 0, 1) := dk_42 (dk_at dksX5_isConnected_4 6 rfl rfl)
theorem dX5_isConnected_100 : decode cX5_isConnected 100 = .ok (.getfield 9, 3) := dk_180 0 9 (dk_at dksX5_isConnected_4 7 rfl rfl)
theorem dX5_isConnected_103 : decode cX5_isConnected 103 = .ok (.iload 6, 2) := dk_21 6 (dk_at dksX5_isConnected_4 10 rfl rfl)
theorem dX5_isConnected_105 : decode cX5_isConnected 105 = .ok (.baload, 1) := dk_51 (dk_at dksX5_isConnected_4 12 rfl rfl)
theorem dX5_isConnected_106 : decode cX5_isConnected 106 = .ok (.iload_n 1, 1) := dk_27 (dk_at dksX5_isConnected_4 13 rfl rfl)
theorem dX5_isConnected_107 : decode cX5_isConnected 107 = .ok (.if_icmp .eq 6, 3) := dk_159 0 6 (dk_at dksX5_isConnected_4 14 rfl rfl)
theorem dX5_isConnected_110 : decode cX5_isConnected 110 = .ok (.goto 22, 3) := dk_167 0 22 (dk_at dksX5_isConnected_4 17 rfl rfl)
theorem dX5_isConnected_113 : decode cX5_isConnected 113 = .ok (.aload_n 0, 1) := dk_42 (dk_at dksX5_isConnected_4 20 rfl rfl)
theorem dX5_isConnected_114 : decode cX5_isConnected 114 = .ok (.getfield 19, 3) := dk_180 0 19 (dk_at dksX5_isConnected_4 21 rfl rfl)
theorem dX5_isConnected_117 : decode cX5_isConnected 117 = .ok (.iload 6, 2) := dk_21 6 (dk_at dksX5_isConnected_5 0 rfl rfl)
theorem dX5_isConnected_119 : decode cX5_isConnected 119 = .ok (.iconst 1, 1) := dk_4 (dk_at dksX5_isConnected_5 2 rfl rfl)
theorem dX5_isConnected_120 : decode cX5_isConnected 120 = .ok (.bastore, 1) := dk_84 (dk_at dksX5_isConnected_5 3 rfl rfl)
theorem dX5_isConnected_121 : decode cX5_isConnected 121 = .ok (.aload_n 0, 1) := dk_42 (dk_at dksX5_isConnected_5 4 rfl rfl)
theorem dX5_isConnected_122 : decode cX5_isConnected 122 = .ok (.getfield 15, 3) := dk_180 0 15 (dk_at dksX5_isConnected_5 5 rfl rfl)
theorem dX5_isConnected_125 : decode cX5_isConnected 125 = .ok (.iload_n 3, 1) := dk_29 (dk_at dksX5_isConnected_5 8 rfl rfl)
theorem dX5_isConnected_126 : decode cX5_isConnected 126 = .ok (.iload 6, 2) := dk_21 6 (dk_at dksX5_isConnected_5 9 rfl rfl)
theorem dX5_isConnected_128 : decode cX5_isConnected 128 = .ok (.iastore, 1) := dk_79 (dk_at dksX5_isConnected_5 11 rfl rfl)
theorem dX5_isConnected_129 : decode cX5_isConnected 129 = .ok (.iinc 3 1, 3) := dk_132 3 1 (dk_at dksX5_isConnected_5 12 rfl rfl)
theorem dX5_isConnected_132 : decode cX5_isConnected 132 = .ok (.iinc 5 1, 3) := dk_132 5 1 (dk_at dksX5_isConnected_5 15 rfl rfl)
theorem dX5_isConnected_135 : decode cX5_isConnected 135 = .ok (.goto (-72), 3) := dk_167 255 184 (dk_at dksX5_isConnected_5 18 rfl rfl)
theorem dX5_isConnected_138 : decode cX5_isConnected 138 = .ok (.iinc 4 1, 3) := dk_132 4 1 (dk_at dksX5_isConnected_5 21 rfl rfl)
theorem dX5_isConnected_141 : decode cX5_isConnected 141 = .ok (.goto (-87), 3) := dk_167 255 169 (dk_at dksX5_isConnected_6 0 rfl rfl)
theorem dX5_isConnected_144 : decode cX5_isConnected 144 = .ok (.iload_n 3, 1) := dk_29 (dk_at dksX5_isConnected_6 3 rfl rfl)
theorem dX5_isConnected_145 : decode cX5_isConnected 145 = .ok (.aload_n 0, 1) := dk_42 (dk_at dksX5_isConnected_6 4 rfl rfl)
theorem dX5_isConnected_146 : decode cX5_isConnected 146 = .ok (.iload_n 1, 1) := dk_27 (dk_at dksX5_isConnected_6 5 rfl rfl)
theorem dX5_isConnected_147 : decode cX5_isConnected 147 = .ok (.invokevirtual 52, 3) := dk_182 0 52 (dk_at dksX5_isConnected_6 6 rfl rfl)
theorem dX5_isConnected_150 : decode cX5_isConnected 150 = .ok (.if_icmp .ne 7, 3) := dk_160 0 7 (dk_at dksX5_isConnected_6 9 rfl rfl)
theorem dX5_isConnected_153 : decode cX5_isConnected 153 = .ok (.iconst 1, 1) := dk_4 (dk_at dksX5_isConnected_6 12 rfl rfl)
theorem dX5_isConnected_154 : decode cX5_isConnected 154 = .ok (.goto 4, 3) := dk_167 0 4 (dk_at dksX5_isConnected_6 13 rfl rfl)
theorem dX5_isConnected_157 : decode cX5_isConnected 157 = .ok (.iconst 0, 1) := dk_3 (dk_at dksX5_isConnected_6 16 rfl rfl)
theorem dX5_isConnected_158 : decode cX5_isConnected 158 = .ok (.ireturn, 1) := dk_172 (dk_at dksX5_isConnected_6 17 rfl rfl)
abbrev cX5_first : ByteArray := prog_5_method_7_code
def yX5_first : MethodName := ⟨RX5, "first", "(I)I"⟩
def dkwX5_first_1 : List UInt8 := [167, 255, 234, 2, 172]
abbrev dktX5_first_1 : List UInt8 := dkwX5_first_1 ++ []
def dkwX5_first_0 : List UInt8 := [3, 61, 28, 17, 3, 132, 162, 0, 21, 42, 180, 0, 9, 28, 51, 27, 160, 0, 5, 28, 172, 132, 2, 1]
abbrev dktX5_first_0 : List UInt8 := dkwX5_first_0 ++ dktX5_first_1
theorem dksX5_first_0 : cX5_first.data.toList.drop 0 = dktX5_first_0 := by decide +kernel
theorem dksX5_first_1 : cX5_first.data.toList.drop 24 = dktX5_first_1 := dk_seg dksX5_first_0 24 rfl rfl
theorem dX5_first_0 : decode cX5_first 0 = .ok (.iconst 0, 1) := dk_3 (dk_at dksX5_first_0 0 rfl rfl)
theorem dX5_first_1 : decode cX5_first 1 = .ok (.istore_n 2, 1) := dk_61 (dk_at dksX5_first_0 1 rfl rfl)
theorem dX5_first_2 : decode cX5_first 2 = .ok (.iload_n 2, 1) := dk_28 (dk_at dksX5_first_0 2 rfl rfl)
theorem dX5_first_3 : decode cX5_first 3 = .ok (.sipush 900, 3) := dk_17 3 132 (dk_at dksX5_first_0 3 rfl rfl)
theorem dX5_first_6 : decode cX5_first 6 = .ok (.if_icmp .ge 21, 3) := dk_162 0 21 (dk_at dksX5_first_0 6 rfl rfl)
theorem dX5_first_9 : decode cX5_first 9 = .ok (.aload_n 0, 1) := dk_42 (dk_at dksX5_first_0 9 rfl rfl)
theorem dX5_first_10 : decode cX5_first 10 = .ok (.getfield 9, 3) := dk_180 0 9 (dk_at dksX5_first_0 10 rfl rfl)
theorem dX5_first_13 : decode cX5_first 13 = .ok (.iload_n 2, 1) := dk_28 (dk_at dksX5_first_0 13 rfl rfl)
theorem dX5_first_14 : decode cX5_first 14 = .ok (.baload, 1) := dk_51 (dk_at dksX5_first_0 14 rfl rfl)
theorem dX5_first_15 : decode cX5_first 15 = .ok (.iload_n 1, 1) := dk_27 (dk_at dksX5_first_0 15 rfl rfl)
theorem dX5_first_16 : decode cX5_first 16 = .ok (.if_icmp .ne 5, 3) := dk_160 0 5 (dk_at dksX5_first_0 16 rfl rfl)
theorem dX5_first_19 : decode cX5_first 19 = .ok (.iload_n 2, 1) := dk_28 (dk_at dksX5_first_0 19 rfl rfl)
theorem dX5_first_20 : decode cX5_first 20 = .ok (.ireturn, 1) := dk_172 (dk_at dksX5_first_0 20 rfl rfl)
theorem dX5_first_21 : decode cX5_first 21 = .ok (.iinc 2 1, 3) := dk_132 2 1 (dk_at dksX5_first_0 21 rfl rfl)
theorem dX5_first_24 : decode cX5_first 24 = .ok (.goto (-22), 3) := dk_167 255 234 (dk_at dksX5_first_1 0 rfl rfl)
theorem dX5_first_27 : decode cX5_first 27 = .ok (.iconst (-1), 1) := dk_2 (dk_at dksX5_first_1 3 rfl rfl)
theorem dX5_first_28 : decode cX5_first 28 = .ok (.ireturn, 1) := dk_172 (dk_at dksX5_first_1 4 rfl rfl)
abbrev cX5_distanceTo : ByteArray := prog_5_method_9_code
def yX5_distanceTo : MethodName := ⟨RX5, "distanceTo", "(II)I"⟩
def dkwX5_distanceTo_2 : List UInt8 := [160, 0, 7, 2, 167, 0, 4, 29, 172]
abbrev dktX5_distanceTo_2 : List UInt8 := dkwX5_distanceTo_2 ++ []
def dkwX5_distanceTo_1 : List UInt8 := [160, 0, 14, 29, 21, 4, 28, 184, 0, 55, 184, 0, 58, 62, 132, 4, 1, 167, 255, 223, 29, 17, 3, 232]
abbrev dktX5_distanceTo_1 : List UInt8 := dkwX5_distanceTo_1 ++ dktX5_distanceTo_2
def dkwX5_distanceTo_0 : List UInt8 := [17, 3, 232, 62, 3, 54, 4, 21, 4, 17, 3, 132, 162, 0, 31, 42, 180, 0, 9, 21, 4, 51, 27]
abbrev dktX5_distanceTo_0 : List UInt8 := dkwX5_distanceTo_0 ++ dktX5_distanceTo_1
theorem dksX5_distanceTo_0 : cX5_distanceTo.data.toList.drop 0 = dktX5_distanceTo_0 := by decide +kernel
theorem dksX5_distanceTo_1 : cX5_distanceTo.data.toList.drop 23 = dktX5_distanceTo_1 := dk_seg dksX5_distanceTo_0 23 rfl rfl
theorem dksX5_distanceTo_2 : cX5_distanceTo.data.toList.drop 47 = dktX5_distanceTo_2 := dk_seg dksX5_distanceTo_1 24 rfl rfl
theorem dX5_distanceTo_0 : decode cX5_distanceTo 0 = .ok (.sipush 1000, 3) := dk_17 3 232 (dk_at dksX5_distanceTo_0 0 rfl rfl)
theorem dX5_distanceTo_3 : decode cX5_distanceTo 3 = .ok (.istore_n 3, 1) := dk_62 (dk_at dksX5_distanceTo_0 3 rfl rfl)
theorem dX5_distanceTo_4 : decode cX5_distanceTo 4 = .ok (.iconst 0, 1) := dk_3 (dk_at dksX5_distanceTo_0 4 rfl rfl)
theorem dX5_distanceTo_5 : decode cX5_distanceTo 5 = .ok (.istore 4, 2) := dk_54 4 (dk_at dksX5_distanceTo_0 5 rfl rfl)
theorem dX5_distanceTo_7 : decode cX5_distanceTo 7 = .ok (.iload 4, 2) := dk_21 4 (dk_at dksX5_distanceTo_0 7 rfl rfl)
theorem dX5_distanceTo_9 : decode cX5_distanceTo 9 = .ok (.sipush 900, 3) := dk_17 3 132 (dk_at dksX5_distanceTo_0 9 rfl rfl)
theorem dX5_distanceTo_12 : decode cX5_distanceTo 12 = .ok (.if_icmp .ge 31, 3) := dk_162 0 31 (dk_at dksX5_distanceTo_0 12 rfl rfl)
theorem dX5_distanceTo_15 : decode cX5_distanceTo 15 = .ok (.aload_n 0, 1) := dk_42 (dk_at dksX5_distanceTo_0 15 rfl rfl)
theorem dX5_distanceTo_16 : decode cX5_distanceTo 16 = .ok (.getfield 9, 3) := dk_180 0 9 (dk_at dksX5_distanceTo_0 16 rfl rfl)
theorem dX5_distanceTo_19 : decode cX5_distanceTo 19 = .ok (.iload 4, 2) := dk_21 4 (dk_at dksX5_distanceTo_0 19 rfl rfl)
theorem dX5_distanceTo_21 : decode cX5_distanceTo 21 = .ok (.baload, 1) := dk_51 (dk_at dksX5_distanceTo_0 21 rfl rfl)
theorem dX5_distanceTo_22 : decode cX5_distanceTo 22 = .ok (.iload_n 1, 1) := dk_27 (dk_at dksX5_distanceTo_0 22 rfl rfl)
theorem dX5_distanceTo_23 : decode cX5_distanceTo 23 = .ok (.if_icmp .ne 14, 3) := dk_160 0 14 (dk_at dksX5_distanceTo_1 0 rfl rfl)
theorem dX5_distanceTo_26 : decode cX5_distanceTo 26 = .ok (.iload_n 3, 1) := dk_29 (dk_at dksX5_distanceTo_1 3 rfl rfl)
theorem dX5_distanceTo_27 : decode cX5_distanceTo 27 = .ok (.iload 4, 2) := dk_21 4 (dk_at dksX5_distanceTo_1 4 rfl rfl)
theorem dX5_distanceTo_29 : decode cX5_distanceTo 29 = .ok (.iload_n 2, 1) := dk_28 (dk_at dksX5_distanceTo_1 6 rfl rfl)
theorem dX5_distanceTo_30 : decode cX5_distanceTo 30 = .ok (.invokestatic 55, 3) := dk_184 0 55 (dk_at dksX5_distanceTo_1 7 rfl rfl)
theorem dX5_distanceTo_33 : decode cX5_distanceTo 33 = .ok (.invokestatic 58, 3) := dk_184 0 58 (dk_at dksX5_distanceTo_1 10 rfl rfl)
theorem dX5_distanceTo_36 : decode cX5_distanceTo 36 = .ok (.istore_n 3, 1) := dk_62 (dk_at dksX5_distanceTo_1 13 rfl rfl)
theorem dX5_distanceTo_37 : decode cX5_distanceTo 37 = .ok (.iinc 4 1, 3) := dk_132 4 1 (dk_at dksX5_distanceTo_1 14 rfl rfl)
theorem dX5_distanceTo_40 : decode cX5_distanceTo 40 = .ok (.goto (-33), 3) := dk_167 255 223 (dk_at dksX5_distanceTo_1 17 rfl rfl)
theorem dX5_distanceTo_43 : decode cX5_distanceTo 43 = .ok (.iload_n 3, 1) := dk_29 (dk_at dksX5_distanceTo_1 20 rfl rfl)
theorem dX5_distanceTo_44 : decode cX5_distanceTo 44 = .ok (.sipush 1000, 3) := dk_17 3 232 (dk_at dksX5_distanceTo_1 21 rfl rfl)
theorem dX5_distanceTo_47 : decode cX5_distanceTo 47 = .ok (.if_icmp .ne 7, 3) := dk_160 0 7 (dk_at dksX5_distanceTo_2 0 rfl rfl)
theorem dX5_distanceTo_50 : decode cX5_distanceTo 50 = .ok (.iconst (-1), 1) := dk_2 (dk_at dksX5_distanceTo_2 3 rfl rfl)
theorem dX5_distanceTo_51 : decode cX5_distanceTo 51 = .ok (.goto 4, 3) := dk_167 0 4 (dk_at dksX5_distanceTo_2 4 rfl rfl)
theorem dX5_distanceTo_54 : decode cX5_distanceTo 54 = .ok (.iload_n 3, 1) := dk_29 (dk_at dksX5_distanceTo_2 7 rfl rfl)
theorem dX5_distanceTo_55 : decode cX5_distanceTo 55 = .ok (.ireturn, 1) := dk_172 (dk_at dksX5_distanceTo_2 8 rfl rfl)
theorem q153 : (Jvm.Cond.initialized "FranchiseLedger$Grid") ∈ lw_all := lw_g (lw_at lw_m1 25 rfl) rfl
theorem q608 : (Jvm.Cond.instantiable "FranchiseLedger$Grid" (3 : Nat)) ∈ lw_all := lw_g (lw_at lw_m3 0 rfl) rfl
theorem q610 : (Jvm.Cond.instanceMethod ({ cls := "FranchiseLedger$Grid", name := "<init>", desc := "()V" } : Jvm.MethodName)) ∈ lw_all := lw_g (lw_at lw_m3 2 rfl) rfl
theorem q611 : (Jvm.Cond.code ({ cls := "FranchiseLedger$Grid", name := "<init>", desc := "()V" } : Jvm.MethodName) prog_5_method_1_code (2 : Nat) (Option.none : Option Jvm.ClassFile.FieldType)) ∈ lw_all := lw_g (lw_at lw_m3 3 rfl) rfl
theorem q612 : (Jvm.Cond.methodLink "FranchiseLedger$Grid" (3 : Nat) ({ cls := "java/lang/Object", name := "<init>", desc := "()V" } : Jvm.MethodName)) ∈ lw_all := lw_g (lw_at lw_m3 4 rfl) rfl
theorem q613 : (Jvm.Cond.fieldLink "FranchiseLedger$Grid" (9 : Nat) "FranchiseLedger$Grid" "owners" "[B") ∈ lw_all := lw_g (lw_at lw_m3 5 rfl) rfl
theorem q617 : (Jvm.Cond.fieldLink "FranchiseLedger$Grid" (15 : Nat) "FranchiseLedger$Grid" "reached" "[I") ∈ lw_all := lw_g (lw_at lw_m3 9 rfl) rfl
theorem q618 : (Jvm.Cond.fieldLink "FranchiseLedger$Grid" (19 : Nat) "FranchiseLedger$Grid" "isReached" "[Z") ∈ lw_all := lw_g (lw_at lw_m3 10 rfl) rfl
theorem q619 : (Jvm.Cond.laysFinal "FranchiseLedger$Grid" "FranchiseLedger$Grid" "owners" "[B") ∈ lw_all := lw_g (lw_at lw_m3 11 rfl) rfl
theorem q620 : (Jvm.Cond.soleField "FranchiseLedger$Grid" "owners") ∈ lw_all := lw_g (lw_at lw_m3 12 rfl) rfl
theorem q621 : (Jvm.Cond.laysFinal "FranchiseLedger$Grid" "FranchiseLedger$Grid" "reached" "[I") ∈ lw_all := lw_g (lw_at lw_m3 13 rfl) rfl
theorem q622 : (Jvm.Cond.soleField "FranchiseLedger$Grid" "reached") ∈ lw_all := lw_g (lw_at lw_m3 14 rfl) rfl
theorem q623 : (Jvm.Cond.laysFinal "FranchiseLedger$Grid" "FranchiseLedger$Grid" "isReached" "[Z") ∈ lw_all := lw_g (lw_at lw_m3 15 rfl) rfl
theorem q624 : (Jvm.Cond.soleField "FranchiseLedger$Grid" "isReached") ∈ lw_all := lw_g (lw_at lw_m3 16 rfl) rfl
theorem q625 : (Jvm.Cond.superclass "FranchiseLedger$Grid" "java/lang/Object") ∈ lw_all := lw_g (lw_at lw_m3 17 rfl) rfl
theorem q997 : (Jvm.Cond.selects "FranchiseLedger$Grid" ({ cls := "java/lang/Object", name := "getClass", desc := "()Ljava/lang/Class;" } : Jvm.MethodName) ({ cls := "java/lang/Object", name := "getClass", desc := "()Ljava/lang/Class;" } : Jvm.MethodName)) ∈ lw_all := lw_g (lw_at lw_m4 149 rfl) rfl
theorem q1078 : (Jvm.Cond.instanceMethod ({ cls := "FranchiseLedger$Grid", name := "like", desc := "(LFranchiseLedger$Grid;)V" } : Jvm.MethodName)) ∈ lw_all := lw_g (lw_at lw_m4 230 rfl) rfl
theorem q1079 : (Jvm.Cond.selects "FranchiseLedger$Grid" ({ cls := "FranchiseLedger$Grid", name := "like", desc := "(LFranchiseLedger$Grid;)V" } : Jvm.MethodName) ({ cls := "FranchiseLedger$Grid", name := "like", desc := "(LFranchiseLedger$Grid;)V" } : Jvm.MethodName)) ∈ lw_all := lw_g (lw_at lw_m4 231 rfl) rfl
theorem q1080 : (Jvm.Cond.code ({ cls := "FranchiseLedger$Grid", name := "like", desc := "(LFranchiseLedger$Grid;)V" } : Jvm.MethodName) prog_5_method_2_code (2 : Nat) (Option.none : Option Jvm.ClassFile.FieldType)) ∈ lw_all := lw_g (lw_at lw_m4 232 rfl) rfl
theorem q1081 : (Jvm.Cond.methodLink "FranchiseLedger$Grid" (23 : Nat) ({ cls := "java/lang/System", name := "arraycopy", desc := "(Ljava/lang/Object;ILjava/lang/Object;II)V" } : Jvm.MethodName)) ∈ lw_all := lw_g (lw_at lw_m4 233 rfl) rfl
theorem q2020 : (Jvm.Cond.instanceMethod ({ cls := "FranchiseLedger$Grid", name := "area", desc := "(I)I" } : Jvm.MethodName)) ∈ lw_all := lw_g (lw_at lw_m8 212 rfl) rfl
theorem q2021 : (Jvm.Cond.selects "FranchiseLedger$Grid" ({ cls := "FranchiseLedger$Grid", name := "area", desc := "(I)I" } : Jvm.MethodName) ({ cls := "FranchiseLedger$Grid", name := "area", desc := "(I)I" } : Jvm.MethodName)) ∈ lw_all := lw_g (lw_at lw_m8 213 rfl) rfl
theorem q2022 : (Jvm.Cond.code ({ cls := "FranchiseLedger$Grid", name := "area", desc := "(I)I" } : Jvm.MethodName) prog_5_method_4_code (4 : Nat) (Option.some Jvm.ClassFile.FieldType.int)) ∈ lw_all := lw_g (lw_at lw_m8 214 rfl) rfl
theorem q2031 : (Jvm.Cond.instanceMethod ({ cls := "FranchiseLedger$Grid", name := "perimeter", desc := "(I)I" } : Jvm.MethodName)) ∈ lw_all := lw_g (lw_at lw_m8 223 rfl) rfl
theorem q2032 : (Jvm.Cond.selects "FranchiseLedger$Grid" ({ cls := "FranchiseLedger$Grid", name := "perimeter", desc := "(I)I" } : Jvm.MethodName) ({ cls := "FranchiseLedger$Grid", name := "perimeter", desc := "(I)I" } : Jvm.MethodName)) ∈ lw_all := lw_g (lw_at lw_m8 224 rfl) rfl
theorem q2033 : (Jvm.Cond.code ({ cls := "FranchiseLedger$Grid", name := "perimeter", desc := "(I)I" } : Jvm.MethodName) prog_5_method_5_code (6 : Nat) (Option.some Jvm.ClassFile.FieldType.int)) ∈ lw_all := lw_g (lw_at lw_m8 225 rfl) rfl
theorem q2034 : (Jvm.Cond.methodLink "FranchiseLedger$Grid" (46 : Nat) ({ cls := "FranchiseLedger$Grid", name := "neighbour", desc := "(II)I" } : Jvm.MethodName)) ∈ lw_all := lw_g (lw_at lw_m8 226 rfl) rfl
theorem q2035 : (Jvm.Cond.static ({ cls := "FranchiseLedger$Grid", name := "neighbour", desc := "(II)I" } : Jvm.MethodName)) ∈ lw_all := lw_g (lw_at lw_m8 227 rfl) rfl
theorem q2036 : (Jvm.Cond.code ({ cls := "FranchiseLedger$Grid", name := "neighbour", desc := "(II)I" } : Jvm.MethodName) prog_5_method_3_code (4 : Nat) (Option.some Jvm.ClassFile.FieldType.int)) ∈ lw_all := lw_g (lw_at lw_m8 228 rfl) rfl
theorem q2037 : (Jvm.Cond.methodLinkNest "FranchiseLedger$Grid" (29 : Nat) ({ cls := "FranchiseLedger", name := "column", desc := "(I)I" } : Jvm.MethodName) "FranchiseLedger") ∈ lw_tbl := lw_at lw_m8 229 rfl
theorem q2038 : (Jvm.Cond.methodLinkNest "FranchiseLedger$Grid" (33 : Nat) ({ cls := "FranchiseLedger", name := "row", desc := "(I)I" } : Jvm.MethodName) "FranchiseLedger") ∈ lw_tbl := lw_at lw_m8 230 rfl
theorem q2039 : (Jvm.Cond.constantLong "FranchiseLedger$Grid" (36 : Nat) (29 : Int64)) ∈ lw_all := lw_g (lw_at lw_m8 231 rfl) rfl
theorem q2040 : (Jvm.Cond.methodLinkNest "FranchiseLedger$Grid" (38 : Nat) ({ cls := "FranchiseLedger", name := "inRange", desc := "(JJJ)Z" } : Jvm.MethodName) "FranchiseLedger") ∈ lw_tbl := lw_at lw_m8 232 rfl
theorem q2041 : (Jvm.Cond.methodLinkNest "FranchiseLedger$Grid" (42 : Nat) ({ cls := "FranchiseLedger", name := "cell", desc := "(II)I" } : Jvm.MethodName) "FranchiseLedger") ∈ lw_tbl := lw_at lw_m8 233 rfl
theorem q2050 : (Jvm.Cond.instanceMethod ({ cls := "FranchiseLedger$Grid", name := "border", desc := "(II)I" } : Jvm.MethodName)) ∈ lw_all := lw_g (lw_at lw_m9 2 rfl) rfl
theorem q2051 : (Jvm.Cond.selects "FranchiseLedger$Grid" ({ cls := "FranchiseLedger$Grid", name := "border", desc := "(II)I" } : Jvm.MethodName) ({ cls := "FranchiseLedger$Grid", name := "border", desc := "(II)I" } : Jvm.MethodName)) ∈ lw_all := lw_g (lw_at lw_m9 3 rfl) rfl
theorem q2052 : (Jvm.Cond.code ({ cls := "FranchiseLedger$Grid", name := "border", desc := "(II)I" } : Jvm.MethodName) prog_5_method_6_code (7 : Nat) (Option.some Jvm.ClassFile.FieldType.int)) ∈ lw_all := lw_g (lw_at lw_m9 4 rfl) rfl
theorem q2061 : (Jvm.Cond.instanceMethod ({ cls := "FranchiseLedger$Grid", name := "isConnected", desc := "(I)Z" } : Jvm.MethodName)) ∈ lw_all := lw_g (lw_at lw_m9 13 rfl) rfl
theorem q2062 : (Jvm.Cond.selects "FranchiseLedger$Grid" ({ cls := "FranchiseLedger$Grid", name := "isConnected", desc := "(I)Z" } : Jvm.MethodName) ({ cls := "FranchiseLedger$Grid", name := "isConnected", desc := "(I)Z" } : Jvm.MethodName)) ∈ lw_all := lw_g (lw_at lw_m9 14 rfl) rfl
theorem q2063 : (Jvm.Cond.code ({ cls := "FranchiseLedger$Grid", name := "isConnected", desc := "(I)Z" } : Jvm.MethodName) prog_5_method_8_code (7 : Nat) (Option.some Jvm.ClassFile.FieldType.boolean)) ∈ lw_all := lw_g (lw_at lw_m9 15 rfl) rfl
theorem q2064 : (Jvm.Cond.methodLink "FranchiseLedger$Grid" (49 : Nat) ({ cls := "FranchiseLedger$Grid", name := "first", desc := "(I)I" } : Jvm.MethodName)) ∈ lw_all := lw_g (lw_at lw_m9 16 rfl) rfl
theorem q2065 : (Jvm.Cond.privateMethod ({ cls := "FranchiseLedger$Grid", name := "first", desc := "(I)I" } : Jvm.MethodName)) ∈ lw_tbl := lw_at lw_m9 17 rfl
theorem q2066 : (Jvm.Cond.instanceMethod ({ cls := "FranchiseLedger$Grid", name := "first", desc := "(I)I" } : Jvm.MethodName)) ∈ lw_all := lw_g (lw_at lw_m9 18 rfl) rfl
theorem q2067 : (Jvm.Cond.code ({ cls := "FranchiseLedger$Grid", name := "first", desc := "(I)I" } : Jvm.MethodName) prog_5_method_7_code (3 : Nat) (Option.some Jvm.ClassFile.FieldType.int)) ∈ lw_all := lw_g (lw_at lw_m9 19 rfl) rfl
theorem q2068 : (Jvm.Cond.methodLink "FranchiseLedger$Grid" (52 : Nat) ({ cls := "FranchiseLedger$Grid", name := "area", desc := "(I)I" } : Jvm.MethodName)) ∈ lw_all := lw_g (lw_at lw_m9 20 rfl) rfl
theorem q2077 : (Jvm.Cond.instanceMethod ({ cls := "FranchiseLedger$Grid", name := "distanceTo", desc := "(II)I" } : Jvm.MethodName)) ∈ lw_all := lw_g (lw_at lw_m9 29 rfl) rfl
theorem q2078 : (Jvm.Cond.selects "FranchiseLedger$Grid" ({ cls := "FranchiseLedger$Grid", name := "distanceTo", desc := "(II)I" } : Jvm.MethodName) ({ cls := "FranchiseLedger$Grid", name := "distanceTo", desc := "(II)I" } : Jvm.MethodName)) ∈ lw_all := lw_g (lw_at lw_m9 30 rfl) rfl
theorem q2079 : (Jvm.Cond.code ({ cls := "FranchiseLedger$Grid", name := "distanceTo", desc := "(II)I" } : Jvm.MethodName) prog_5_method_9_code (5 : Nat) (Option.some Jvm.ClassFile.FieldType.int)) ∈ lw_all := lw_g (lw_at lw_m9 31 rfl) rfl
theorem q2080 : (Jvm.Cond.methodLinkNest "FranchiseLedger$Grid" (55 : Nat) ({ cls := "FranchiseLedger", name := "distance", desc := "(II)I" } : Jvm.MethodName) "FranchiseLedger") ∈ lw_tbl := lw_at lw_m9 32 rfl
theorem q2088 : (Jvm.Cond.methodLink "FranchiseLedger$Grid" (58 : Nat) ({ cls := "java/lang/Math", name := "min", desc := "(II)I" } : Jvm.MethodName)) ∈ lw_all := lw_g (lw_at lw_m9 40 rfl) rfl
theorem q3263 : (Jvm.Cond.castable "FranchiseLedger$Grid" "java/lang/Object") ∈ lw_tbl := lw_at lw_m14 15 rfl
theorem in_X5 : ∀ w ∈ wsX50, w ∈ lw_all := lw_in wsX50 [619, 621, 623] (by decide +kernel) (by decide +kernel)
/-! FranchiseLedger$TextError -/
set_option maxRecDepth 100000
def RX8 : String := "FranchiseLedger$TextError"
def TX8 : u_T := fun k => match k with
  | 0 => ("java/lang/Throwable", "cause", "Ljava/lang/Throwable;", false)
  | 1 => ("java/lang/Throwable", "stackTrace", "[Ljava/lang/StackTraceElement;", false)
  | 2 => ("java/lang/Throwable", "suppressedExceptions", "Ljava/util/List;", false)
  | 3 => ("java/lang/Throwable", "detailMessage", "Ljava/lang/String;", false)
  | 4 => ("java/lang/Throwable", "backtrace", "Ljava/lang/Object;", false)
  | 5 => ("java/lang/Throwable", "depth", "I", false)
  | 6 => ("FranchiseLedger$TextError", "code", "I", true)
  | _ => ("FranchiseLedger$TextError", "position", "I", true)
def tyX8 : Nat → FieldType := fun k => match k with
  | 0 => .object "java/lang/Throwable"
  | 1 => .array (.object "java/lang/StackTraceElement")
  | 2 => .object "java/util/List"
  | 3 => .object "java/lang/String"
  | 4 => .object "java/lang/Object"
  | 5 => .int
  | 6 => .int
  | _ => .int
abbrev wsX80 : List Cond := u_ws RX8 TX8 8
theorem nmX8 : ∀ a, a < 8 → ∀ b, b < 8 → a ≠ b → (TX8 a).2.1 ≠ (TX8 b).2.1 := by decide +kernel
theorem tyX8_ok : ∀ k, k < 8 → parseFieldDescriptor (TX8 k).2.2.1 = some (tyX8 k) := by decide +kernel
abbrev cX8_init : ByteArray := prog_13_method_1_code
def yX8_init : MethodName := ⟨RX8, "<init>", "(II)V"⟩
def dkwX8_init_0 : List UInt8 := [42, 1, 1, 3, 3, 183, 0, 1, 42, 27, 181, 0, 7, 42, 28, 181, 0, 13, 177]
abbrev dktX8_init_0 : List UInt8 := dkwX8_init_0 ++ []
theorem dksX8_init_0 : cX8_init.data.toList.drop 0 = dktX8_init_0 := by decide +kernel
theorem dX8_init_0 : decode cX8_init 0 = .ok (.aload_n 0, 1) := dk_42 (dk_at dksX8_init_0 0 rfl rfl)
theorem dX8_init_1 : decode cX8_init 1 = .ok (.aconst_null, 1) := dk_1 (dk_at dksX8_init_0 1 rfl rfl)
theorem dX8_init_2 : decode cX8_init 2 = .ok (.aconst_null, 1) := dk_1 (dk_at dksX8_init_0 2 rfl rfl)
theorem dX8_init_3 : decode cX8_init 3 = .ok (.iconst 0, 1) := dk_3 (dk_at dksX8_init_0 3 rfl rfl)
theorem dX8_init_4 : decode cX8_init 4 = .ok (.iconst 0, 1) := dk_3 (dk_at dksX8_init_0 4 rfl rfl)
theorem dX8_init_5 : decode cX8_init 5 = .ok (.invokespecial 1, 3) := dk_183 0 1 (dk_at dksX8_init_0 5 rfl rfl)
theorem dX8_init_8 : decode cX8_init 8 = .ok (.aload_n 0, 1) := dk_42 (dk_at dksX8_init_0 8 rfl rfl)
theorem dX8_init_9 : decode cX8_init 9 = .ok (.iload_n 1, 1) := dk_27 (dk_at dksX8_init_0 9 rfl rfl)
theorem dX8_init_10 : decode cX8_init 10 = .ok (.putfield 7, 3) := dk_181 0 7 (dk_at dksX8_init_0 10 rfl rfl)
theorem dX8_init_13 : decode cX8_init 13 = .ok (.aload_n 0, 1) := dk_42 (dk_at dksX8_init_0 13 rfl rfl)
theorem dX8_init_14 : decode cX8_init 14 = .ok (.iload_n 2, 1) := dk_28 (dk_at dksX8_init_0 14 rfl rfl)
theorem dX8_init_15 : decode cX8_init 15 = .ok (.putfield 13, 3) := dk_181 0 13 (dk_at dksX8_init_0 15 rfl rfl)
theorem dX8_init_18 : decode cX8_init 18 = .ok (.return_, 1) := dk_177 (dk_at dksX8_init_0 18 rfl rfl)
theorem q158 : (Jvm.Cond.initialized "FranchiseLedger$TextError") ∈ lw_all := lw_g (lw_at lw_m1 30 rfl) rfl
theorem q239 : (Jvm.Cond.selects "FranchiseLedger$TextError" ({ cls := "java/lang/Throwable", name := "fillInStackTrace", desc := "()Ljava/lang/Throwable;" } : Jvm.MethodName) ({ cls := "java/lang/Throwable", name := "fillInStackTrace", desc := "()Ljava/lang/Throwable;" } : Jvm.MethodName)) ∈ lw_all := lw_g (lw_at lw_m1 111 rfl) rfl
theorem q1004 : (Jvm.Cond.selects "FranchiseLedger$TextError" ({ cls := "java/lang/Object", name := "getClass", desc := "()Ljava/lang/Class;" } : Jvm.MethodName) ({ cls := "java/lang/Object", name := "getClass", desc := "()Ljava/lang/Class;" } : Jvm.MethodName)) ∈ lw_all := lw_g (lw_at lw_m4 156 rfl) rfl
theorem q1418 : (Jvm.Cond.instantiable "FranchiseLedger$TextError" (8 : Nat)) ∈ lw_all := lw_g (lw_at lw_m6 90 rfl) rfl
theorem q1419 : (Jvm.Cond.castable "FranchiseLedger$TextError" "FranchiseLedger$TextError") ∈ lw_tbl := lw_at lw_m6 91 rfl
theorem q1420 : (Jvm.Cond.selects "FranchiseLedger$TextError" ({ cls := "java/lang/Throwable", name := "fillInStackTrace", desc := "(I)Ljava/lang/Throwable;" } : Jvm.MethodName) ({ cls := "java/lang/Throwable", name := "fillInStackTrace", desc := "(I)Ljava/lang/Throwable;" } : Jvm.MethodName)) ∈ lw_all := lw_g (lw_at lw_m6 92 rfl) rfl
theorem q1421 : (Jvm.Cond.lays "FranchiseLedger$TextError" "java/lang/Throwable" "cause" "Ljava/lang/Throwable;") ∈ lw_all := lw_g (lw_at lw_m6 93 rfl) rfl
theorem q1422 : (Jvm.Cond.lays "FranchiseLedger$TextError" "java/lang/Throwable" "stackTrace" "[Ljava/lang/StackTraceElement;") ∈ lw_all := lw_g (lw_at lw_m6 94 rfl) rfl
theorem q1423 : (Jvm.Cond.lays "FranchiseLedger$TextError" "java/lang/Throwable" "suppressedExceptions" "Ljava/util/List;") ∈ lw_all := lw_g (lw_at lw_m6 95 rfl) rfl
theorem q1424 : (Jvm.Cond.lays "FranchiseLedger$TextError" "java/lang/Throwable" "detailMessage" "Ljava/lang/String;") ∈ lw_all := lw_g (lw_at lw_m6 96 rfl) rfl
theorem q1425 : (Jvm.Cond.lays "FranchiseLedger$TextError" "java/lang/Throwable" "backtrace" "Ljava/lang/Object;") ∈ lw_all := lw_g (lw_at lw_m6 97 rfl) rfl
theorem q1427 : (Jvm.Cond.instanceMethod ({ cls := "FranchiseLedger$TextError", name := "<init>", desc := "(II)V" } : Jvm.MethodName)) ∈ lw_all := lw_g (lw_at lw_m6 99 rfl) rfl
theorem q1428 : (Jvm.Cond.code ({ cls := "FranchiseLedger$TextError", name := "<init>", desc := "(II)V" } : Jvm.MethodName) prog_13_method_1_code (3 : Nat) (Option.none : Option Jvm.ClassFile.FieldType)) ∈ lw_all := lw_g (lw_at lw_m6 100 rfl) rfl
theorem q1429 : (Jvm.Cond.methodLink "FranchiseLedger$TextError" (1 : Nat) ({ cls := "java/lang/Exception", name := "<init>", desc := "(Ljava/lang/String;Ljava/lang/Throwable;ZZ)V" } : Jvm.MethodName)) ∈ lw_all := lw_g (lw_at lw_m6 101 rfl) rfl
theorem q1435 : (Jvm.Cond.fieldLink "FranchiseLedger$TextError" (7 : Nat) "FranchiseLedger$TextError" "code" "I") ∈ lw_all := lw_g (lw_at lw_m6 107 rfl) rfl
theorem q1437 : (Jvm.Cond.fieldLink "FranchiseLedger$TextError" (13 : Nat) "FranchiseLedger$TextError" "position" "I") ∈ lw_all := lw_g (lw_at lw_m6 109 rfl) rfl
theorem q1439 : (Jvm.Cond.laysFinal "FranchiseLedger$TextError" "FranchiseLedger$TextError" "code" "I") ∈ lw_all := lw_g (lw_at lw_m6 111 rfl) rfl
theorem q1440 : (Jvm.Cond.soleField "FranchiseLedger$TextError" "code") ∈ lw_all := lw_g (lw_at lw_m6 112 rfl) rfl
theorem q1441 : (Jvm.Cond.laysFinal "FranchiseLedger$TextError" "FranchiseLedger$TextError" "position" "I") ∈ lw_all := lw_g (lw_at lw_m6 113 rfl) rfl
theorem q1442 : (Jvm.Cond.soleField "FranchiseLedger$TextError" "position") ∈ lw_all := lw_g (lw_at lw_m6 114 rfl) rfl
theorem q1443 : (Jvm.Cond.lays "FranchiseLedger$TextError" "java/lang/Throwable" "depth" "I") ∈ lw_all := lw_g (lw_at lw_m6 115 rfl) rfl
theorem q1444 : (Jvm.Cond.superclass "FranchiseLedger$TextError" "java/lang/Exception") ∈ lw_all := lw_g (lw_at lw_m6 116 rfl) rfl
theorem q3268 : (Jvm.Cond.castable "FranchiseLedger$TextError" "java/lang/Object") ∈ lw_tbl := lw_at lw_m14 20 rfl
theorem in_X8 : ∀ w ∈ wsX80, w ∈ lw_all := lw_in wsX80 [1421, 1422, 1423, 1424, 1425, 1443, 1439, 1441] (by decide +kernel) (by decide +kernel)
/-! FranchiseLedger$Plan -/
set_option maxRecDepth 100000
def RX9 : String := "FranchiseLedger$Plan"
def TX9 : u_T := fun k => match k with
  | 0 => ("FranchiseLedger$Plan", "advertising", "LFranchiseLedger$Rate;", true)
  | _ => ("FranchiseLedger$Plan", "tiers", "Ljava/util/List;", true)
def tyX9 : Nat → FieldType := fun k => match k with
  | 0 => .object "FranchiseLedger$Rate"
  | _ => .object "java/util/List"
abbrev wsX90 : List Cond := u_ws RX9 TX9 2
theorem nmX9 : ∀ a, a < 2 → ∀ b, b < 2 → a ≠ b → (TX9 a).2.1 ≠ (TX9 b).2.1 := by decide +kernel
theorem tyX9_ok : ∀ k, k < 2 → parseFieldDescriptor (TX9 k).2.2.1 = some (tyX9 k) := by decide +kernel
abbrev cX9_init : ByteArray := prog_7_method_1_code
def yX9_init : MethodName := ⟨RX9, "<init>", "(I)V"⟩
def dkwX9_init_1 : List UInt8 := [183, 0, 20, 181, 0, 21, 177]
abbrev dktX9_init_1 : List UInt8 := dkwX9_init_1 ++ []
def dkwX9_init_0 : List UInt8 := [42, 183, 0, 1, 42, 187, 0, 7, 89, 5, 183, 0, 9, 181, 0, 12, 42, 187, 0, 18, 89, 27]
abbrev dktX9_init_0 : List UInt8 := dkwX9_init_0 ++ dktX9_init_1
theorem dksX9_init_0 : cX9_init.data.toList.drop 0 = dktX9_init_0 := by decide +kernel
theorem dksX9_init_1 : cX9_init.data.toList.drop 22 = dktX9_init_1 := dk_seg dksX9_init_0 22 rfl rfl
theorem dX9_init_0 : decode cX9_init 0 = .ok (.aload_n 0, 1) := dk_42 (dk_at dksX9_init_0 0 rfl rfl)
theorem dX9_init_1 : decode cX9_init 1 = .ok (.invokespecial 1, 3) := dk_183 0 1 (dk_at dksX9_init_0 1 rfl rfl)
theorem dX9_init_4 : decode cX9_init 4 = .ok (.aload_n 0, 1) := dk_42 (dk_at dksX9_init_0 4 rfl rfl)
theorem dX9_init_5 : decode cX9_init 5 = .ok (.new 7, 3) := dk_187 0 7 (dk_at dksX9_init_0 5 rfl rfl)
theorem dX9_init_8 : decode cX9_init 8 = .ok (.dup, 1) := dk_89 (dk_at dksX9_init_0 8 rfl rfl)
theorem dX9_init_9 : decode cX9_init 9 = .ok (.iconst 2, 1) := dk_5 (dk_at dksX9_init_0 9 rfl rfl)
theorem dX9_init_10 : decode cX9_init 10 = .ok (.invokespecial 9, 3) := dk_183 0 9 (dk_at dksX9_init_0 10 rfl rfl)
theorem dX9_init_13 : decode cX9_init 13 = .ok (.putfield 12, 3) := dk_181 0 12 (dk_at dksX9_init_0 13 rfl rfl)
theorem dX9_init_16 : decode cX9_init 16 = .ok (.aload_n 0, 1) := dk_42 (dk_at dksX9_init_0 16 rfl rfl)
theorem dX9_init_17 : decode cX9_init 17 = .ok (.new 18, 3) := dk_187 0 18 (dk_at dksX9_init_0 17 rfl rfl)
theorem dX9_init_20 : decode cX9_init 20 = .ok (.dup, 1) := dk_89 (dk_at dksX9_init_0 20 rfl rfl)
theorem dX9_init_21 : decode cX9_init 21 = .ok (.iload_n 1, 1) := dk_27 (dk_at dksX9_init_0 21 rfl rfl)
theorem dX9_init_22 : decode cX9_init 22 = .ok (.invokespecial 20, 3) := dk_183 0 20 (dk_at dksX9_init_1 0 rfl rfl)
theorem dX9_init_25 : decode cX9_init 25 = .ok (.putfield 21, 3) := dk_181 0 21 (dk_at dksX9_init_1 3 rfl rfl)
theorem dX9_init_28 : decode cX9_init 28 = .ok (.return_, 1) := dk_177 (dk_at dksX9_init_1 6 rfl rfl)
abbrev cX9_royalty : ByteArray := prog_7_method_2_code
def yX9_royalty : MethodName := ⟨RX9, "royalty", "(J)J"⟩
def dkwX9_royalty_5 : List UInt8 := [167, 255, 142, 33, 184, 0, 57, 173]
abbrev dktX9_royalty_5 : List UInt8 := dkwX9_royalty_5 ++ []
def dkwX9_royalty_4 : List UInt8 := [180, 0, 12, 21, 5, 185, 0, 31, 2, 0, 192, 0, 35, 182, 0, 54, 133, 105, 97, 66, 132, 5, 1]
abbrev dktX9_royalty_4 : List UInt8 := dkwX9_royalty_4 ++ dktX9_royalty_5
def dkwX9_royalty_3 : List UInt8 := [21, 5, 185, 0, 31, 2, 0, 192, 0, 35, 182, 0, 37, 101, 55, 8, 33, 9, 22, 8, 184, 0, 51, 42]
abbrev dktX9_royalty_3 : List UInt8 := dkwX9_royalty_3 ++ dktX9_royalty_4
def dkwX9_royalty_2 : List UInt8 := [192, 0, 35, 182, 0, 37, 167, 0, 6, 20, 0, 43, 55, 6, 31, 22, 6, 184, 0, 45, 42, 180, 0, 12]
abbrev dktX9_royalty_2 : List UInt8 := dkwX9_royalty_2 ++ dktX9_royalty_3
def dkwX9_royalty_1 : List UInt8 := [180, 0, 12, 185, 0, 25, 1, 0, 162, 0, 25, 42, 180, 0, 12, 21, 5, 4, 96, 185, 0, 31, 2, 0]
abbrev dktX9_royalty_1 : List UInt8 := dkwX9_royalty_1 ++ dktX9_royalty_2
def dkwX9_royalty_0 : List UInt8 := [9, 66, 3, 54, 5, 21, 5, 42, 180, 0, 12, 185, 0, 25, 1, 0, 162, 0, 106, 21, 5, 4, 96, 42]
abbrev dktX9_royalty_0 : List UInt8 := dkwX9_royalty_0 ++ dktX9_royalty_1
theorem dksX9_royalty_0 : cX9_royalty.data.toList.drop 0 = dktX9_royalty_0 := by decide +kernel
theorem dksX9_royalty_1 : cX9_royalty.data.toList.drop 24 = dktX9_royalty_1 := dk_seg dksX9_royalty_0 24 rfl rfl
theorem dksX9_royalty_2 : cX9_royalty.data.toList.drop 48 = dktX9_royalty_2 := dk_seg dksX9_royalty_1 24 rfl rfl
theorem dksX9_royalty_3 : cX9_royalty.data.toList.drop 72 = dktX9_royalty_3 := dk_seg dksX9_royalty_2 24 rfl rfl
theorem dksX9_royalty_4 : cX9_royalty.data.toList.drop 96 = dktX9_royalty_4 := dk_seg dksX9_royalty_3 24 rfl rfl
theorem dksX9_royalty_5 : cX9_royalty.data.toList.drop 119 = dktX9_royalty_5 := dk_seg dksX9_royalty_4 23 rfl rfl
theorem dX9_royalty_0 : decode cX9_royalty 0 = .ok (.lconst 0, 1) := dk_9 (dk_at dksX9_royalty_0 0 rfl rfl)
theorem dX9_royalty_1 : decode cX9_royalty 1 = .ok (.lstore_n 3, 1) := dk_66 (dk_at dksX9_royalty_0 1 rfl rfl)
theorem dX9_royalty_2 : decode cX9_royalty 2 = .ok (.iconst 0, 1) := dk_3 (dk_at dksX9_royalty_0 2 rfl rfl)
theorem dX9_royalty_3 : decode cX9_royalty 3 = .ok (.istore 5, 2) := dk_54 5 (dk_at dksX9_royalty_0 3 rfl rfl)
theorem dX9_royalty_5 : decode cX9_royalty 5 = .ok (.iload 5, 2) := dk_21 5 (dk_at dksX9_royalty_0 5 rfl rfl)
theorem dX9_royalty_7 : decode cX9_royalty 7 = .ok (.aload_n 0, 1) := dk_42 (dk_at dksX9_royalty_0 7 rfl rfl)
theorem dX9_royalty_8 : decode cX9_royalty 8 = .ok (.getfield 12, 3) := dk_180 0 12 (dk_at dksX9_royalty_0 8 rfl rfl)
theorem dX9_royalty_11 : decode cX9_royalty 11 = .ok (.invokeinterface 25 1, 5) := by decide +kernel
theorem dX9_royalty_16 : decode cX9_royalty 16 = .ok (.if_icmp .ge 106, 3) := dk_162 0 106 (dk_at dksX9_royalty_0 16 rfl rfl)
theorem dX9_royalty_19 : decode cX9_royalty 19 = .ok (.iload 5, 2) := dk_21 5 (dk_at dksX9_royalty_0 19 rfl rfl)
theorem dX9_royalty_21 : decode cX9_royalty 21 = .ok (.iconst 1, 1) := dk_4 (dk_at dksX9_royalty_0 21 rfl rfl)
theorem dX9_royalty_22 : decode cX9_royalty 22 = .ok (.iadd, 1) := dk_96 (dk_at dksX9_royalty_0 22 rfl rfl)
theorem dX9_royalty_23 : decode cX9_royalty 23 = .ok (.aload_n 0, 1) := dk_42 (dk_at dksX9_royalty_0 23 rfl rfl)
theorem dX9_royalty_24 : decode cX9_royalty 24 = .ok (.getfield 12, 3) := dk_180 0 12 (dk_at dksX9_royalty_1 0 rfl rfl)
theorem dX9_royalty_27 : decode cX9_royalty 27 = .ok (.invokeinterface 25 1, 5) := by decide +kernel
theorem dX9_royalty_32 : decode cX9_royalty 32 = .ok (.if_icmp .ge 25, 3) := dk_162 0 25 (dk_at dksX9_royalty_1 8 rfl rfl)
theorem dX9_royalty_35 : decode cX9_royalty 35 = .ok (.aload_n 0, 1) := dk_42 (dk_at dksX9_royalty_1 11 rfl rfl)
theorem dX9_royalty_36 : decode cX9_royalty 36 = .ok (.getfield 12, 3) := dk_180 0 12 (dk_at dksX9_royalty_1 12 rfl rfl)
theorem dX9_royalty_39 : decode cX9_royalty 39 = .ok (.iload 5, 2) := dk_21 5 (dk_at dksX9_royalty_1 15 rfl rfl)
theorem dX9_royalty_41 : decode cX9_royalty 41 = .ok (.iconst 1, 1) := dk_4 (dk_at dksX9_royalty_1 17 rfl rfl)
theorem dX9_royalty_42 : decode cX9_royalty 42 = .ok (.iadd, 1) := dk_96 (dk_at dksX9_royalty_1 18 rfl rfl)
theorem dX9_royalty_43 : decode cX9_royalty 43 = .ok (.invokeinterface 31 2, 5) := by decide +kernel
theorem dX9_royalty_48 : decode cX9_royalty 48 = .ok (.checkcast 35, 3) := dk_192 0 35 (dk_at dksX9_royalty_2 0 rfl rfl)
theorem dX9_royalty_51 : decode cX9_royalty 51 = .ok (.invokevirtual 37, 3) := dk_182 0 37 (dk_at dksX9_royalty_2 3 rfl rfl)
theorem dX9_royalty_54 : decode cX9_royalty 54 = .ok (.goto 6, 3) := dk_167 0 6 (dk_at dksX9_royalty_2 6 rfl rfl)
theorem dX9_royalty_57 : decode cX9_royalty 57 = .ok (.ldc2_w 43, 3) := dk_20 0 43 (dk_at dksX9_royalty_2 9 rfl rfl)
theorem dX9_royalty_60 : decode cX9_royalty 60 = .ok (.lstore 6, 2) := dk_55 6 (dk_at dksX9_royalty_2 12 rfl rfl)
theorem dX9_royalty_62 : decode cX9_royalty 62 = .ok (.lload_n 1, 1) := dk_31 (dk_at dksX9_royalty_2 14 rfl rfl)
theorem dX9_royalty_63 : decode cX9_royalty 63 = .ok (.lload 6, 2) := dk_22 6 (dk_at dksX9_royalty_2 15 rfl rfl)
theorem dX9_royalty_65 : decode cX9_royalty 65 = .ok (.invokestatic 45, 3) := dk_184 0 45 (dk_at dksX9_royalty_2 17 rfl rfl)
theorem dX9_royalty_68 : decode cX9_royalty 68 = .ok (.aload_n 0, 1) := dk_42 (dk_at dksX9_royalty_2 20 rfl rfl)
theorem dX9_royalty_69 : decode cX9_royalty 69 = .ok (.getfield 12, 3) := dk_180 0 12 (dk_at dksX9_royalty_2 21 rfl rfl)
theorem dX9_royalty_72 : decode cX9_royalty 72 = .ok (.iload 5, 2) := dk_21 5 (dk_at dksX9_royalty_3 0 rfl rfl)
theorem dX9_royalty_74 : decode cX9_royalty 74 = .ok (.invokeinterface 31 2, 5) := by decide +kernel
theorem dX9_royalty_79 : decode cX9_royalty 79 = .ok (.checkcast 35, 3) := dk_192 0 35 (dk_at dksX9_royalty_3 7 rfl rfl)
theorem dX9_royalty_82 : decode cX9_royalty 82 = .ok (.invokevirtual 37, 3) := dk_182 0 37 (dk_at dksX9_royalty_3 10 rfl rfl)
theorem dX9_royalty_85 : decode cX9_royalty 85 = .ok (.lsub, 1) := dk_101 (dk_at dksX9_royalty_3 13 rfl rfl)
theorem dX9_royalty_86 : decode cX9_royalty 86 = .ok (.lstore 8, 2) := dk_55 8 (dk_at dksX9_royalty_3 14 rfl rfl)
theorem dX9_royalty_88 : decode cX9_royalty 88 = .ok (.lload_n 3, 1) := dk_33 (dk_at dksX9_royalty_3 16 rfl rfl)
theorem dX9_royalty_89 : decode cX9_royalty 89 = .ok (.lconst 0, 1) := dk_9 (dk_at dksX9_royalty_3 17 rfl rfl)
theorem dX9_royalty_90 : decode cX9_royalty 90 = .ok (.lload 8, 2) := dk_22 8 (dk_at dksX9_royalty_3 18 rfl rfl)
theorem dX9_royalty_92 : decode cX9_royalty 92 = .ok (.invokestatic 51, 3) := dk_184 0 51 (dk_at dksX9_royalty_3 20 rfl rfl)
theorem dX9_royalty_95 : decode cX9_royalty 95 = .ok (.aload_n 0, 1) := dk_42 (dk_at dksX9_royalty_3 23 rfl rfl)
theorem dX9_royalty_96 : decode cX9_royalty 96 = .ok (.getfield 12, 3) := dk_180 0 12 (dk_at dksX9_royalty_4 0 rfl rfl)
theorem dX9_royalty_99 : decode cX9_royalty 99 = .ok (.iload 5, 2) := dk_21 5 (dk_at dksX9_royalty_4 3 rfl rfl)
theorem dX9_royalty_101 : decode cX9_royalty 101 = .ok (.invokeinterface 31 2, 5) := by decide +kernel
theorem dX9_royalty_106 : decode cX9_royalty 106 = .ok (.checkcast 35, 3) := dk_192 0 35 (dk_at dksX9_royalty_4 10 rfl rfl)
theorem dX9_royalty_109 : decode cX9_royalty 109 = .ok (.invokevirtual 54, 3) := dk_182 0 54 (dk_at dksX9_royalty_4 13 rfl rfl)
theorem dX9_royalty_112 : decode cX9_royalty 112 = .ok (.i2l, 1) := dk_133 (dk_at dksX9_royalty_4 16 rfl rfl)
theorem dX9_royalty_113 : decode cX9_royalty 113 = .ok (.lmul, 1) := dk_105 (dk_at dksX9_royalty_4 17 rfl rfl)
theorem dX9_royalty_114 : decode cX9_royalty 114 = .ok (.ladd, 1) := dk_97 (dk_at dksX9_royalty_4 18 rfl rfl)
theorem dX9_royalty_115 : decode cX9_royalty 115 = .ok (.lstore_n 3, 1) := dk_66 (dk_at dksX9_royalty_4 19 rfl rfl)
theorem dX9_royalty_116 : decode cX9_royalty 116 = .ok (.iinc 5 1, 3) := dk_132 5 1 (dk_at dksX9_royalty_4 20 rfl rfl)
theorem dX9_royalty_119 : decode cX9_royalty 119 = .ok (.goto (-114), 3) := dk_167 255 142 (dk_at dksX9_royalty_5 0 rfl rfl)
theorem dX9_royalty_122 : decode cX9_royalty 122 = .ok (.lload_n 3, 1) := dk_33 (dk_at dksX9_royalty_5 3 rfl rfl)
theorem dX9_royalty_123 : decode cX9_royalty 123 = .ok (.invokestatic 57, 3) := dk_184 0 57 (dk_at dksX9_royalty_5 4 rfl rfl)
theorem dX9_royalty_126 : decode cX9_royalty 126 = .ok (.lreturn, 1) := dk_173 (dk_at dksX9_royalty_5 7 rfl rfl)
abbrev cX9_cost : ByteArray := prog_7_method_3_code
def yX9_cost : MethodName := ⟨RX9, "cost", "(J)J"⟩
def dkwX9_cost_0 : List UInt8 := [42, 31, 182, 0, 63, 42, 180, 0, 21, 31, 182, 0, 66, 97, 173]
abbrev dktX9_cost_0 : List UInt8 := dkwX9_cost_0 ++ []
theorem dksX9_cost_0 : cX9_cost.data.toList.drop 0 = dktX9_cost_0 := by decide +kernel
theorem dX9_cost_0 : decode cX9_cost 0 = .ok (.aload_n 0, 1) := dk_42 (dk_at dksX9_cost_0 0 rfl rfl)
theorem dX9_cost_1 : decode cX9_cost 1 = .ok (.lload_n 1, 1) := dk_31 (dk_at dksX9_cost_0 1 rfl rfl)
theorem dX9_cost_2 : decode cX9_cost 2 = .ok (.invokevirtual 63, 3) := dk_182 0 63 (dk_at dksX9_cost_0 2 rfl rfl)
theorem dX9_cost_5 : decode cX9_cost 5 = .ok (.aload_n 0, 1) := dk_42 (dk_at dksX9_cost_0 5 rfl rfl)
theorem dX9_cost_6 : decode cX9_cost 6 = .ok (.getfield 21, 3) := dk_180 0 21 (dk_at dksX9_cost_0 6 rfl rfl)
theorem dX9_cost_9 : decode cX9_cost 9 = .ok (.lload_n 1, 1) := dk_31 (dk_at dksX9_cost_0 9 rfl rfl)
theorem dX9_cost_10 : decode cX9_cost 10 = .ok (.invokevirtual 66, 3) := dk_182 0 66 (dk_at dksX9_cost_0 10 rfl rfl)
theorem dX9_cost_13 : decode cX9_cost 13 = .ok (.ladd, 1) := dk_97 (dk_at dksX9_cost_0 13 rfl rfl)
theorem dX9_cost_14 : decode cX9_cost 14 = .ok (.lreturn, 1) := dk_173 (dk_at dksX9_cost_0 14 rfl rfl)
theorem q159 : (Jvm.Cond.initialized "FranchiseLedger$Plan") ∈ lw_all := lw_g (lw_at lw_m1 31 rfl) rfl
theorem q999 : (Jvm.Cond.selects "FranchiseLedger$Plan" ({ cls := "java/lang/Object", name := "getClass", desc := "()Ljava/lang/Class;" } : Jvm.MethodName) ({ cls := "java/lang/Object", name := "getClass", desc := "()Ljava/lang/Class;" } : Jvm.MethodName)) ∈ lw_all := lw_g (lw_at lw_m4 151 rfl) rfl
theorem q1622 : (Jvm.Cond.instantiable "FranchiseLedger$Plan" (2 : Nat)) ∈ lw_all := lw_g (lw_at lw_m7 54 rfl) rfl
theorem q1624 : (Jvm.Cond.instanceMethod ({ cls := "FranchiseLedger$Plan", name := "<init>", desc := "(I)V" } : Jvm.MethodName)) ∈ lw_all := lw_g (lw_at lw_m7 56 rfl) rfl
theorem q1625 : (Jvm.Cond.code ({ cls := "FranchiseLedger$Plan", name := "<init>", desc := "(I)V" } : Jvm.MethodName) prog_7_method_1_code (2 : Nat) (Option.none : Option Jvm.ClassFile.FieldType)) ∈ lw_all := lw_g (lw_at lw_m7 57 rfl) rfl
theorem q1626 : (Jvm.Cond.methodLink "FranchiseLedger$Plan" (1 : Nat) ({ cls := "java/lang/Object", name := "<init>", desc := "()V" } : Jvm.MethodName)) ∈ lw_all := lw_g (lw_at lw_m7 58 rfl) rfl
theorem q1627 : (Jvm.Cond.classLink "FranchiseLedger$Plan" (7 : Nat) "java/util/ArrayList") ∈ lw_all := lw_g (lw_at lw_m7 59 rfl) rfl
theorem q1628 : (Jvm.Cond.methodLink "FranchiseLedger$Plan" (9 : Nat) ({ cls := "java/util/ArrayList", name := "<init>", desc := "(I)V" } : Jvm.MethodName)) ∈ lw_all := lw_g (lw_at lw_m7 60 rfl) rfl
theorem q1629 : (Jvm.Cond.classLink "FranchiseLedger$Plan" (18 : Nat) "FranchiseLedger$Rate") ∈ lw_all := lw_g (lw_at lw_m7 61 rfl) rfl
theorem q1630 : (Jvm.Cond.methodLinkNest "FranchiseLedger$Plan" (20 : Nat) ({ cls := "FranchiseLedger$Rate", name := "<init>", desc := "(I)V" } : Jvm.MethodName) "FranchiseLedger") ∈ lw_tbl := lw_at lw_m7 62 rfl
theorem q1631 : (Jvm.Cond.fieldLink "FranchiseLedger$Plan" (21 : Nat) "FranchiseLedger$Plan" "advertising" "LFranchiseLedger$Rate;") ∈ lw_all := lw_g (lw_at lw_m7 63 rfl) rfl
theorem q1633 : (Jvm.Cond.fieldLink "FranchiseLedger$Plan" (12 : Nat) "FranchiseLedger$Plan" "tiers" "Ljava/util/List;") ∈ lw_all := lw_g (lw_at lw_m7 65 rfl) rfl
theorem q1635 : (Jvm.Cond.laysFinal "FranchiseLedger$Plan" "FranchiseLedger$Plan" "advertising" "LFranchiseLedger$Rate;") ∈ lw_all := lw_g (lw_at lw_m7 67 rfl) rfl
theorem q1636 : (Jvm.Cond.soleField "FranchiseLedger$Plan" "advertising") ∈ lw_all := lw_g (lw_at lw_m7 68 rfl) rfl
theorem q1637 : (Jvm.Cond.laysFinal "FranchiseLedger$Plan" "FranchiseLedger$Plan" "tiers" "Ljava/util/List;") ∈ lw_all := lw_g (lw_at lw_m7 69 rfl) rfl
theorem q1638 : (Jvm.Cond.soleField "FranchiseLedger$Plan" "tiers") ∈ lw_all := lw_g (lw_at lw_m7 70 rfl) rfl
theorem q1639 : (Jvm.Cond.superclass "FranchiseLedger$Plan" "java/lang/Object") ∈ lw_all := lw_g (lw_at lw_m7 71 rfl) rfl
theorem q1941 : (Jvm.Cond.instanceMethod ({ cls := "FranchiseLedger$Plan", name := "royalty", desc := "(J)J" } : Jvm.MethodName)) ∈ lw_all := lw_g (lw_at lw_m8 133 rfl) rfl
theorem q1942 : (Jvm.Cond.selects "FranchiseLedger$Plan" ({ cls := "FranchiseLedger$Plan", name := "royalty", desc := "(J)J" } : Jvm.MethodName) ({ cls := "FranchiseLedger$Plan", name := "royalty", desc := "(J)J" } : Jvm.MethodName)) ∈ lw_all := lw_g (lw_at lw_m8 134 rfl) rfl
theorem q1943 : (Jvm.Cond.code ({ cls := "FranchiseLedger$Plan", name := "royalty", desc := "(J)J" } : Jvm.MethodName) prog_7_method_2_code (10 : Nat) (Option.some Jvm.ClassFile.FieldType.long)) ∈ lw_all := lw_g (lw_at lw_m8 135 rfl) rfl
theorem q1944 : (Jvm.Cond.interfaceEntry "FranchiseLedger$Plan" (25 : Nat)) ∈ lw_tbl := lw_at lw_m8 136 rfl
theorem q1945 : (Jvm.Cond.methodLink "FranchiseLedger$Plan" (25 : Nat) ({ cls := "java/util/List", name := "size", desc := "()I" } : Jvm.MethodName)) ∈ lw_all := lw_g (lw_at lw_m8 137 rfl) rfl
theorem q1946 : (Jvm.Cond.interfaceEntry "FranchiseLedger$Plan" (31 : Nat)) ∈ lw_tbl := lw_at lw_m8 138 rfl
theorem q1947 : (Jvm.Cond.methodLink "FranchiseLedger$Plan" (31 : Nat) ({ cls := "java/util/List", name := "get", desc := "(I)Ljava/lang/Object;" } : Jvm.MethodName)) ∈ lw_all := lw_g (lw_at lw_m8 139 rfl) rfl
theorem q1948 : (Jvm.Cond.classLink "FranchiseLedger$Plan" (35 : Nat) "FranchiseLedger$Tier") ∈ lw_all := lw_g (lw_at lw_m8 140 rfl) rfl
theorem q1949 : (Jvm.Cond.methodLink "FranchiseLedger$Plan" (37 : Nat) ({ cls := "FranchiseLedger$Tier", name := "threshold", desc := "()J" } : Jvm.MethodName)) ∈ lw_all := lw_g (lw_at lw_m8 141 rfl) rfl
theorem q1953 : (Jvm.Cond.constantLong "FranchiseLedger$Plan" (43 : Nat) (9223372036854775807 : Int64)) ∈ lw_all := lw_g (lw_at lw_m8 145 rfl) rfl
theorem q1954 : (Jvm.Cond.methodLink "FranchiseLedger$Plan" (45 : Nat) ({ cls := "java/lang/Math", name := "min", desc := "(JJ)J" } : Jvm.MethodName)) ∈ lw_all := lw_g (lw_at lw_m8 146 rfl) rfl
theorem q1957 : (Jvm.Cond.methodLink "FranchiseLedger$Plan" (51 : Nat) ({ cls := "java/lang/Math", name := "max", desc := "(JJ)J" } : Jvm.MethodName)) ∈ lw_all := lw_g (lw_at lw_m8 149 rfl) rfl
theorem q1958 : (Jvm.Cond.methodLink "FranchiseLedger$Plan" (54 : Nat) ({ cls := "FranchiseLedger$Tier", name := "rate", desc := "()I" } : Jvm.MethodName)) ∈ lw_all := lw_g (lw_at lw_m8 150 rfl) rfl
theorem q1962 : (Jvm.Cond.methodLink "FranchiseLedger$Plan" (57 : Nat) ({ cls := "FranchiseLedger$Rated", name := "rounded", desc := "(J)J" } : Jvm.MethodName)) ∈ lw_all := lw_g (lw_at lw_m8 154 rfl) rfl
theorem q2212 : (Jvm.Cond.instanceMethod ({ cls := "FranchiseLedger$Plan", name := "cost", desc := "(J)J" } : Jvm.MethodName)) ∈ lw_all := lw_g (lw_at lw_m9 164 rfl) rfl
theorem q2213 : (Jvm.Cond.selects "FranchiseLedger$Plan" ({ cls := "FranchiseLedger$Plan", name := "cost", desc := "(J)J" } : Jvm.MethodName) ({ cls := "FranchiseLedger$Plan", name := "cost", desc := "(J)J" } : Jvm.MethodName)) ∈ lw_all := lw_g (lw_at lw_m9 165 rfl) rfl
theorem q2214 : (Jvm.Cond.code ({ cls := "FranchiseLedger$Plan", name := "cost", desc := "(J)J" } : Jvm.MethodName) prog_7_method_3_code (3 : Nat) (Option.some Jvm.ClassFile.FieldType.long)) ∈ lw_all := lw_g (lw_at lw_m9 166 rfl) rfl
theorem q2215 : (Jvm.Cond.methodLink "FranchiseLedger$Plan" (63 : Nat) ({ cls := "FranchiseLedger$Plan", name := "royalty", desc := "(J)J" } : Jvm.MethodName)) ∈ lw_all := lw_g (lw_at lw_m9 167 rfl) rfl
theorem q3269 : (Jvm.Cond.castable "FranchiseLedger$Plan" "java/lang/Object") ∈ lw_tbl := lw_at lw_m14 21 rfl
theorem in_X9 : ∀ w ∈ wsX90, w ∈ lw_all := lw_in wsX90 [1635, 1637] (by decide +kernel) (by decide +kernel)
/-! FranchiseLedger$Tier -/
set_option maxRecDepth 100000
def RX10 : String := "FranchiseLedger$Tier"
def TX10 : u_T := fun k => match k with
  | 0 => ("FranchiseLedger$Tier", "threshold", "J", true)
  | _ => ("FranchiseLedger$Tier", "rate", "I", true)
def tyX10 : Nat → FieldType := fun k => match k with
  | 0 => .long
  | _ => .int
abbrev wsX100 : List Cond := u_ws RX10 TX10 2
theorem nmX10 : ∀ a, a < 2 → ∀ b, b < 2 → a ≠ b → (TX10 a).2.1 ≠ (TX10 b).2.1 := by decide +kernel
theorem tyX10_ok : ∀ k, k < 2 → parseFieldDescriptor (TX10 k).2.2.1 = some (tyX10 k) := by decide +kernel
abbrev cX10_init : ByteArray := prog_14_method_1_code
def yX10_init : MethodName := ⟨RX10, "<init>", "(JI)V"⟩
def dkwX10_init_0 : List UInt8 := [42, 183, 0, 1, 42, 31, 181, 0, 7, 42, 29, 181, 0, 13, 177]
abbrev dktX10_init_0 : List UInt8 := dkwX10_init_0 ++ []
theorem dksX10_init_0 : cX10_init.data.toList.drop 0 = dktX10_init_0 := by decide +kernel
theorem dX10_init_0 : decode cX10_init 0 = .ok (.aload_n 0, 1) := dk_42 (dk_at dksX10_init_0 0 rfl rfl)
theorem dX10_init_1 : decode cX10_init 1 = .ok (.invokespecial 1, 3) := dk_183 0 1 (dk_at dksX10_init_0 1 rfl rfl)
theorem dX10_init_4 : decode cX10_init 4 = .ok (.aload_n 0, 1) := dk_42 (dk_at dksX10_init_0 4 rfl rfl)
theorem dX10_init_5 : decode cX10_init 5 = .ok (.lload_n 1, 1) := dk_31 (dk_at dksX10_init_0 5 rfl rfl)
theorem dX10_init_6 : decode cX10_init 6 = .ok (.putfield 7, 3) := dk_181 0 7 (dk_at dksX10_init_0 6 rfl rfl)
theorem dX10_init_9 : decode cX10_init 9 = .ok (.aload_n 0, 1) := dk_42 (dk_at dksX10_init_0 9 rfl rfl)
theorem dX10_init_10 : decode cX10_init 10 = .ok (.iload_n 3, 1) := dk_29 (dk_at dksX10_init_0 10 rfl rfl)
theorem dX10_init_11 : decode cX10_init 11 = .ok (.putfield 13, 3) := dk_181 0 13 (dk_at dksX10_init_0 11 rfl rfl)
theorem dX10_init_14 : decode cX10_init 14 = .ok (.return_, 1) := dk_177 (dk_at dksX10_init_0 14 rfl rfl)
abbrev cX10_threshold : ByteArray := prog_14_method_5_code
def yX10_threshold : MethodName := ⟨RX10, "threshold", "()J"⟩
theorem dX10_threshold_0 : decode cX10_threshold 0 = .ok (.aload_n 0, 1) := by decide +kernel
theorem dX10_threshold_1 : decode cX10_threshold 1 = .ok (.getfield 7, 3) := by decide +kernel
theorem dX10_threshold_4 : decode cX10_threshold 4 = .ok (.lreturn, 1) := by decide +kernel
abbrev cX10_rate : ByteArray := prog_14_method_6_code
def yX10_rate : MethodName := ⟨RX10, "rate", "()I"⟩
theorem dX10_rate_0 : decode cX10_rate 0 = .ok (.aload_n 0, 1) := by decide +kernel
theorem dX10_rate_1 : decode cX10_rate 1 = .ok (.getfield 13, 3) := by decide +kernel
theorem dX10_rate_4 : decode cX10_rate 4 = .ok (.ireturn, 1) := by decide +kernel
theorem q160 : (Jvm.Cond.initialized "FranchiseLedger$Tier") ∈ lw_all := lw_g (lw_at lw_m1 32 rfl) rfl
theorem q1005 : (Jvm.Cond.selects "FranchiseLedger$Tier" ({ cls := "java/lang/Object", name := "getClass", desc := "()Ljava/lang/Class;" } : Jvm.MethodName) ({ cls := "java/lang/Object", name := "getClass", desc := "()Ljava/lang/Class;" } : Jvm.MethodName)) ∈ lw_all := lw_g (lw_at lw_m4 157 rfl) rfl
theorem q1641 : (Jvm.Cond.instantiable "FranchiseLedger$Tier" (2 : Nat)) ∈ lw_all := lw_g (lw_at lw_m7 73 rfl) rfl
theorem q1643 : (Jvm.Cond.instanceMethod ({ cls := "FranchiseLedger$Tier", name := "<init>", desc := "(JI)V" } : Jvm.MethodName)) ∈ lw_all := lw_g (lw_at lw_m7 75 rfl) rfl
theorem q1644 : (Jvm.Cond.code ({ cls := "FranchiseLedger$Tier", name := "<init>", desc := "(JI)V" } : Jvm.MethodName) prog_14_method_1_code (4 : Nat) (Option.none : Option Jvm.ClassFile.FieldType)) ∈ lw_all := lw_g (lw_at lw_m7 76 rfl) rfl
theorem q1645 : (Jvm.Cond.methodLink "FranchiseLedger$Tier" (1 : Nat) ({ cls := "java/lang/Record", name := "<init>", desc := "()V" } : Jvm.MethodName)) ∈ lw_all := lw_g (lw_at lw_m7 77 rfl) rfl
theorem q1646 : (Jvm.Cond.fieldLink "FranchiseLedger$Tier" (7 : Nat) "FranchiseLedger$Tier" "threshold" "J") ∈ lw_all := lw_g (lw_at lw_m7 78 rfl) rfl
theorem q1647 : (Jvm.Cond.fieldLink "FranchiseLedger$Tier" (13 : Nat) "FranchiseLedger$Tier" "rate" "I") ∈ lw_all := lw_g (lw_at lw_m7 79 rfl) rfl
theorem q1648 : (Jvm.Cond.laysFinal "FranchiseLedger$Tier" "FranchiseLedger$Tier" "threshold" "J") ∈ lw_all := lw_g (lw_at lw_m7 80 rfl) rfl
theorem q1649 : (Jvm.Cond.soleField "FranchiseLedger$Tier" "threshold") ∈ lw_all := lw_g (lw_at lw_m7 81 rfl) rfl
theorem q1650 : (Jvm.Cond.laysFinal "FranchiseLedger$Tier" "FranchiseLedger$Tier" "rate" "I") ∈ lw_all := lw_g (lw_at lw_m7 82 rfl) rfl
theorem q1651 : (Jvm.Cond.soleField "FranchiseLedger$Tier" "rate") ∈ lw_all := lw_g (lw_at lw_m7 83 rfl) rfl
theorem q1652 : (Jvm.Cond.superclass "FranchiseLedger$Tier" "java/lang/Record") ∈ lw_all := lw_g (lw_at lw_m7 84 rfl) rfl
theorem q1950 : (Jvm.Cond.instanceMethod ({ cls := "FranchiseLedger$Tier", name := "threshold", desc := "()J" } : Jvm.MethodName)) ∈ lw_all := lw_g (lw_at lw_m8 142 rfl) rfl
theorem q1951 : (Jvm.Cond.selects "FranchiseLedger$Tier" ({ cls := "FranchiseLedger$Tier", name := "threshold", desc := "()J" } : Jvm.MethodName) ({ cls := "FranchiseLedger$Tier", name := "threshold", desc := "()J" } : Jvm.MethodName)) ∈ lw_all := lw_g (lw_at lw_m8 143 rfl) rfl
theorem q1952 : (Jvm.Cond.code ({ cls := "FranchiseLedger$Tier", name := "threshold", desc := "()J" } : Jvm.MethodName) prog_14_method_5_code (1 : Nat) (Option.some Jvm.ClassFile.FieldType.long)) ∈ lw_all := lw_g (lw_at lw_m8 144 rfl) rfl
theorem q1959 : (Jvm.Cond.instanceMethod ({ cls := "FranchiseLedger$Tier", name := "rate", desc := "()I" } : Jvm.MethodName)) ∈ lw_all := lw_g (lw_at lw_m8 151 rfl) rfl
theorem q1960 : (Jvm.Cond.selects "FranchiseLedger$Tier" ({ cls := "FranchiseLedger$Tier", name := "rate", desc := "()I" } : Jvm.MethodName) ({ cls := "FranchiseLedger$Tier", name := "rate", desc := "()I" } : Jvm.MethodName)) ∈ lw_all := lw_g (lw_at lw_m8 152 rfl) rfl
theorem q1961 : (Jvm.Cond.code ({ cls := "FranchiseLedger$Tier", name := "rate", desc := "()I" } : Jvm.MethodName) prog_14_method_6_code (1 : Nat) (Option.some Jvm.ClassFile.FieldType.int)) ∈ lw_all := lw_g (lw_at lw_m8 153 rfl) rfl
theorem q1982 : (Jvm.Cond.castable "FranchiseLedger$Tier" "FranchiseLedger$Rated") ∈ lw_tbl := lw_at lw_m8 174 rfl
theorem q1983 : (Jvm.Cond.selects "FranchiseLedger$Tier" ({ cls := "FranchiseLedger$Rated", name := "rate", desc := "()I" } : Jvm.MethodName) ({ cls := "FranchiseLedger$Tier", name := "rate", desc := "()I" } : Jvm.MethodName)) ∈ lw_all := lw_g (lw_at lw_m8 175 rfl) rfl
theorem q1984 : (Jvm.Cond.unhidden "FranchiseLedger$Tier" "rate" "()I") ∈ lw_tbl := lw_at lw_m8 176 rfl
theorem q1985 : (Jvm.Cond.publicMethod ({ cls := "FranchiseLedger$Tier", name := "rate", desc := "()I" } : Jvm.MethodName)) ∈ lw_tbl := lw_at lw_m8 177 rfl
theorem q3270 : (Jvm.Cond.castable "FranchiseLedger$Tier" "java/lang/Object") ∈ lw_tbl := lw_at lw_m14 22 rfl
theorem in_X10 : ∀ w ∈ wsX100, w ∈ lw_all := lw_in wsX100 [1648, 1650] (by decide +kernel) (by decide +kernel)
/-! FranchiseLedger$Franchisee -/
set_option maxRecDepth 100000
def RX11 : String := "FranchiseLedger$Franchisee"
def TX11 : u_T := fun k => match k with
  | 0 => ("FranchiseLedger$Franchisee", "transfer", "LFranchiseLedger$Transfer;", true)
  | 1 => ("FranchiseLedger$Franchisee", "invoices", "[[J", true)
  | 2 => ("FranchiseLedger$Franchisee", "sales", "[J", true)
  | 3 => ("FranchiseLedger$Franchisee", "plan", "I", false)
  | 4 => ("FranchiseLedger$Franchisee", "worth", "I", false)
  | 5 => ("FranchiseLedger$Franchisee", "status", "I", false)
  | 6 => ("FranchiseLedger$Franchisee", "generation", "I", false)
  | 7 => ("FranchiseLedger$Franchisee", "overdue", "I", false)
  | 8 => ("FranchiseLedger$Franchisee", "balance", "J", false)
  | 9 => ("FranchiseLedger$Franchisee", "contributions", "J", false)
  | _ => ("FranchiseLedger$Franchisee", "grants", "J", false)
def tyX11 : Nat → FieldType := fun k => match k with
  | 0 => .object "FranchiseLedger$Transfer"
  | 1 => .array (.array .long)
  | 2 => .array .long
  | 3 => .int
  | 4 => .int
  | 5 => .int
  | 6 => .int
  | 7 => .int
  | 8 => .long
  | 9 => .long
  | _ => .long
abbrev wsX110 : List Cond := u_ws RX11 TX11 11
theorem nmX11 : ∀ a, a < 11 → ∀ b, b < 11 → a ≠ b → (TX11 a).2.1 ≠ (TX11 b).2.1 := by decide +kernel
theorem tyX11_ok : ∀ k, k < 11 → parseFieldDescriptor (TX11 k).2.2.1 = some (tyX11 k) := by decide +kernel
abbrev cX11_salesOf : ByteArray := prog_4_method_5_code
def yX11_salesOf : MethodName := ⟨RX11, "salesOf", "(I)J"⟩
def dkwX11_salesOf_1 : List UInt8 := [167, 255, 237, 32, 173]
abbrev dktX11_salesOf_1 : List UInt8 := dkwX11_salesOf_1 ++ []
def dkwX11_salesOf_0 : List UInt8 := [9, 65, 3, 54, 4, 21, 4, 27, 162, 0, 19, 32, 42, 180, 0, 24, 21, 4, 47, 97, 65, 132, 4, 1]
abbrev dktX11_salesOf_0 : List UInt8 := dkwX11_salesOf_0 ++ dktX11_salesOf_1
theorem dksX11_salesOf_0 : cX11_salesOf.data.toList.drop 0 = dktX11_salesOf_0 := by decide +kernel
theorem dksX11_salesOf_1 : cX11_salesOf.data.toList.drop 24 = dktX11_salesOf_1 := dk_seg dksX11_salesOf_0 24 rfl rfl
theorem dX11_salesOf_0 : decode cX11_salesOf 0 = .ok (.lconst 0, 1) := dk_9 (dk_at dksX11_salesOf_0 0 rfl rfl)
theorem dX11_salesOf_1 : decode cX11_salesOf 1 = .ok (.lstore_n 2, 1) := dk_65 (dk_at dksX11_salesOf_0 1 rfl rfl)
theorem dX11_salesOf_2 : decode cX11_salesOf 2 = .ok (.iconst 0, 1) := dk_3 (dk_at dksX11_salesOf_0 2 rfl rfl)
theorem dX11_salesOf_3 : decode cX11_salesOf 3 = .ok (.istore 4, 2) := dk_54 4 (dk_at dksX11_salesOf_0 3 rfl rfl)
theorem dX11_salesOf_5 : decode cX11_salesOf 5 = .ok (.iload 4, 2) := dk_21 4 (dk_at dksX11_salesOf_0 5 rfl rfl)
theorem dX11_salesOf_7 : decode cX11_salesOf 7 = .ok (.iload_n 1, 1) := dk_27 (dk_at dksX11_salesOf_0 7 rfl rfl)
theorem dX11_salesOf_8 : decode cX11_salesOf 8 = .ok (.if_icmp .ge 19, 3) := dk_162 0 19 (dk_at dksX11_salesOf_0 8 rfl rfl)
theorem dX11_salesOf_11 : decode cX11_salesOf 11 = .ok (.lload_n 2, 1) := dk_32 (dk_at dksX11_salesOf_0 11 rfl rfl)
theorem dX11_salesOf_12 : decode cX11_salesOf 12 = .ok (.aload_n 0, 1) := dk_42 (dk_at dksX11_salesOf_0 12 rfl rfl)
theorem dX11_salesOf_13 : decode cX11_salesOf 13 = .ok (.getfield 24, 3) := dk_180 0 24 (dk_at dksX11_salesOf_0 13 rfl rfl)
theorem dX11_salesOf_16 : decode cX11_salesOf 16 = .ok (.iload 4, 2) := dk_21 4 (dk_at dksX11_salesOf_0 16 rfl rfl)
theorem dX11_salesOf_18 : decode cX11_salesOf 18 = .ok (.laload, 1) := dk_47 (dk_at dksX11_salesOf_0 18 rfl rfl)
theorem dX11_salesOf_19 : decode cX11_salesOf 19 = .ok (.ladd, 1) := dk_97 (dk_at dksX11_salesOf_0 19 rfl rfl)
theorem dX11_salesOf_20 : decode cX11_salesOf 20 = .ok (.lstore_n 2, 1) := dk_65 (dk_at dksX11_salesOf_0 20 rfl rfl)
theorem dX11_salesOf_21 : decode cX11_salesOf 21 = .ok (.iinc 4 1, 3) := dk_132 4 1 (dk_at dksX11_salesOf_0 21 rfl rfl)
theorem dX11_salesOf_24 : decode cX11_salesOf 24 = .ok (.goto (-19), 3) := dk_167 255 237 (dk_at dksX11_salesOf_1 0 rfl rfl)
theorem dX11_salesOf_27 : decode cX11_salesOf 27 = .ok (.lload_n 2, 1) := dk_32 (dk_at dksX11_salesOf_1 3 rfl rfl)
theorem dX11_salesOf_28 : decode cX11_salesOf 28 = .ok (.lreturn, 1) := dk_173 (dk_at dksX11_salesOf_1 4 rfl rfl)
abbrev cX11_copy : ByteArray := prog_4_method_2_code
def yX11_copy : MethodName := ⟨RX11, "copy", "(I)LFranchiseLedger$Franchisee;"⟩
def dkwX11_copy_4 : List UInt8 := [44, 42, 180, 0, 63, 181, 0, 63, 44, 176]
abbrev dktX11_copy_4 : List UInt8 := dkwX11_copy_4 ++ []
def dkwX11_copy_3 : List UInt8 := [44, 42, 180, 0, 53, 181, 0, 53, 44, 42, 180, 0, 56, 181, 0, 56, 44, 42, 180, 0, 60, 181, 0, 60]
abbrev dktX11_copy_3 : List UInt8 := dkwX11_copy_3 ++ dktX11_copy_4
def dkwX11_copy_2 : List UInt8 := [180, 0, 24, 3, 27, 184, 0, 44, 44, 42, 180, 0, 27, 181, 0, 27, 44, 42, 180, 0, 50, 181, 0, 50]
abbrev dktX11_copy_2 : List UInt8 := dkwX11_copy_2 ++ dktX11_copy_3
def dkwX11_copy_1 : List UInt8 := [182, 0, 40, 42, 180, 0, 20, 3, 44, 180, 0, 20, 3, 27, 184, 0, 44, 42, 180, 0, 24, 3, 44]
abbrev dktX11_copy_1 : List UInt8 := dkwX11_copy_1 ++ dktX11_copy_2
def dkwX11_copy_0 : List UInt8 := [187, 0, 13, 89, 42, 180, 0, 31, 42, 180, 0, 34, 183, 0, 37, 77, 44, 180, 0, 12, 42, 180, 0, 12]
abbrev dktX11_copy_0 : List UInt8 := dkwX11_copy_0 ++ dktX11_copy_1
theorem dksX11_copy_0 : cX11_copy.data.toList.drop 0 = dktX11_copy_0 := by decide +kernel
theorem dksX11_copy_1 : cX11_copy.data.toList.drop 24 = dktX11_copy_1 := dk_seg dksX11_copy_0 24 rfl rfl
theorem dksX11_copy_2 : cX11_copy.data.toList.drop 47 = dktX11_copy_2 := dk_seg dksX11_copy_1 23 rfl rfl
theorem dksX11_copy_3 : cX11_copy.data.toList.drop 71 = dktX11_copy_3 := dk_seg dksX11_copy_2 24 rfl rfl
theorem dksX11_copy_4 : cX11_copy.data.toList.drop 95 = dktX11_copy_4 := dk_seg dksX11_copy_3 24 rfl rfl
theorem dX11_copy_0 : decode cX11_copy 0 = .ok (.new 13, 3) := dk_187 0 13 (dk_at dksX11_copy_0 0 rfl rfl)
theorem dX11_copy_3 : decode cX11_copy 3 = .ok (.dup, 1) := dk_89 (dk_at dksX11_copy_0 3 rfl rfl)
theorem dX11_copy_4 : decode cX11_copy 4 = .ok (.aload_n 0, 1) := dk_42 (dk_at dksX11_copy_0 4 rfl rfl)
theorem dX11_copy_5 : decode cX11_copy 5 = .ok (.getfield 31, 3) := dk_180 0 31 (dk_at dksX11_copy_0 5 rfl rfl)
theorem dX11_copy_8 : decode cX11_copy 8 = .ok (.aload_n 0, 1) := dk_42 (dk_at dksX11_copy_0 8 rfl rfl)
theorem dX11_copy_9 : decode cX11_copy 9 = .ok (.getfield 34, 3) := dk_180 0 34 (dk_at dksX11_copy_0 9 rfl rfl)
theorem dX11_copy_12 : decode cX11_copy 12 = .ok (.invokespecial 37, 3) := dk_183 0 37 (dk_at dksX11_copy_0 12 rfl rfl)
theorem dX11_copy_15 : decode cX11_copy 15 = .ok (.astore_n 2, 1) := dk_77 (dk_at dksX11_copy_0 15 rfl rfl)
theorem dX11_copy_16 : decode cX11_copy 16 = .ok (.aload_n 2, 1) := dk_44 (dk_at dksX11_copy_0 16 rfl rfl)
theorem dX11_copy_17 : decode cX11_copy 17 = .ok (.getfield 12, 3) := dk_180 0 12 (dk_at dksX11_copy_0 17 rfl rfl)
theorem dX11_copy_20 : decode cX11_copy 20 = .ok (.aload_n 0, 1) := dk_42 (dk_at dksX11_copy_0 20 rfl rfl)
theorem dX11_copy_21 : decode cX11_copy 21 = .ok (.getfield 12, 3) := dk_180 0 12 (dk_at dksX11_copy_0 21 rfl rfl)
theorem dX11_copy_24 : decode cX11_copy 24 = .ok (.invokevirtual 40, 3) := dk_182 0 40 (dk_at dksX11_copy_1 0 rfl rfl)
theorem dX11_copy_27 : decode cX11_copy 27 = .ok (.aload_n 0, 1) := dk_42 (dk_at dksX11_copy_1 3 rfl rfl)
theorem dX11_copy_28 : decode cX11_copy 28 = .ok (.getfield 20, 3) := dk_180 0 20 (dk_at dksX11_copy_1 4 rfl rfl)
theorem dX11_copy_31 : decode cX11_copy 31 = .ok (.iconst 0, 1) := dk_3 (dk_at dksX11_copy_1 7 rfl rfl)
theorem dX11_copy_32 : decode cX11_copy 32 = .ok (.aload_n 2, 1) := dk_44 (dk_at dksX11_copy_1 8 rfl rfl)
theorem dX11_copy_33 : decode cX11_copy 33 = .ok (.getfield 20, 3) := dk_180 0 20 (dk_at dksX11_copy_1 9 rfl rfl)
theorem dX11_copy_36 : decode cX11_copy 36 = .ok (.iconst 0, 1) := dk_3 (dk_at dksX11_copy_1 12 rfl rfl)
theorem dX11_copy_37 : decode cX11_copy 37 = .ok (.iload_n 1, 1) := dk_27 (dk_at dksX11_copy_1 13 rfl rfl)
theorem dX11_copy_38 : decode cX11_copy 38 = .ok (.invokestatic 44, 3) := dk_184 0 44 (dk_at dksX11_copy_1 14 rfl rfl)
theorem dX11_copy_41 : decode cX11_copy 41 = .ok (.aload_n 0, 1) := dk_42 (dk_at dksX11_copy_1 17 rfl rfl)
theorem dX11_copy_42 : decode cX11_copy 42 = .ok (.getfield 24, 3) := dk_180 0 24 (dk_at dksX11_copy_1 18 rfl rfl)
theorem dX11_copy_45 : decode cX11_copy 45 = .ok (.iconst 0, 1) := dk_3 (dk_at dksX11_copy_1 21 rfl rfl)
theorem dX11_copy_46 : decode cX11_copy 46 = .ok (.aload_n 2, 1) := dk_44 (dk_at dksX11_copy_1 22 rfl rfl)
theorem dX11_copy_47 : decode cX11_copy 47 = .ok (.getfield 24, 3) := dk_180 0 24 (dk_at dksX11_copy_2 0 rfl rfl)
theorem dX11_copy_50 : decode cX11_copy 50 = .ok (.iconst 0, 1) := dk_3 (dk_at dksX11_copy_2 3 rfl rfl)
theorem dX11_copy_51 : decode cX11_copy 51 = .ok (.iload_n 1, 1) := dk_27 (dk_at dksX11_copy_2 4 rfl rfl)
theorem dX11_copy_52 : decode cX11_copy 52 = .ok (.invokestatic 44, 3) := dk_184 0 44 (dk_at dksX11_copy_2 5 rfl rfl)
theorem dX11_copy_55 : decode cX11_copy 55 = .ok (.aload_n 2, 1) := dk_44 (dk_at dksX11_copy_2 8 rfl rfl)
theorem dX11_copy_56 : decode cX11_copy 56 = .ok (.aload_n 0, 1) := dk_42 (dk_at dksX11_copy_2 9 rfl rfl)
theorem dX11_copy_57 : decode cX11_copy 57 = .ok (.getfield 27, 3) := dk_180 0 27 (dk_at dksX11_copy_2 10 rfl rfl)
theorem dX11_copy_60 : decode cX11_copy 60 = .ok (.putfield 27, 3) := dk_181 0 27 (dk_at dksX11_copy_2 13 rfl rfl)
theorem dX11_copy_63 : decode cX11_copy 63 = .ok (.aload_n 2, 1) := dk_44 (dk_at dksX11_copy_2 16 rfl rfl)
theorem dX11_copy_64 : decode cX11_copy 64 = .ok (.aload_n 0, 1) := dk_42 (dk_at dksX11_copy_2 17 rfl rfl)
theorem dX11_copy_65 : decode cX11_copy 65 = .ok (.getfield 50, 3) := dk_180 0 50 (dk_at dksX11_copy_2 18 rfl rfl)
theorem dX11_copy_68 : decode cX11_copy 68 = .ok (.putfield 50, 3) := dk_181 0 50 (dk_at dksX11_copy_2 21 rfl rfl)
theorem dX11_copy_71 : decode cX11_copy 71 = .ok (.aload_n 2, 1) := dk_44 (dk_at dksX11_copy_3 0 rfl rfl)
theorem dX11_copy_72 : decode cX11_copy 72 = .ok (.aload_n 0, 1) := dk_42 (dk_at dksX11_copy_3 1 rfl rfl)
theorem dX11_copy_73 : decode cX11_copy 73 = .ok (.getfield 53, 3) := dk_180 0 53 (dk_at dksX11_copy_3 2 rfl rfl)
theorem dX11_copy_76 : decode cX11_copy 76 = .ok (.putfield 53, 3) := dk_181 0 53 (dk_at dksX11_copy_3 5 rfl rfl)
theorem dX11_copy_79 : decode cX11_copy 79 = .ok (.aload_n 2, 1) := dk_44 (dk_at dksX11_copy_3 8 rfl rfl)
theorem dX11_copy_80 : decode cX11_copy 80 = .ok (.aload_n 0, 1) := dk_42 (dk_at dksX11_copy_3 9 rfl rfl)
theorem dX11_copy_81 : decode cX11_copy 81 = .ok (.getfield 56, 3) := dk_180 0 56 (dk_at dksX11_copy_3 10 rfl rfl)
theorem dX11_copy_84 : decode cX11_copy 84 = .ok (.putfield 56, 3) := dk_181 0 56 (dk_at dksX11_copy_3 13 rfl rfl)
theorem dX11_copy_87 : decode cX11_copy 87 = .ok (.aload_n 2, 1) := dk_44 (dk_at dksX11_copy_3 16 rfl rfl)
theorem dX11_copy_88 : decode cX11_copy 88 = .ok (.aload_n 0, 1) := dk_42 (dk_at dksX11_copy_3 17 rfl rfl)
theorem dX11_copy_89 : decode cX11_copy 89 = .ok (.getfield 60, 3) := dk_180 0 60 (dk_at dksX11_copy_3 18 rfl rfl)
theorem dX11_copy_92 : decode cX11_copy 92 = .ok (.putfield 60, 3) := dk_181 0 60 (dk_at dksX11_copy_3 21 rfl rfl)
theorem dX11_copy_95 : decode cX11_copy 95 = .ok (.aload_n 2, 1) := dk_44 (dk_at dksX11_copy_4 0 rfl rfl)
theorem dX11_copy_96 : decode cX11_copy 96 = .ok (.aload_n 0, 1) := dk_42 (dk_at dksX11_copy_4 1 rfl rfl)
theorem dX11_copy_97 : decode cX11_copy 97 = .ok (.getfield 63, 3) := dk_180 0 63 (dk_at dksX11_copy_4 2 rfl rfl)
theorem dX11_copy_100 : decode cX11_copy 100 = .ok (.putfield 63, 3) := dk_181 0 63 (dk_at dksX11_copy_4 5 rfl rfl)
theorem dX11_copy_103 : decode cX11_copy 103 = .ok (.aload_n 2, 1) := dk_44 (dk_at dksX11_copy_4 8 rfl rfl)
theorem dX11_copy_104 : decode cX11_copy 104 = .ok (.areturn, 1) := dk_176 (dk_at dksX11_copy_4 9 rfl rfl)
abbrev cX11_init : ByteArray := prog_4_method_1_code
def yX11_init : MethodName := ⟨RX11, "<init>", "(II)V"⟩
def dkwX11_init_1 : List UInt8 := [42, 16, 60, 188, 11, 181, 0, 24, 42, 3, 181, 0, 27, 42, 27, 181, 0, 31, 42, 28, 181, 0, 34, 177]
abbrev dktX11_init_1 : List UInt8 := dkwX11_init_1 ++ []
def dkwX11_init_0 : List UInt8 := [42, 183, 0, 3, 42, 187, 0, 9, 89, 183, 0, 11, 181, 0, 12, 42, 16, 60, 189, 0, 18, 181, 0, 20]
abbrev dktX11_init_0 : List UInt8 := dkwX11_init_0 ++ dktX11_init_1
theorem dksX11_init_0 : cX11_init.data.toList.drop 0 = dktX11_init_0 := by decide +kernel
theorem dksX11_init_1 : cX11_init.data.toList.drop 24 = dktX11_init_1 := dk_seg dksX11_init_0 24 rfl rfl
theorem dX11_init_0 : decode cX11_init 0 = .ok (.aload_n 0, 1) := dk_42 (dk_at dksX11_init_0 0 rfl rfl)
theorem dX11_init_1 : decode cX11_init 1 = .ok (.invokespecial 3, 3) := dk_183 0 3 (dk_at dksX11_init_0 1 rfl rfl)
theorem dX11_init_4 : decode cX11_init 4 = .ok (.aload_n 0, 1) := dk_42 (dk_at dksX11_init_0 4 rfl rfl)
theorem dX11_init_5 : decode cX11_init 5 = .ok (.new 9, 3) := dk_187 0 9 (dk_at dksX11_init_0 5 rfl rfl)
theorem dX11_init_8 : decode cX11_init 8 = .ok (.dup, 1) := dk_89 (dk_at dksX11_init_0 8 rfl rfl)
theorem dX11_init_9 : decode cX11_init 9 = .ok (.invokespecial 11, 3) := dk_183 0 11 (dk_at dksX11_init_0 9 rfl rfl)
theorem dX11_init_12 : decode cX11_init 12 = .ok (.putfield 12, 3) := dk_181 0 12 (dk_at dksX11_init_0 12 rfl rfl)
theorem dX11_init_15 : decode cX11_init 15 = .ok (.aload_n 0, 1) := dk_42 (dk_at dksX11_init_0 15 rfl rfl)
theorem dX11_init_16 : decode cX11_init 16 = .ok (.bipush 60, 2) := dk_16 60 (dk_at dksX11_init_0 16 rfl rfl)
theorem dX11_init_18 : decode cX11_init 18 = .ok (.anewarray 18, 3) := dk_189 0 18 (dk_at dksX11_init_0 18 rfl rfl)
theorem dX11_init_21 : decode cX11_init 21 = .ok (.putfield 20, 3) := dk_181 0 20 (dk_at dksX11_init_0 21 rfl rfl)
theorem dX11_init_24 : decode cX11_init 24 = .ok (.aload_n 0, 1) := dk_42 (dk_at dksX11_init_1 0 rfl rfl)
theorem dX11_init_25 : decode cX11_init 25 = .ok (.bipush 60, 2) := dk_16 60 (dk_at dksX11_init_1 1 rfl rfl)
theorem dX11_init_27 : decode cX11_init 27 = .ok (.newarray .long, 2) := dk_188_11 (dk_at dksX11_init_1 3 rfl rfl)
theorem dX11_init_29 : decode cX11_init 29 = .ok (.putfield 24, 3) := dk_181 0 24 (dk_at dksX11_init_1 5 rfl rfl)
theorem dX11_init_32 : decode cX11_init 32 = .ok (.aload_n 0, 1) := dk_42 (dk_at dksX11_init_1 8 rfl rfl)
theorem dX11_init_33 : decode cX11_init 33 = .ok (.iconst 0, 1) := dk_3 (dk_at dksX11_init_1 9 rfl rfl)
theorem dX11_init_34 : decode cX11_init 34 = .ok (.putfield 27, 3) := dk_181 0 27 (dk_at dksX11_init_1 10 rfl rfl)
theorem dX11_init_37 : decode cX11_init 37 = .ok (.aload_n 0, 1) := dk_42 (dk_at dksX11_init_1 13 rfl rfl)
theorem dX11_init_38 : decode cX11_init 38 = .ok (.iload_n 1, 1) := dk_27 (dk_at dksX11_init_1 14 rfl rfl)
theorem dX11_init_39 : decode cX11_init 39 = .ok (.putfield 31, 3) := dk_181 0 31 (dk_at dksX11_init_1 15 rfl rfl)
theorem dX11_init_42 : decode cX11_init 42 = .ok (.aload_n 0, 1) := dk_42 (dk_at dksX11_init_1 18 rfl rfl)
theorem dX11_init_43 : decode cX11_init 43 = .ok (.iload_n 2, 1) := dk_28 (dk_at dksX11_init_1 19 rfl rfl)
theorem dX11_init_44 : decode cX11_init 44 = .ok (.putfield 34, 3) := dk_181 0 34 (dk_at dksX11_init_1 20 rfl rfl)
theorem dX11_init_47 : decode cX11_init 47 = .ok (.return_, 1) := dk_177 (dk_at dksX11_init_1 23 rfl rfl)
abbrev cX11_isActive : ByteArray := prog_4_method_3_code
def yX11_isActive : MethodName := ⟨RX11, "isActive", "()Z"⟩
def dkwX11_isActive_0 : List UInt8 := [42, 180, 0, 27, 154, 0, 7, 4, 167, 0, 4, 3, 172]
abbrev dktX11_isActive_0 : List UInt8 := dkwX11_isActive_0 ++ []
theorem dksX11_isActive_0 : cX11_isActive.data.toList.drop 0 = dktX11_isActive_0 := by decide +kernel
theorem dX11_isActive_0 : decode cX11_isActive 0 = .ok (.aload_n 0, 1) := dk_42 (dk_at dksX11_isActive_0 0 rfl rfl)
theorem dX11_isActive_1 : decode cX11_isActive 1 = .ok (.getfield 27, 3) := dk_180 0 27 (dk_at dksX11_isActive_0 1 rfl rfl)
theorem dX11_isActive_4 : decode cX11_isActive 4 = .ok (.ifCond .ne 7, 3) := dk_154 0 7 (dk_at dksX11_isActive_0 4 rfl rfl)
theorem dX11_isActive_7 : decode cX11_isActive 7 = .ok (.iconst 1, 1) := dk_4 (dk_at dksX11_isActive_0 7 rfl rfl)
theorem dX11_isActive_8 : decode cX11_isActive 8 = .ok (.goto 4, 3) := dk_167 0 4 (dk_at dksX11_isActive_0 8 rfl rfl)
theorem dX11_isActive_11 : decode cX11_isActive 11 = .ok (.iconst 0, 1) := dk_3 (dk_at dksX11_isActive_0 11 rfl rfl)
theorem dX11_isActive_12 : decode cX11_isActive 12 = .ok (.ireturn, 1) := dk_172 (dk_at dksX11_isActive_0 12 rfl rfl)
abbrev cX11_allowance : ByteArray := prog_4_method_4_code
def yX11_allowance : MethodName := ⟨RX11, "allowance", "()J"⟩
def dkwX11_allowance_0 : List UInt8 := [42, 180, 0, 60, 20, 0, 66, 109, 42, 180, 0, 63, 101, 173]
abbrev dktX11_allowance_0 : List UInt8 := dkwX11_allowance_0 ++ []
theorem dksX11_allowance_0 : cX11_allowance.data.toList.drop 0 = dktX11_allowance_0 := by decide +kernel
theorem dX11_allowance_0 : decode cX11_allowance 0 = .ok (.aload_n 0, 1) := dk_42 (dk_at dksX11_allowance_0 0 rfl rfl)
theorem dX11_allowance_1 : decode cX11_allowance 1 = .ok (.getfield 60, 3) := dk_180 0 60 (dk_at dksX11_allowance_0 1 rfl rfl)
theorem dX11_allowance_4 : decode cX11_allowance 4 = .ok (.ldc2_w 66, 3) := dk_20 0 66 (dk_at dksX11_allowance_0 4 rfl rfl)
theorem dX11_allowance_7 : decode cX11_allowance 7 = .ok (.ldiv, 1) := dk_109 (dk_at dksX11_allowance_0 7 rfl rfl)
theorem dX11_allowance_8 : decode cX11_allowance 8 = .ok (.aload_n 0, 1) := dk_42 (dk_at dksX11_allowance_0 8 rfl rfl)
theorem dX11_allowance_9 : decode cX11_allowance 9 = .ok (.getfield 63, 3) := dk_180 0 63 (dk_at dksX11_allowance_0 9 rfl rfl)
theorem dX11_allowance_12 : decode cX11_allowance 12 = .ok (.lsub, 1) := dk_101 (dk_at dksX11_allowance_0 12 rfl rfl)
theorem dX11_allowance_13 : decode cX11_allowance 13 = .ok (.lreturn, 1) := dk_173 (dk_at dksX11_allowance_0 13 rfl rfl)
theorem q167 : (Jvm.Cond.initialized "FranchiseLedger$Franchisee") ∈ lw_all := lw_g (lw_at lw_m1 39 rfl) rfl
theorem q817 : (Jvm.Cond.instanceMethod ({ cls := "FranchiseLedger$Franchisee", name := "salesOf", desc := "(I)J" } : Jvm.MethodName)) ∈ lw_all := lw_g (lw_at lw_m3 209 rfl) rfl
theorem q818 : (Jvm.Cond.selects "FranchiseLedger$Franchisee" ({ cls := "FranchiseLedger$Franchisee", name := "salesOf", desc := "(I)J" } : Jvm.MethodName) ({ cls := "FranchiseLedger$Franchisee", name := "salesOf", desc := "(I)J" } : Jvm.MethodName)) ∈ lw_all := lw_g (lw_at lw_m3 210 rfl) rfl
theorem q819 : (Jvm.Cond.code ({ cls := "FranchiseLedger$Franchisee", name := "salesOf", desc := "(I)J" } : Jvm.MethodName) prog_4_method_5_code (5 : Nat) (Option.some Jvm.ClassFile.FieldType.long)) ∈ lw_all := lw_g (lw_at lw_m3 211 rfl) rfl
theorem q858 : (Jvm.Cond.instanceMethod ({ cls := "FranchiseLedger$Franchisee", name := "copy", desc := "(I)LFranchiseLedger$Franchisee;" } : Jvm.MethodName)) ∈ lw_all := lw_g (lw_at lw_m4 10 rfl) rfl
theorem q859 : (Jvm.Cond.selects "FranchiseLedger$Franchisee" ({ cls := "FranchiseLedger$Franchisee", name := "copy", desc := "(I)LFranchiseLedger$Franchisee;" } : Jvm.MethodName) ({ cls := "FranchiseLedger$Franchisee", name := "copy", desc := "(I)LFranchiseLedger$Franchisee;" } : Jvm.MethodName)) ∈ lw_all := lw_g (lw_at lw_m4 11 rfl) rfl
theorem q860 : (Jvm.Cond.code ({ cls := "FranchiseLedger$Franchisee", name := "copy", desc := "(I)LFranchiseLedger$Franchisee;" } : Jvm.MethodName) prog_4_method_2_code (3 : Nat) (Option.some (Jvm.ClassFile.FieldType.object "FranchiseLedger$Franchisee"))) ∈ lw_all := lw_g (lw_at lw_m4 12 rfl) rfl
theorem q861 : (Jvm.Cond.classLink "FranchiseLedger$Franchisee" (13 : Nat) "FranchiseLedger$Franchisee") ∈ lw_all := lw_g (lw_at lw_m4 13 rfl) rfl
theorem q862 : (Jvm.Cond.instantiable "FranchiseLedger$Franchisee" (11 : Nat)) ∈ lw_all := lw_g (lw_at lw_m4 14 rfl) rfl
theorem q863 : (Jvm.Cond.methodLink "FranchiseLedger$Franchisee" (37 : Nat) ({ cls := "FranchiseLedger$Franchisee", name := "<init>", desc := "(II)V" } : Jvm.MethodName)) ∈ lw_all := lw_g (lw_at lw_m4 15 rfl) rfl
theorem q864 : (Jvm.Cond.instanceMethod ({ cls := "FranchiseLedger$Franchisee", name := "<init>", desc := "(II)V" } : Jvm.MethodName)) ∈ lw_all := lw_g (lw_at lw_m4 16 rfl) rfl
theorem q865 : (Jvm.Cond.code ({ cls := "FranchiseLedger$Franchisee", name := "<init>", desc := "(II)V" } : Jvm.MethodName) prog_4_method_1_code (3 : Nat) (Option.none : Option Jvm.ClassFile.FieldType)) ∈ lw_all := lw_g (lw_at lw_m4 17 rfl) rfl
theorem q866 : (Jvm.Cond.methodLink "FranchiseLedger$Franchisee" (3 : Nat) ({ cls := "java/lang/Object", name := "<init>", desc := "()V" } : Jvm.MethodName)) ∈ lw_all := lw_g (lw_at lw_m4 18 rfl) rfl
theorem q867 : (Jvm.Cond.classLink "FranchiseLedger$Franchisee" (9 : Nat) "FranchiseLedger$Transfer") ∈ lw_all := lw_g (lw_at lw_m4 19 rfl) rfl
theorem q869 : (Jvm.Cond.methodLinkNest "FranchiseLedger$Franchisee" (11 : Nat) ({ cls := "FranchiseLedger$Transfer", name := "<init>", desc := "()V" } : Jvm.MethodName) "FranchiseLedger") ∈ lw_tbl := lw_at lw_m4 21 rfl
theorem q902 : (Jvm.Cond.classLink "FranchiseLedger$Franchisee" (18 : Nat) "[J") ∈ lw_all := lw_g (lw_at lw_m4 54 rfl) rfl
theorem q903 : (Jvm.Cond.fieldLink "FranchiseLedger$Franchisee" (12 : Nat) "FranchiseLedger$Franchisee" "transfer" "LFranchiseLedger$Transfer;") ∈ lw_all := lw_g (lw_at lw_m4 55 rfl) rfl
theorem q906 : (Jvm.Cond.fieldLink "FranchiseLedger$Franchisee" (20 : Nat) "FranchiseLedger$Franchisee" "invoices" "[[J") ∈ lw_all := lw_g (lw_at lw_m4 58 rfl) rfl
theorem q909 : (Jvm.Cond.fieldLink "FranchiseLedger$Franchisee" (24 : Nat) "FranchiseLedger$Franchisee" "sales" "[J") ∈ lw_all := lw_g (lw_at lw_m4 61 rfl) rfl
theorem q912 : (Jvm.Cond.fieldLink "FranchiseLedger$Franchisee" (31 : Nat) "FranchiseLedger$Franchisee" "plan" "I") ∈ lw_all := lw_g (lw_at lw_m4 64 rfl) rfl
theorem q915 : (Jvm.Cond.fieldLink "FranchiseLedger$Franchisee" (34 : Nat) "FranchiseLedger$Franchisee" "worth" "I") ∈ lw_all := lw_g (lw_at lw_m4 67 rfl) rfl
theorem q918 : (Jvm.Cond.fieldLink "FranchiseLedger$Franchisee" (27 : Nat) "FranchiseLedger$Franchisee" "status" "I") ∈ lw_all := lw_g (lw_at lw_m4 70 rfl) rfl
theorem q921 : (Jvm.Cond.fieldLink "FranchiseLedger$Franchisee" (50 : Nat) "FranchiseLedger$Franchisee" "generation" "I") ∈ lw_all := lw_g (lw_at lw_m4 73 rfl) rfl
theorem q924 : (Jvm.Cond.fieldLink "FranchiseLedger$Franchisee" (53 : Nat) "FranchiseLedger$Franchisee" "overdue" "I") ∈ lw_all := lw_g (lw_at lw_m4 76 rfl) rfl
theorem q927 : (Jvm.Cond.fieldLink "FranchiseLedger$Franchisee" (56 : Nat) "FranchiseLedger$Franchisee" "balance" "J") ∈ lw_all := lw_g (lw_at lw_m4 79 rfl) rfl
theorem q930 : (Jvm.Cond.fieldLink "FranchiseLedger$Franchisee" (60 : Nat) "FranchiseLedger$Franchisee" "contributions" "J") ∈ lw_all := lw_g (lw_at lw_m4 82 rfl) rfl
theorem q933 : (Jvm.Cond.fieldLink "FranchiseLedger$Franchisee" (63 : Nat) "FranchiseLedger$Franchisee" "grants" "J") ∈ lw_all := lw_g (lw_at lw_m4 85 rfl) rfl
theorem q935 : (Jvm.Cond.laysFinal "FranchiseLedger$Franchisee" "FranchiseLedger$Franchisee" "transfer" "LFranchiseLedger$Transfer;") ∈ lw_all := lw_g (lw_at lw_m4 87 rfl) rfl
theorem q936 : (Jvm.Cond.soleField "FranchiseLedger$Franchisee" "transfer") ∈ lw_all := lw_g (lw_at lw_m4 88 rfl) rfl
theorem q937 : (Jvm.Cond.laysFinal "FranchiseLedger$Franchisee" "FranchiseLedger$Franchisee" "invoices" "[[J") ∈ lw_all := lw_g (lw_at lw_m4 89 rfl) rfl
theorem q938 : (Jvm.Cond.soleField "FranchiseLedger$Franchisee" "invoices") ∈ lw_all := lw_g (lw_at lw_m4 90 rfl) rfl
theorem q939 : (Jvm.Cond.laysFinal "FranchiseLedger$Franchisee" "FranchiseLedger$Franchisee" "sales" "[J") ∈ lw_all := lw_g (lw_at lw_m4 91 rfl) rfl
theorem q940 : (Jvm.Cond.soleField "FranchiseLedger$Franchisee" "sales") ∈ lw_all := lw_g (lw_at lw_m4 92 rfl) rfl
theorem q941 : (Jvm.Cond.lays "FranchiseLedger$Franchisee" "FranchiseLedger$Franchisee" "plan" "I") ∈ lw_all := lw_g (lw_at lw_m4 93 rfl) rfl
theorem q942 : (Jvm.Cond.soleField "FranchiseLedger$Franchisee" "plan") ∈ lw_all := lw_g (lw_at lw_m4 94 rfl) rfl
theorem q943 : (Jvm.Cond.lays "FranchiseLedger$Franchisee" "FranchiseLedger$Franchisee" "worth" "I") ∈ lw_all := lw_g (lw_at lw_m4 95 rfl) rfl
theorem q944 : (Jvm.Cond.soleField "FranchiseLedger$Franchisee" "worth") ∈ lw_all := lw_g (lw_at lw_m4 96 rfl) rfl
theorem q945 : (Jvm.Cond.lays "FranchiseLedger$Franchisee" "FranchiseLedger$Franchisee" "status" "I") ∈ lw_all := lw_g (lw_at lw_m4 97 rfl) rfl
theorem q946 : (Jvm.Cond.soleField "FranchiseLedger$Franchisee" "status") ∈ lw_all := lw_g (lw_at lw_m4 98 rfl) rfl
theorem q947 : (Jvm.Cond.lays "FranchiseLedger$Franchisee" "FranchiseLedger$Franchisee" "generation" "I") ∈ lw_all := lw_g (lw_at lw_m4 99 rfl) rfl
theorem q948 : (Jvm.Cond.soleField "FranchiseLedger$Franchisee" "generation") ∈ lw_all := lw_g (lw_at lw_m4 100 rfl) rfl
theorem q949 : (Jvm.Cond.lays "FranchiseLedger$Franchisee" "FranchiseLedger$Franchisee" "overdue" "I") ∈ lw_all := lw_g (lw_at lw_m4 101 rfl) rfl
theorem q950 : (Jvm.Cond.soleField "FranchiseLedger$Franchisee" "overdue") ∈ lw_all := lw_g (lw_at lw_m4 102 rfl) rfl
theorem q951 : (Jvm.Cond.lays "FranchiseLedger$Franchisee" "FranchiseLedger$Franchisee" "balance" "J") ∈ lw_all := lw_g (lw_at lw_m4 103 rfl) rfl
theorem q952 : (Jvm.Cond.soleField "FranchiseLedger$Franchisee" "balance") ∈ lw_all := lw_g (lw_at lw_m4 104 rfl) rfl
theorem q953 : (Jvm.Cond.lays "FranchiseLedger$Franchisee" "FranchiseLedger$Franchisee" "contributions" "J") ∈ lw_all := lw_g (lw_at lw_m4 105 rfl) rfl
theorem q954 : (Jvm.Cond.soleField "FranchiseLedger$Franchisee" "contributions") ∈ lw_all := lw_g (lw_at lw_m4 106 rfl) rfl
theorem q955 : (Jvm.Cond.lays "FranchiseLedger$Franchisee" "FranchiseLedger$Franchisee" "grants" "J") ∈ lw_all := lw_g (lw_at lw_m4 107 rfl) rfl
theorem q956 : (Jvm.Cond.soleField "FranchiseLedger$Franchisee" "grants") ∈ lw_all := lw_g (lw_at lw_m4 108 rfl) rfl
theorem q957 : (Jvm.Cond.superclass "FranchiseLedger$Franchisee" "java/lang/Object") ∈ lw_all := lw_g (lw_at lw_m4 109 rfl) rfl
theorem q958 : (Jvm.Cond.methodLink "FranchiseLedger$Franchisee" (40 : Nat) ({ cls := "FranchiseLedger$Transfer", name := "like", desc := "(LFranchiseLedger$Transfer;)V" } : Jvm.MethodName)) ∈ lw_all := lw_g (lw_at lw_m4 110 rfl) rfl
theorem q962 : (Jvm.Cond.methodLink "FranchiseLedger$Franchisee" (44 : Nat) ({ cls := "java/lang/System", name := "arraycopy", desc := "(Ljava/lang/Object;ILjava/lang/Object;II)V" } : Jvm.MethodName)) ∈ lw_all := lw_g (lw_at lw_m4 114 rfl) rfl
theorem q996 : (Jvm.Cond.selects "FranchiseLedger$Franchisee" ({ cls := "java/lang/Object", name := "getClass", desc := "()Ljava/lang/Class;" } : Jvm.MethodName) ({ cls := "java/lang/Object", name := "getClass", desc := "()Ljava/lang/Class;" } : Jvm.MethodName)) ∈ lw_all := lw_g (lw_at lw_m4 148 rfl) rfl
theorem q1883 : (Jvm.Cond.instanceMethod ({ cls := "FranchiseLedger$Franchisee", name := "isActive", desc := "()Z" } : Jvm.MethodName)) ∈ lw_all := lw_g (lw_at lw_m8 75 rfl) rfl
theorem q1884 : (Jvm.Cond.selects "FranchiseLedger$Franchisee" ({ cls := "FranchiseLedger$Franchisee", name := "isActive", desc := "()Z" } : Jvm.MethodName) ({ cls := "FranchiseLedger$Franchisee", name := "isActive", desc := "()Z" } : Jvm.MethodName)) ∈ lw_all := lw_g (lw_at lw_m8 76 rfl) rfl
theorem q1885 : (Jvm.Cond.code ({ cls := "FranchiseLedger$Franchisee", name := "isActive", desc := "()Z" } : Jvm.MethodName) prog_4_method_3_code (1 : Nat) (Option.some Jvm.ClassFile.FieldType.boolean)) ∈ lw_all := lw_g (lw_at lw_m8 77 rfl) rfl
theorem q1900 : (Jvm.Cond.instanceMethod ({ cls := "FranchiseLedger$Franchisee", name := "allowance", desc := "()J" } : Jvm.MethodName)) ∈ lw_all := lw_g (lw_at lw_m8 92 rfl) rfl
theorem q1901 : (Jvm.Cond.selects "FranchiseLedger$Franchisee" ({ cls := "FranchiseLedger$Franchisee", name := "allowance", desc := "()J" } : Jvm.MethodName) ({ cls := "FranchiseLedger$Franchisee", name := "allowance", desc := "()J" } : Jvm.MethodName)) ∈ lw_all := lw_g (lw_at lw_m8 93 rfl) rfl
theorem q1902 : (Jvm.Cond.code ({ cls := "FranchiseLedger$Franchisee", name := "allowance", desc := "()J" } : Jvm.MethodName) prog_4_method_4_code (1 : Nat) (Option.some Jvm.ClassFile.FieldType.long)) ∈ lw_all := lw_g (lw_at lw_m8 94 rfl) rfl
theorem q1903 : (Jvm.Cond.constantLong "FranchiseLedger$Franchisee" (66 : Nat) (2 : Int64)) ∈ lw_all := lw_g (lw_at lw_m8 95 rfl) rfl
theorem q3274 : (Jvm.Cond.castable "FranchiseLedger$Franchisee" "java/lang/Object") ∈ lw_tbl := lw_at lw_m14 26 rfl
theorem in_X11 : ∀ w ∈ wsX110, w ∈ lw_all := lw_in wsX110 [935, 937, 939, 941, 943, 945, 947, 949, 951, 953, 955] (by decide +kernel) (by decide +kernel)
/-! FranchiseLedger$Transfer -/
set_option maxRecDepth 100000
def RX12 : String := "FranchiseLedger$Transfer"
def TX12 : u_T := fun k => match k with
  | 0 => ("FranchiseLedger$Transfer", "state", "I", false)
  | 1 => ("FranchiseLedger$Transfer", "month", "I", false)
  | 2 => ("FranchiseLedger$Transfer", "worth", "I", false)
  | 3 => ("FranchiseLedger$Transfer", "yes", "I", false)
  | 4 => ("FranchiseLedger$Transfer", "no", "I", false)
  | 5 => ("FranchiseLedger$Transfer", "voted", "I", false)
  | _ => ("FranchiseLedger$Transfer", "price", "J", false)
def tyX12 : Nat → FieldType := fun k => match k with
  | 0 => .int
  | 1 => .int
  | 2 => .int
  | 3 => .int
  | 4 => .int
  | 5 => .int
  | _ => .long
abbrev wsX120 : List Cond := u_ws RX12 TX12 7
theorem nmX12 : ∀ a, a < 7 → ∀ b, b < 7 → a ≠ b → (TX12 a).2.1 ≠ (TX12 b).2.1 := by decide +kernel
theorem tyX12_ok : ∀ k, k < 7 → parseFieldDescriptor (TX12 k).2.2.1 = some (tyX12 k) := by decide +kernel
abbrev cX12_init : ByteArray := prog_15_method_1_code
def yX12_init : MethodName := ⟨RX12, "<init>", "()V"⟩
def dkwX12_init_0 : List UInt8 := [42, 183, 0, 3, 42, 3, 181, 0, 9, 177]
abbrev dktX12_init_0 : List UInt8 := dkwX12_init_0 ++ []
theorem dksX12_init_0 : cX12_init.data.toList.drop 0 = dktX12_init_0 := by decide +kernel
theorem dX12_init_0 : decode cX12_init 0 = .ok (.aload_n 0, 1) := dk_42 (dk_at dksX12_init_0 0 rfl rfl)
theorem dX12_init_1 : decode cX12_init 1 = .ok (.invokespecial 3, 3) := dk_183 0 3 (dk_at dksX12_init_0 1 rfl rfl)
theorem dX12_init_4 : decode cX12_init 4 = .ok (.aload_n 0, 1) := dk_42 (dk_at dksX12_init_0 4 rfl rfl)
theorem dX12_init_5 : decode cX12_init 5 = .ok (.iconst 0, 1) := dk_3 (dk_at dksX12_init_0 5 rfl rfl)
theorem dX12_init_6 : decode cX12_init 6 = .ok (.putfield 9, 3) := dk_181 0 9 (dk_at dksX12_init_0 6 rfl rfl)
theorem dX12_init_9 : decode cX12_init 9 = .ok (.return_, 1) := dk_177 (dk_at dksX12_init_0 9 rfl rfl)
abbrev cX12_like : ByteArray := prog_15_method_2_code
def yX12_like : MethodName := ⟨RX12, "like", "(LFranchiseLedger$Transfer;)V"⟩
def dkwX12_like_2 : List UInt8 := [42, 43, 180, 0, 30, 181, 0, 30, 177]
abbrev dktX12_like_2 : List UInt8 := dkwX12_like_2 ++ []
def dkwX12_like_1 : List UInt8 := [42, 43, 180, 0, 21, 181, 0, 21, 42, 43, 180, 0, 24, 181, 0, 24, 42, 43, 180, 0, 27, 181, 0, 27]
abbrev dktX12_like_1 : List UInt8 := dkwX12_like_1 ++ dktX12_like_2
def dkwX12_like_0 : List UInt8 := [42, 43, 180, 0, 9, 181, 0, 9, 42, 43, 180, 0, 15, 181, 0, 15, 42, 43, 180, 0, 18, 181, 0, 18]
abbrev dktX12_like_0 : List UInt8 := dkwX12_like_0 ++ dktX12_like_1
theorem dksX12_like_0 : cX12_like.data.toList.drop 0 = dktX12_like_0 := by decide +kernel
theorem dksX12_like_1 : cX12_like.data.toList.drop 24 = dktX12_like_1 := dk_seg dksX12_like_0 24 rfl rfl
theorem dksX12_like_2 : cX12_like.data.toList.drop 48 = dktX12_like_2 := dk_seg dksX12_like_1 24 rfl rfl
theorem dX12_like_0 : decode cX12_like 0 = .ok (.aload_n 0, 1) := dk_42 (dk_at dksX12_like_0 0 rfl rfl)
theorem dX12_like_1 : decode cX12_like 1 = .ok (.aload_n 1, 1) := dk_43 (dk_at dksX12_like_0 1 rfl rfl)
theorem dX12_like_2 : decode cX12_like 2 = .ok (.getfield 9, 3) := dk_180 0 9 (dk_at dksX12_like_0 2 rfl rfl)
theorem dX12_like_5 : decode cX12_like 5 = .ok (.putfield 9, 3) := dk_181 0 9 (dk_at dksX12_like_0 5 rfl rfl)
theorem dX12_like_8 : decode cX12_like 8 = .ok (.aload_n 0, 1) := dk_42 (dk_at dksX12_like_0 8 rfl rfl)
theorem dX12_like_9 : decode cX12_like 9 = .ok (.aload_n 1, 1) := dk_43 (dk_at dksX12_like_0 9 rfl rfl)
theorem dX12_like_10 : decode cX12_like 10 = .ok (.getfield 15, 3) := dk_180 0 15 (dk_at dksX12_like_0 10 rfl rfl)
theorem dX12_like_13 : decode cX12_like 13 = .ok (.putfield 15, 3) := dk_181 0 15 (dk_at dksX12_like_0 13 rfl rfl)
theorem dX12_like_16 : decode cX12_like 16 = .ok (.aload_n 0, 1) := dk_42 (dk_at dksX12_like_0 16 rfl rfl)
theorem dX12_like_17 : decode cX12_like 17 = .ok (.aload_n 1, 1) := dk_43 (dk_at dksX12_like_0 17 rfl rfl)
theorem dX12_like_18 : decode cX12_like 18 = .ok (.getfield 18, 3) := dk_180 0 18 (dk_at dksX12_like_0 18 rfl rfl)
theorem dX12_like_21 : decode cX12_like 21 = .ok (.putfield 18, 3) := dk_181 0 18 (dk_at dksX12_like_0 21 rfl rfl)
theorem dX12_like_24 : decode cX12_like 24 = .ok (.aload_n 0, 1) := dk_42 (dk_at dksX12_like_1 0 rfl rfl)
theorem dX12_like_25 : decode cX12_like 25 = .ok (.aload_n 1, 1) := dk_43 (dk_at dksX12_like_1 1 rfl rfl)
theorem dX12_like_26 : decode cX12_like 26 = .ok (.getfield 21, 3) := dk_180 0 21 (dk_at dksX12_like_1 2 rfl rfl)
theorem dX12_like_29 : decode cX12_like 29 = .ok (.putfield 21, 3) := dk_181 0 21 (dk_at dksX12_like_1 5 rfl rfl)
theorem dX12_like_32 : decode cX12_like 32 = .ok (.aload_n 0, 1) := dk_42 (dk_at dksX12_like_1 8 rfl rfl)
theorem dX12_like_33 : decode cX12_like 33 = .ok (.aload_n 1, 1) := dk_43 (dk_at dksX12_like_1 9 rfl rfl)
theorem dX12_like_34 : decode cX12_like 34 = .ok (.getfield 24, 3) := dk_180 0 24 (dk_at dksX12_like_1 10 rfl rfl)
theorem dX12_like_37 : decode cX12_like 37 = .ok (.putfield 24, 3) := dk_181 0 24 (dk_at dksX12_like_1 13 rfl rfl)
theorem dX12_like_40 : decode cX12_like 40 = .ok (.aload_n 0, 1) := dk_42 (dk_at dksX12_like_1 16 rfl rfl)
theorem dX12_like_41 : decode cX12_like 41 = .ok (.aload_n 1, 1) := dk_43 (dk_at dksX12_like_1 17 rfl rfl)
theorem dX12_like_42 : decode cX12_like 42 = .ok (.getfield 27, 3) := dk_180 0 27 (dk_at dksX12_like_1 18 rfl rfl)
theorem dX12_like_45 : decode cX12_like 45 = .ok (.putfield 27, 3) := dk_181 0 27 (dk_at dksX12_like_1 21 rfl rfl)
theorem dX12_like_48 : decode cX12_like 48 = .ok (.aload_n 0, 1) := dk_42 (dk_at dksX12_like_2 0 rfl rfl)
theorem dX12_like_49 : decode cX12_like 49 = .ok (.aload_n 1, 1) := dk_43 (dk_at dksX12_like_2 1 rfl rfl)
theorem dX12_like_50 : decode cX12_like 50 = .ok (.getfield 30, 3) := dk_180 0 30 (dk_at dksX12_like_2 2 rfl rfl)
theorem dX12_like_53 : decode cX12_like 53 = .ok (.putfield 30, 3) := dk_181 0 30 (dk_at dksX12_like_2 5 rfl rfl)
theorem dX12_like_56 : decode cX12_like 56 = .ok (.return_, 1) := dk_177 (dk_at dksX12_like_2 8 rfl rfl)
abbrev cX12_vote : ByteArray := prog_15_method_5_code
def yX12_vote : MethodName := ⟨RX12, "vote", "(IZ)I"⟩
def dkwX12_vote_3 : List UInt8 := [180, 0, 9, 172]
abbrev dktX12_vote_3 : List UInt8 := dkwX12_vote_3 ++ []
def dkwX12_vote_2 : List UInt8 := [160, 0, 7, 5, 167, 0, 16, 42, 180, 0, 24, 6, 160, 0, 7, 6, 167, 0, 4, 4, 181, 0, 9, 42]
abbrev dktX12_vote_2 : List UInt8 := dkwX12_vote_2 ++ dktX12_vote_3
def dkwX12_vote_1 : List UInt8 := [181, 0, 21, 167, 0, 13, 42, 89, 180, 0, 24, 4, 96, 181, 0, 24, 42, 42, 180, 0, 21, 6]
abbrev dktX12_vote_1 : List UInt8 := dkwX12_vote_1 ++ dktX12_vote_2
def dkwX12_vote_0 : List UInt8 := [42, 89, 180, 0, 27, 4, 27, 120, 128, 181, 0, 27, 28, 153, 0, 16, 42, 89, 180, 0, 21, 4, 96]
abbrev dktX12_vote_0 : List UInt8 := dkwX12_vote_0 ++ dktX12_vote_1
theorem dksX12_vote_0 : cX12_vote.data.toList.drop 0 = dktX12_vote_0 := by decide +kernel
theorem dksX12_vote_1 : cX12_vote.data.toList.drop 23 = dktX12_vote_1 := dk_seg dksX12_vote_0 23 rfl rfl
theorem dksX12_vote_2 : cX12_vote.data.toList.drop 45 = dktX12_vote_2 := dk_seg dksX12_vote_1 22 rfl rfl
theorem dksX12_vote_3 : cX12_vote.data.toList.drop 69 = dktX12_vote_3 := dk_seg dksX12_vote_2 24 rfl rfl
theorem dX12_vote_0 : decode cX12_vote 0 = .ok (.aload_n 0, 1) := dk_42 (dk_at dksX12_vote_0 0 rfl rfl)
theorem dX12_vote_1 : decode cX12_vote 1 = .ok (.dup, 1) := dk_89 (dk_at dksX12_vote_0 1 rfl rfl)
theorem dX12_vote_2 : decode cX12_vote 2 = .ok (.getfield 27, 3) := dk_180 0 27 (dk_at dksX12_vote_0 2 rfl rfl)
theorem dX12_vote_5 : decode cX12_vote 5 = .ok (.iconst 1, 1) := dk_4 (dk_at dksX12_vote_0 5 rfl rfl)
theorem dX12_vote_6 : decode cX12_vote 6 = .ok (.iload_n 1, 1) := dk_27 (dk_at dksX12_vote_0 6 rfl rfl)
theorem dX12_vote_7 : decode cX12_vote 7 = .ok (.ishl, 1) := dk_120 (dk_at dksX12_vote_0 7 rfl rfl)
theorem dX12_vote_8 : decode cX12_vote 8 = .ok (.ior, 1) := dk_128 (dk_at dksX12_vote_0 8 rfl rfl)
theorem dX12_vote_9 : decode cX12_vote 9 = .ok (.putfield 27, 3) := dk_181 0 27 (dk_at dksX12_vote_0 9 rfl rfl)
theorem dX12_vote_12 : decode cX12_vote 12 = .ok (.iload_n 2, 1) := dk_28 (dk_at dksX12_vote_0 12 rfl rfl)
theorem dX12_vote_13 : decode cX12_vote 13 = .ok (.ifCond .eq 16, 3) := dk_153 0 16 (dk_at dksX12_vote_0 13 rfl rfl)
theorem dX12_vote_16 : decode cX12_vote 16 = .ok (.aload_n 0, 1) := dk_42 (dk_at dksX12_vote_0 16 rfl rfl)
theorem dX12_vote_17 : decode cX12_vote 17 = .ok (.dup, 1) := dk_89 (dk_at dksX12_vote_0 17 rfl rfl)
theorem dX12_vote_18 : decode cX12_vote 18 = .ok (.getfield 21, 3) := dk_180 0 21 (dk_at dksX12_vote_0 18 rfl rfl)
theorem dX12_vote_21 : decode cX12_vote 21 = .ok (.iconst 1, 1) := dk_4 (dk_at dksX12_vote_0 21 rfl rfl)
theorem dX12_vote_22 : decode cX12_vote 22 = .ok (.iadd, 1) := dk_96 (dk_at dksX12_vote_0 22 rfl rfl)
theorem dX12_vote_23 : decode cX12_vote 23 = .ok (.putfield 21, 3) := dk_181 0 21 (dk_at dksX12_vote_1 0 rfl rfl)
theorem dX12_vote_26 : decode cX12_vote 26 = .ok (.goto 13, 3) := dk_167 0 13 (dk_at dksX12_vote_1 3 rfl rfl)
theorem dX12_vote_29 : decode cX12_vote 29 = .ok (.aload_n 0, 1) := dk_42 (dk_at dksX12_vote_1 6 rfl rfl)
theorem dX12_vote_30 : decode cX12_vote 30 = .ok (.dup, 1) := dk_89 (dk_at dksX12_vote_1 7 rfl rfl)
theorem dX12_vote_31 : decode cX12_vote 31 = .ok (.getfield 24, 3) := dk_180 0 24 (dk_at dksX12_vote_1 8 rfl rfl)
theorem dX12_vote_34 : decode cX12_vote 34 = .ok (.iconst 1, 1) := dk_4 (dk_at dksX12_vote_1 11 rfl rfl)
theorem dX12_vote_35 : decode cX12_vote 35 = .ok (.iadd, 1) := dk_96 (dk_at dksX12_vote_1 12 rfl rfl)
theorem dX12_vote_36 : decode cX12_vote 36 = .ok (.putfield 24, 3) := dk_181 0 24 (dk_at dksX12_vote_1 13 rfl rfl)
theorem dX12_vote_39 : decode cX12_vote 39 = .ok (.aload_n 0, 1) := dk_42 (dk_at dksX12_vote_1 16 rfl rfl)
theorem dX12_vote_40 : decode cX12_vote 40 = .ok (.aload_n 0, 1) := dk_42 (dk_at dksX12_vote_1 17 rfl rfl)
theorem dX12_vote_41 : decode cX12_vote 41 = .ok (.getfield 21, 3) := dk_180 0 21 (dk_at dksX12_vote_1 18 rfl rfl)
theorem dX12_vote_44 : decode cX12_vote 44 = .ok (.iconst 3, 1) := dk_6 (dk_at dksX12_vote_1 21 rfl rfl)
theorem dX12_vote_45 : decode cX12_vote 45 = .ok (.if_icmp .ne 7, 3) := dk_160 0 7 (dk_at dksX12_vote_2 0 rfl rfl)
theorem dX12_vote_48 : decode cX12_vote 48 = .ok (.iconst 2, 1) := dk_5 (dk_at dksX12_vote_2 3 rfl rfl)
theorem dX12_vote_49 : decode cX12_vote 49 = .ok (.goto 16, 3) := dk_167 0 16 (dk_at dksX12_vote_2 4 rfl rfl)
theorem dX12_vote_52 : decode cX12_vote 52 = .ok (.aload_n 0, 1) := dk_42 (dk_at dksX12_vote_2 7 rfl rfl)
theorem dX12_vote_53 : decode cX12_vote 53 = .ok (.getfield 24, 3) := dk_180 0 24 (dk_at dksX12_vote_2 8 rfl rfl)
theorem dX12_vote_56 : decode cX12_vote 56 = .ok (.iconst 3, 1) := dk_6 (dk_at dksX12_vote_2 11 rfl rfl)
theorem dX12_vote_57 : decode cX12_vote 57 = .ok (.if_icmp .ne 7, 3) := dk_160 0 7 (dk_at dksX12_vote_2 12 rfl rfl)
theorem dX12_vote_60 : decode cX12_vote 60 = .ok (.iconst 3, 1) := dk_6 (dk_at dksX12_vote_2 15 rfl rfl)
theorem dX12_vote_61 : decode cX12_vote 61 = .ok (.goto 4, 3) := dk_167 0 4 (dk_at dksX12_vote_2 16 rfl rfl)
theorem dX12_vote_64 : decode cX12_vote 64 = .ok (.iconst 1, 1) := dk_4 (dk_at dksX12_vote_2 19 rfl rfl)
theorem dX12_vote_65 : decode cX12_vote 65 = .ok (.putfield 9, 3) := dk_181 0 9 (dk_at dksX12_vote_2 20 rfl rfl)
theorem dX12_vote_68 : decode cX12_vote 68 = .ok (.aload_n 0, 1) := dk_42 (dk_at dksX12_vote_2 23 rfl rfl)
theorem dX12_vote_69 : decode cX12_vote 69 = .ok (.getfield 9, 3) := dk_180 0 9 (dk_at dksX12_vote_3 0 rfl rfl)
theorem dX12_vote_72 : decode cX12_vote 72 = .ok (.ireturn, 1) := dk_172 (dk_at dksX12_vote_3 3 rfl rfl)
abbrev cX12_isOpen : ByteArray := prog_15_method_3_code
def yX12_isOpen : MethodName := ⟨RX12, "isOpen", "()Z"⟩
def dkwX12_isOpen_0 : List UInt8 := [42, 180, 0, 9, 4, 159, 0, 11, 42, 180, 0, 9, 5, 160, 0, 7, 4, 167, 0, 4, 3, 172]
abbrev dktX12_isOpen_0 : List UInt8 := dkwX12_isOpen_0 ++ []
theorem dksX12_isOpen_0 : cX12_isOpen.data.toList.drop 0 = dktX12_isOpen_0 := by decide +kernel
theorem dX12_isOpen_0 : decode cX12_isOpen 0 = .ok (.aload_n 0, 1) := dk_42 (dk_at dksX12_isOpen_0 0 rfl rfl)
theorem dX12_isOpen_1 : decode cX12_isOpen 1 = .ok (.getfield 9, 3) := dk_180 0 9 (dk_at dksX12_isOpen_0 1 rfl rfl)
theorem dX12_isOpen_4 : decode cX12_isOpen 4 = .ok (.iconst 1, 1) := dk_4 (dk_at dksX12_isOpen_0 4 rfl rfl)
theorem dX12_isOpen_5 : decode cX12_isOpen 5 = .ok (.if_icmp .eq 11, 3) := dk_159 0 11 (dk_at dksX12_isOpen_0 5 rfl rfl)
theorem dX12_isOpen_8 : decode cX12_isOpen 8 = .ok (.aload_n 0, 1) := dk_42 (dk_at dksX12_isOpen_0 8 rfl rfl)
theorem dX12_isOpen_9 : decode cX12_isOpen 9 = .ok (.getfield 9, 3) := dk_180 0 9 (dk_at dksX12_isOpen_0 9 rfl rfl)
theorem dX12_isOpen_12 : decode cX12_isOpen 12 = .ok (.iconst 2, 1) := dk_5 (dk_at dksX12_isOpen_0 12 rfl rfl)
theorem dX12_isOpen_13 : decode cX12_isOpen 13 = .ok (.if_icmp .ne 7, 3) := dk_160 0 7 (dk_at dksX12_isOpen_0 13 rfl rfl)
theorem dX12_isOpen_16 : decode cX12_isOpen 16 = .ok (.iconst 1, 1) := dk_4 (dk_at dksX12_isOpen_0 16 rfl rfl)
theorem dX12_isOpen_17 : decode cX12_isOpen 17 = .ok (.goto 4, 3) := dk_167 0 4 (dk_at dksX12_isOpen_0 17 rfl rfl)
theorem dX12_isOpen_20 : decode cX12_isOpen 20 = .ok (.iconst 0, 1) := dk_3 (dk_at dksX12_isOpen_0 20 rfl rfl)
theorem dX12_isOpen_21 : decode cX12_isOpen 21 = .ok (.ireturn, 1) := dk_172 (dk_at dksX12_isOpen_0 21 rfl rfl)
abbrev cX12_request : ByteArray := prog_15_method_4_code
def yX12_request : MethodName := ⟨RX12, "request", "(IIJ)V"⟩
def dkwX12_request_1 : List UInt8 := [181, 0, 21, 42, 3, 181, 0, 24, 42, 3, 181, 0, 27, 177]
abbrev dktX12_request_1 : List UInt8 := dkwX12_request_1 ++ []
def dkwX12_request_0 : List UInt8 := [42, 4, 181, 0, 9, 42, 27, 181, 0, 15, 42, 28, 181, 0, 18, 42, 33, 181, 0, 30, 42, 3]
abbrev dktX12_request_0 : List UInt8 := dkwX12_request_0 ++ dktX12_request_1
theorem dksX12_request_0 : cX12_request.data.toList.drop 0 = dktX12_request_0 := by decide +kernel
theorem dksX12_request_1 : cX12_request.data.toList.drop 22 = dktX12_request_1 := dk_seg dksX12_request_0 22 rfl rfl
theorem dX12_request_0 : decode cX12_request 0 = .ok (.aload_n 0, 1) := dk_42 (dk_at dksX12_request_0 0 rfl rfl)
theorem dX12_request_1 : decode cX12_request 1 = .ok (.iconst 1, 1) := dk_4 (dk_at dksX12_request_0 1 rfl rfl)
theorem dX12_request_2 : decode cX12_request 2 = .ok (.putfield 9, 3) := dk_181 0 9 (dk_at dksX12_request_0 2 rfl rfl)
theorem dX12_request_5 : decode cX12_request 5 = .ok (.aload_n 0, 1) := dk_42 (dk_at dksX12_request_0 5 rfl rfl)
theorem dX12_request_6 : decode cX12_request 6 = .ok (.iload_n 1, 1) := dk_27 (dk_at dksX12_request_0 6 rfl rfl)
theorem dX12_request_7 : decode cX12_request 7 = .ok (.putfield 15, 3) := dk_181 0 15 (dk_at dksX12_request_0 7 rfl rfl)
theorem dX12_request_10 : decode cX12_request 10 = .ok (.aload_n 0, 1) := dk_42 (dk_at dksX12_request_0 10 rfl rfl)
theorem dX12_request_11 : decode cX12_request 11 = .ok (.iload_n 2, 1) := dk_28 (dk_at dksX12_request_0 11 rfl rfl)
theorem dX12_request_12 : decode cX12_request 12 = .ok (.putfield 18, 3) := dk_181 0 18 (dk_at dksX12_request_0 12 rfl rfl)
theorem dX12_request_15 : decode cX12_request 15 = .ok (.aload_n 0, 1) := dk_42 (dk_at dksX12_request_0 15 rfl rfl)
theorem dX12_request_16 : decode cX12_request 16 = .ok (.lload_n 3, 1) := dk_33 (dk_at dksX12_request_0 16 rfl rfl)
theorem dX12_request_17 : decode cX12_request 17 = .ok (.putfield 30, 3) := dk_181 0 30 (dk_at dksX12_request_0 17 rfl rfl)
theorem dX12_request_20 : decode cX12_request 20 = .ok (.aload_n 0, 1) := dk_42 (dk_at dksX12_request_0 20 rfl rfl)
theorem dX12_request_21 : decode cX12_request 21 = .ok (.iconst 0, 1) := dk_3 (dk_at dksX12_request_0 21 rfl rfl)
theorem dX12_request_22 : decode cX12_request 22 = .ok (.putfield 21, 3) := dk_181 0 21 (dk_at dksX12_request_1 0 rfl rfl)
theorem dX12_request_25 : decode cX12_request 25 = .ok (.aload_n 0, 1) := dk_42 (dk_at dksX12_request_1 3 rfl rfl)
theorem dX12_request_26 : decode cX12_request 26 = .ok (.iconst 0, 1) := dk_3 (dk_at dksX12_request_1 4 rfl rfl)
theorem dX12_request_27 : decode cX12_request 27 = .ok (.putfield 24, 3) := dk_181 0 24 (dk_at dksX12_request_1 5 rfl rfl)
theorem dX12_request_30 : decode cX12_request 30 = .ok (.aload_n 0, 1) := dk_42 (dk_at dksX12_request_1 8 rfl rfl)
theorem dX12_request_31 : decode cX12_request 31 = .ok (.iconst 0, 1) := dk_3 (dk_at dksX12_request_1 9 rfl rfl)
theorem dX12_request_32 : decode cX12_request 32 = .ok (.putfield 27, 3) := dk_181 0 27 (dk_at dksX12_request_1 10 rfl rfl)
theorem dX12_request_35 : decode cX12_request 35 = .ok (.return_, 1) := dk_177 (dk_at dksX12_request_1 13 rfl rfl)
theorem q168 : (Jvm.Cond.initialized "FranchiseLedger$Transfer") ∈ lw_all := lw_g (lw_at lw_m1 40 rfl) rfl
theorem q868 : (Jvm.Cond.instantiable "FranchiseLedger$Transfer" (7 : Nat)) ∈ lw_all := lw_g (lw_at lw_m4 20 rfl) rfl
theorem q870 : (Jvm.Cond.instanceMethod ({ cls := "FranchiseLedger$Transfer", name := "<init>", desc := "()V" } : Jvm.MethodName)) ∈ lw_all := lw_g (lw_at lw_m4 22 rfl) rfl
theorem q871 : (Jvm.Cond.code ({ cls := "FranchiseLedger$Transfer", name := "<init>", desc := "()V" } : Jvm.MethodName) prog_15_method_1_code (1 : Nat) (Option.none : Option Jvm.ClassFile.FieldType)) ∈ lw_all := lw_g (lw_at lw_m4 23 rfl) rfl
theorem q872 : (Jvm.Cond.methodLink "FranchiseLedger$Transfer" (3 : Nat) ({ cls := "java/lang/Object", name := "<init>", desc := "()V" } : Jvm.MethodName)) ∈ lw_all := lw_g (lw_at lw_m4 24 rfl) rfl
theorem q873 : (Jvm.Cond.fieldLink "FranchiseLedger$Transfer" (9 : Nat) "FranchiseLedger$Transfer" "state" "I") ∈ lw_all := lw_g (lw_at lw_m4 25 rfl) rfl
theorem q876 : (Jvm.Cond.fieldLink "FranchiseLedger$Transfer" (15 : Nat) "FranchiseLedger$Transfer" "month" "I") ∈ lw_all := lw_g (lw_at lw_m4 28 rfl) rfl
theorem q879 : (Jvm.Cond.fieldLink "FranchiseLedger$Transfer" (18 : Nat) "FranchiseLedger$Transfer" "worth" "I") ∈ lw_all := lw_g (lw_at lw_m4 31 rfl) rfl
theorem q881 : (Jvm.Cond.fieldLink "FranchiseLedger$Transfer" (21 : Nat) "FranchiseLedger$Transfer" "yes" "I") ∈ lw_all := lw_g (lw_at lw_m4 33 rfl) rfl
theorem q882 : (Jvm.Cond.fieldLink "FranchiseLedger$Transfer" (24 : Nat) "FranchiseLedger$Transfer" "no" "I") ∈ lw_all := lw_g (lw_at lw_m4 34 rfl) rfl
theorem q883 : (Jvm.Cond.fieldLink "FranchiseLedger$Transfer" (27 : Nat) "FranchiseLedger$Transfer" "voted" "I") ∈ lw_all := lw_g (lw_at lw_m4 35 rfl) rfl
theorem q885 : (Jvm.Cond.fieldLink "FranchiseLedger$Transfer" (30 : Nat) "FranchiseLedger$Transfer" "price" "J") ∈ lw_all := lw_g (lw_at lw_m4 37 rfl) rfl
theorem q887 : (Jvm.Cond.lays "FranchiseLedger$Transfer" "FranchiseLedger$Transfer" "state" "I") ∈ lw_all := lw_g (lw_at lw_m4 39 rfl) rfl
theorem q888 : (Jvm.Cond.soleField "FranchiseLedger$Transfer" "state") ∈ lw_all := lw_g (lw_at lw_m4 40 rfl) rfl
theorem q889 : (Jvm.Cond.lays "FranchiseLedger$Transfer" "FranchiseLedger$Transfer" "month" "I") ∈ lw_all := lw_g (lw_at lw_m4 41 rfl) rfl
theorem q890 : (Jvm.Cond.soleField "FranchiseLedger$Transfer" "month") ∈ lw_all := lw_g (lw_at lw_m4 42 rfl) rfl
theorem q891 : (Jvm.Cond.lays "FranchiseLedger$Transfer" "FranchiseLedger$Transfer" "worth" "I") ∈ lw_all := lw_g (lw_at lw_m4 43 rfl) rfl
theorem q892 : (Jvm.Cond.soleField "FranchiseLedger$Transfer" "worth") ∈ lw_all := lw_g (lw_at lw_m4 44 rfl) rfl
theorem q893 : (Jvm.Cond.lays "FranchiseLedger$Transfer" "FranchiseLedger$Transfer" "yes" "I") ∈ lw_all := lw_g (lw_at lw_m4 45 rfl) rfl
theorem q894 : (Jvm.Cond.soleField "FranchiseLedger$Transfer" "yes") ∈ lw_all := lw_g (lw_at lw_m4 46 rfl) rfl
theorem q895 : (Jvm.Cond.lays "FranchiseLedger$Transfer" "FranchiseLedger$Transfer" "no" "I") ∈ lw_all := lw_g (lw_at lw_m4 47 rfl) rfl
theorem q896 : (Jvm.Cond.soleField "FranchiseLedger$Transfer" "no") ∈ lw_all := lw_g (lw_at lw_m4 48 rfl) rfl
theorem q897 : (Jvm.Cond.lays "FranchiseLedger$Transfer" "FranchiseLedger$Transfer" "voted" "I") ∈ lw_all := lw_g (lw_at lw_m4 49 rfl) rfl
theorem q898 : (Jvm.Cond.soleField "FranchiseLedger$Transfer" "voted") ∈ lw_all := lw_g (lw_at lw_m4 50 rfl) rfl
theorem q899 : (Jvm.Cond.lays "FranchiseLedger$Transfer" "FranchiseLedger$Transfer" "price" "J") ∈ lw_all := lw_g (lw_at lw_m4 51 rfl) rfl
theorem q900 : (Jvm.Cond.soleField "FranchiseLedger$Transfer" "price") ∈ lw_all := lw_g (lw_at lw_m4 52 rfl) rfl
theorem q901 : (Jvm.Cond.superclass "FranchiseLedger$Transfer" "java/lang/Object") ∈ lw_all := lw_g (lw_at lw_m4 53 rfl) rfl
theorem q959 : (Jvm.Cond.instanceMethod ({ cls := "FranchiseLedger$Transfer", name := "like", desc := "(LFranchiseLedger$Transfer;)V" } : Jvm.MethodName)) ∈ lw_all := lw_g (lw_at lw_m4 111 rfl) rfl
theorem q960 : (Jvm.Cond.selects "FranchiseLedger$Transfer" ({ cls := "FranchiseLedger$Transfer", name := "like", desc := "(LFranchiseLedger$Transfer;)V" } : Jvm.MethodName) ({ cls := "FranchiseLedger$Transfer", name := "like", desc := "(LFranchiseLedger$Transfer;)V" } : Jvm.MethodName)) ∈ lw_all := lw_g (lw_at lw_m4 112 rfl) rfl
theorem q961 : (Jvm.Cond.code ({ cls := "FranchiseLedger$Transfer", name := "like", desc := "(LFranchiseLedger$Transfer;)V" } : Jvm.MethodName) prog_15_method_2_code (2 : Nat) (Option.none : Option Jvm.ClassFile.FieldType)) ∈ lw_all := lw_g (lw_at lw_m4 113 rfl) rfl
theorem q1006 : (Jvm.Cond.selects "FranchiseLedger$Transfer" ({ cls := "java/lang/Object", name := "getClass", desc := "()Ljava/lang/Class;" } : Jvm.MethodName) ({ cls := "java/lang/Object", name := "getClass", desc := "()Ljava/lang/Class;" } : Jvm.MethodName)) ∈ lw_all := lw_g (lw_at lw_m4 158 rfl) rfl
theorem q1914 : (Jvm.Cond.instanceMethod ({ cls := "FranchiseLedger$Transfer", name := "vote", desc := "(IZ)I" } : Jvm.MethodName)) ∈ lw_all := lw_g (lw_at lw_m8 106 rfl) rfl
theorem q1915 : (Jvm.Cond.selects "FranchiseLedger$Transfer" ({ cls := "FranchiseLedger$Transfer", name := "vote", desc := "(IZ)I" } : Jvm.MethodName) ({ cls := "FranchiseLedger$Transfer", name := "vote", desc := "(IZ)I" } : Jvm.MethodName)) ∈ lw_all := lw_g (lw_at lw_m8 107 rfl) rfl
theorem q1916 : (Jvm.Cond.code ({ cls := "FranchiseLedger$Transfer", name := "vote", desc := "(IZ)I" } : Jvm.MethodName) prog_15_method_5_code (3 : Nat) (Option.some Jvm.ClassFile.FieldType.int)) ∈ lw_all := lw_g (lw_at lw_m8 108 rfl) rfl
theorem q2309 : (Jvm.Cond.instanceMethod ({ cls := "FranchiseLedger$Transfer", name := "isOpen", desc := "()Z" } : Jvm.MethodName)) ∈ lw_all := lw_g (lw_at lw_m10 21 rfl) rfl
theorem q2310 : (Jvm.Cond.selects "FranchiseLedger$Transfer" ({ cls := "FranchiseLedger$Transfer", name := "isOpen", desc := "()Z" } : Jvm.MethodName) ({ cls := "FranchiseLedger$Transfer", name := "isOpen", desc := "()Z" } : Jvm.MethodName)) ∈ lw_all := lw_g (lw_at lw_m10 22 rfl) rfl
theorem q2311 : (Jvm.Cond.code ({ cls := "FranchiseLedger$Transfer", name := "isOpen", desc := "()Z" } : Jvm.MethodName) prog_15_method_3_code (1 : Nat) (Option.some Jvm.ClassFile.FieldType.boolean)) ∈ lw_all := lw_g (lw_at lw_m10 23 rfl) rfl
theorem q2374 : (Jvm.Cond.instanceMethod ({ cls := "FranchiseLedger$Transfer", name := "request", desc := "(IIJ)V" } : Jvm.MethodName)) ∈ lw_all := lw_g (lw_at lw_m10 86 rfl) rfl
theorem q2375 : (Jvm.Cond.selects "FranchiseLedger$Transfer" ({ cls := "FranchiseLedger$Transfer", name := "request", desc := "(IIJ)V" } : Jvm.MethodName) ({ cls := "FranchiseLedger$Transfer", name := "request", desc := "(IIJ)V" } : Jvm.MethodName)) ∈ lw_all := lw_g (lw_at lw_m10 87 rfl) rfl
theorem q2376 : (Jvm.Cond.code ({ cls := "FranchiseLedger$Transfer", name := "request", desc := "(IIJ)V" } : Jvm.MethodName) prog_15_method_4_code (5 : Nat) (Option.none : Option Jvm.ClassFile.FieldType)) ∈ lw_all := lw_g (lw_at lw_m10 88 rfl) rfl
theorem q3275 : (Jvm.Cond.castable "FranchiseLedger$Transfer" "java/lang/Object") ∈ lw_tbl := lw_at lw_m14 27 rfl
theorem in_X12 : ∀ w ∈ wsX120, w ∈ lw_all := lw_in wsX120 [887, 889, 891, 893, 895, 897, 899] (by decide +kernel) (by decide +kernel)
/-! FranchiseLedger$Area -/
set_option maxRecDepth 100000
def RX13 : String := "FranchiseLedger$Area"
def TX13 : u_T := fun k => match k with
  | 0 => ("FranchiseLedger$Area", "x1", "I", true)
  | 1 => ("FranchiseLedger$Area", "y1", "I", true)
  | 2 => ("FranchiseLedger$Area", "x2", "I", true)
  | _ => ("FranchiseLedger$Area", "y2", "I", true)
def tyX13 : Nat → FieldType := fun k => match k with
  | 0 => .int
  | 1 => .int
  | 2 => .int
  | _ => .int
abbrev wsX130 : List Cond := u_ws RX13 TX13 4
theorem nmX13 : ∀ a, a < 4 → ∀ b, b < 4 → a ≠ b → (TX13 a).2.1 ≠ (TX13 b).2.1 := by decide +kernel
theorem tyX13_ok : ∀ k, k < 4 → parseFieldDescriptor (TX13 k).2.2.1 = some (tyX13 k) := by decide +kernel
abbrev cX13_init : ByteArray := prog_2_method_1_code
def yX13_init : MethodName := ⟨RX13, "<init>", "(IIII)V"⟩
def dkwX13_init_1 : List UInt8 := [181, 0, 19, 177]
abbrev dktX13_init_1 : List UInt8 := dkwX13_init_1 ++ []
def dkwX13_init_0 : List UInt8 := [42, 183, 0, 1, 42, 27, 181, 0, 7, 42, 28, 181, 0, 13, 42, 29, 181, 0, 16, 42, 21, 4]
abbrev dktX13_init_0 : List UInt8 := dkwX13_init_0 ++ dktX13_init_1
theorem dksX13_init_0 : cX13_init.data.toList.drop 0 = dktX13_init_0 := by decide +kernel
theorem dksX13_init_1 : cX13_init.data.toList.drop 22 = dktX13_init_1 := dk_seg dksX13_init_0 22 rfl rfl
theorem dX13_init_0 : decode cX13_init 0 = .ok (.aload_n 0, 1) := dk_42 (dk_at dksX13_init_0 0 rfl rfl)
theorem dX13_init_1 : decode cX13_init 1 = .ok (.invokespecial 1, 3) := dk_183 0 1 (dk_at dksX13_init_0 1 rfl rfl)
theorem dX13_init_4 : decode cX13_init 4 = .ok (.aload_n 0, 1) := dk_42 (dk_at dksX13_init_0 4 rfl rfl)
theorem dX13_init_5 : decode cX13_init 5 = .ok (.iload_n 1, 1) := dk_27 (dk_at dksX13_init_0 5 rfl rfl)
theorem dX13_init_6 : decode cX13_init 6 = .ok (.putfield 7, 3) := dk_181 0 7 (dk_at dksX13_init_0 6 rfl rfl)
theorem dX13_init_9 : decode cX13_init 9 = .ok (.aload_n 0, 1) := dk_42 (dk_at dksX13_init_0 9 rfl rfl)
theorem dX13_init_10 : decode cX13_init 10 = .ok (.iload_n 2, 1) := dk_28 (dk_at dksX13_init_0 10 rfl rfl)
theorem dX13_init_11 : decode cX13_init 11 = .ok (.putfield 13, 3) := dk_181 0 13 (dk_at dksX13_init_0 11 rfl rfl)
theorem dX13_init_14 : decode cX13_init 14 = .ok (.aload_n 0, 1) := dk_42 (dk_at dksX13_init_0 14 rfl rfl)
theorem dX13_init_15 : decode cX13_init 15 = .ok (.iload_n 3, 1) := dk_29 (dk_at dksX13_init_0 15 rfl rfl)
theorem dX13_init_16 : decode cX13_init 16 = .ok (.putfield 16, 3) := dk_181 0 16 (dk_at dksX13_init_0 16 rfl rfl)
theorem dX13_init_19 : decode cX13_init 19 = .ok (.aload_n 0, 1) := dk_42 (dk_at dksX13_init_0 19 rfl rfl)
theorem dX13_init_20 : decode cX13_init 20 = .ok (.iload 4, 2) := dk_21 4 (dk_at dksX13_init_0 20 rfl rfl)
theorem dX13_init_22 : decode cX13_init 22 = .ok (.putfield 19, 3) := dk_181 0 19 (dk_at dksX13_init_1 0 rfl rfl)
theorem dX13_init_25 : decode cX13_init 25 = .ok (.return_, 1) := dk_177 (dk_at dksX13_init_1 3 rfl rfl)
abbrev cX13_contains : ByteArray := prog_2_method_2_code
def yX13_contains : MethodName := ⟨RX13, "contains", "(I)Z"⟩
def dkwX13_contains_2 : List UInt8 := [167, 0, 4, 3, 172]
abbrev dktX13_contains_2 : List UInt8 := dkwX13_contains_2 ++ []
def dkwX13_contains_1 : List UInt8 := [184, 0, 32, 133, 42, 180, 0, 13, 133, 42, 180, 0, 19, 4, 100, 133, 184, 0, 28, 153, 0, 7, 4]
abbrev dktX13_contains_1 : List UInt8 := dkwX13_contains_1 ++ dktX13_contains_2
def dkwX13_contains_0 : List UInt8 := [27, 184, 0, 22, 133, 42, 180, 0, 7, 133, 42, 180, 0, 16, 4, 100, 133, 184, 0, 28, 153, 0, 30, 27]
abbrev dktX13_contains_0 : List UInt8 := dkwX13_contains_0 ++ dktX13_contains_1
theorem dksX13_contains_0 : cX13_contains.data.toList.drop 0 = dktX13_contains_0 := by decide +kernel
theorem dksX13_contains_1 : cX13_contains.data.toList.drop 24 = dktX13_contains_1 := dk_seg dksX13_contains_0 24 rfl rfl
theorem dksX13_contains_2 : cX13_contains.data.toList.drop 47 = dktX13_contains_2 := dk_seg dksX13_contains_1 23 rfl rfl
theorem dX13_contains_0 : decode cX13_contains 0 = .ok (.iload_n 1, 1) := dk_27 (dk_at dksX13_contains_0 0 rfl rfl)
theorem dX13_contains_1 : decode cX13_contains 1 = .ok (.invokestatic 22, 3) := dk_184 0 22 (dk_at dksX13_contains_0 1 rfl rfl)
theorem dX13_contains_4 : decode cX13_contains 4 = .ok (.i2l, 1) := dk_133 (dk_at dksX13_contains_0 4 rfl rfl)
theorem dX13_contains_5 : decode cX13_contains 5 = .ok (.aload_n 0, 1) := dk_42 (dk_at dksX13_contains_0 5 rfl rfl)
theorem dX13_contains_6 : decode cX13_contains 6 = .ok (.getfield 7, 3) := dk_180 0 7 (dk_at dksX13_contains_0 6 rfl rfl)
theorem dX13_contains_9 : decode cX13_contains 9 = .ok (.i2l, 1) := dk_133 (dk_at dksX13_contains_0 9 rfl rfl)
theorem dX13_contains_10 : decode cX13_contains 10 = .ok (.aload_n 0, 1) := dk_42 (dk_at dksX13_contains_0 10 rfl rfl)
theorem dX13_contains_11 : decode cX13_contains 11 = .ok (.getfield 16, 3) := dk_180 0 16 (dk_at dksX13_contains_0 11 rfl rfl)
theorem dX13_contains_14 : decode cX13_contains 14 = .ok (.iconst 1, 1) := dk_4 (dk_at dksX13_contains_0 14 rfl rfl)
theorem dX13_contains_15 : decode cX13_contains 15 = .ok (.isub, 1) := dk_100 (dk_at dksX13_contains_0 15 rfl rfl)
theorem dX13_contains_16 : decode cX13_contains 16 = .ok (.i2l, 1) := dk_133 (dk_at dksX13_contains_0 16 rfl rfl)
theorem dX13_contains_17 : decode cX13_contains 17 = .ok (.invokestatic 28, 3) := dk_184 0 28 (dk_at dksX13_contains_0 17 rfl rfl)
theorem dX13_contains_20 : decode cX13_contains 20 = .ok (.ifCond .eq 30, 3) := dk_153 0 30 (dk_at dksX13_contains_0 20 rfl rfl)
theorem dX13_contains_23 : decode cX13_contains 23 = .ok (.iload_n 1, 1) := dk_27 (dk_at dksX13_contains_0 23 rfl rfl)
theorem dX13_contains_24 : decode cX13_contains 24 = .ok (.invokestatic 32, 3) := dk_184 0 32 (dk_at dksX13_contains_1 0 rfl rfl)
theorem dX13_contains_27 : decode cX13_contains 27 = .ok (.i2l, 1) := dk_133 (dk_at dksX13_contains_1 3 rfl rfl)
theorem dX13_contains_28 : decode cX13_contains 28 = .ok (.aload_n 0, 1) := dk_42 (dk_at dksX13_contains_1 4 rfl rfl)
theorem dX13_contains_29 : decode cX13_contains 29 = .ok (.getfield 13, 3) := dk_180 0 13 (dk_at dksX13_contains_1 5 rfl rfl)
theorem dX13_contains_32 : decode cX13_contains 32 = .ok (.i2l, 1) := dk_133 (dk_at dksX13_contains_1 8 rfl rfl)
theorem dX13_contains_33 : decode cX13_contains 33 = .ok (.aload_n 0, 1) := dk_42 (dk_at dksX13_contains_1 9 rfl rfl)
theorem dX13_contains_34 : decode cX13_contains 34 = .ok (.getfield 19, 3) := dk_180 0 19 (dk_at dksX13_contains_1 10 rfl rfl)
theorem dX13_contains_37 : decode cX13_contains 37 = .ok (.iconst 1, 1) := dk_4 (dk_at dksX13_contains_1 13 rfl rfl)
theorem dX13_contains_38 : decode cX13_contains 38 = .ok (.isub, 1) := dk_100 (dk_at dksX13_contains_1 14 rfl rfl)
theorem dX13_contains_39 : decode cX13_contains 39 = .ok (.i2l, 1) := dk_133 (dk_at dksX13_contains_1 15 rfl rfl)
theorem dX13_contains_40 : decode cX13_contains 40 = .ok (.invokestatic 28, 3) := dk_184 0 28 (dk_at dksX13_contains_1 16 rfl rfl)
theorem dX13_contains_43 : decode cX13_contains 43 = .ok (.ifCond .eq 7, 3) := dk_153 0 7 (dk_at dksX13_contains_1 19 rfl rfl)
theorem dX13_contains_46 : decode cX13_contains 46 = .ok (.iconst 1, 1) := dk_4 (dk_at dksX13_contains_1 22 rfl rfl)
theorem dX13_contains_47 : decode cX13_contains 47 = .ok (.goto 4, 3) := dk_167 0 4 (dk_at dksX13_contains_2 0 rfl rfl)
theorem dX13_contains_50 : decode cX13_contains 50 = .ok (.iconst 0, 1) := dk_3 (dk_at dksX13_contains_2 3 rfl rfl)
theorem dX13_contains_51 : decode cX13_contains 51 = .ok (.ireturn, 1) := dk_172 (dk_at dksX13_contains_2 4 rfl rfl)
theorem q169 : (Jvm.Cond.initialized "FranchiseLedger$Area") ∈ lw_all := lw_g (lw_at lw_m1 41 rfl) rfl
theorem q994 : (Jvm.Cond.selects "FranchiseLedger$Area" ({ cls := "java/lang/Object", name := "getClass", desc := "()Ljava/lang/Class;" } : Jvm.MethodName) ({ cls := "java/lang/Object", name := "getClass", desc := "()Ljava/lang/Class;" } : Jvm.MethodName)) ∈ lw_all := lw_g (lw_at lw_m4 146 rfl) rfl
theorem q1669 : (Jvm.Cond.instantiable "FranchiseLedger$Area" (4 : Nat)) ∈ lw_all := lw_g (lw_at lw_m7 101 rfl) rfl
theorem q1671 : (Jvm.Cond.instanceMethod ({ cls := "FranchiseLedger$Area", name := "<init>", desc := "(IIII)V" } : Jvm.MethodName)) ∈ lw_all := lw_g (lw_at lw_m7 103 rfl) rfl
theorem q1672 : (Jvm.Cond.code ({ cls := "FranchiseLedger$Area", name := "<init>", desc := "(IIII)V" } : Jvm.MethodName) prog_2_method_1_code (5 : Nat) (Option.none : Option Jvm.ClassFile.FieldType)) ∈ lw_all := lw_g (lw_at lw_m7 104 rfl) rfl
theorem q1673 : (Jvm.Cond.methodLink "FranchiseLedger$Area" (1 : Nat) ({ cls := "java/lang/Record", name := "<init>", desc := "()V" } : Jvm.MethodName)) ∈ lw_all := lw_g (lw_at lw_m7 105 rfl) rfl
theorem q1674 : (Jvm.Cond.fieldLink "FranchiseLedger$Area" (7 : Nat) "FranchiseLedger$Area" "x1" "I") ∈ lw_all := lw_g (lw_at lw_m7 106 rfl) rfl
theorem q1675 : (Jvm.Cond.fieldLink "FranchiseLedger$Area" (13 : Nat) "FranchiseLedger$Area" "y1" "I") ∈ lw_all := lw_g (lw_at lw_m7 107 rfl) rfl
theorem q1676 : (Jvm.Cond.fieldLink "FranchiseLedger$Area" (16 : Nat) "FranchiseLedger$Area" "x2" "I") ∈ lw_all := lw_g (lw_at lw_m7 108 rfl) rfl
theorem q1677 : (Jvm.Cond.fieldLink "FranchiseLedger$Area" (19 : Nat) "FranchiseLedger$Area" "y2" "I") ∈ lw_all := lw_g (lw_at lw_m7 109 rfl) rfl
theorem q1678 : (Jvm.Cond.laysFinal "FranchiseLedger$Area" "FranchiseLedger$Area" "x1" "I") ∈ lw_all := lw_g (lw_at lw_m7 110 rfl) rfl
theorem q1679 : (Jvm.Cond.soleField "FranchiseLedger$Area" "x1") ∈ lw_all := lw_g (lw_at lw_m7 111 rfl) rfl
theorem q1680 : (Jvm.Cond.laysFinal "FranchiseLedger$Area" "FranchiseLedger$Area" "y1" "I") ∈ lw_all := lw_g (lw_at lw_m7 112 rfl) rfl
theorem q1681 : (Jvm.Cond.soleField "FranchiseLedger$Area" "y1") ∈ lw_all := lw_g (lw_at lw_m7 113 rfl) rfl
theorem q1682 : (Jvm.Cond.laysFinal "FranchiseLedger$Area" "FranchiseLedger$Area" "x2" "I") ∈ lw_all := lw_g (lw_at lw_m7 114 rfl) rfl
theorem q1683 : (Jvm.Cond.soleField "FranchiseLedger$Area" "x2") ∈ lw_all := lw_g (lw_at lw_m7 115 rfl) rfl
theorem q1684 : (Jvm.Cond.laysFinal "FranchiseLedger$Area" "FranchiseLedger$Area" "y2" "I") ∈ lw_all := lw_g (lw_at lw_m7 116 rfl) rfl
theorem q1685 : (Jvm.Cond.soleField "FranchiseLedger$Area" "y2") ∈ lw_all := lw_g (lw_at lw_m7 117 rfl) rfl
theorem q1686 : (Jvm.Cond.superclass "FranchiseLedger$Area" "java/lang/Record") ∈ lw_all := lw_g (lw_at lw_m7 118 rfl) rfl
theorem q1692 : (Jvm.Cond.instanceMethod ({ cls := "FranchiseLedger$Area", name := "contains", desc := "(I)Z" } : Jvm.MethodName)) ∈ lw_all := lw_g (lw_at lw_m7 124 rfl) rfl
theorem q1693 : (Jvm.Cond.selects "FranchiseLedger$Area" ({ cls := "FranchiseLedger$Area", name := "contains", desc := "(I)Z" } : Jvm.MethodName) ({ cls := "FranchiseLedger$Area", name := "contains", desc := "(I)Z" } : Jvm.MethodName)) ∈ lw_all := lw_g (lw_at lw_m7 125 rfl) rfl
theorem q1694 : (Jvm.Cond.code ({ cls := "FranchiseLedger$Area", name := "contains", desc := "(I)Z" } : Jvm.MethodName) prog_2_method_2_code (2 : Nat) (Option.some Jvm.ClassFile.FieldType.boolean)) ∈ lw_all := lw_g (lw_at lw_m7 126 rfl) rfl
theorem q1695 : (Jvm.Cond.methodLinkNest "FranchiseLedger$Area" (22 : Nat) ({ cls := "FranchiseLedger", name := "column", desc := "(I)I" } : Jvm.MethodName) "FranchiseLedger") ∈ lw_tbl := lw_at lw_m7 127 rfl
theorem q1698 : (Jvm.Cond.methodLinkNest "FranchiseLedger$Area" (28 : Nat) ({ cls := "FranchiseLedger", name := "inRange", desc := "(JJJ)Z" } : Jvm.MethodName) "FranchiseLedger") ∈ lw_tbl := lw_at lw_m7 130 rfl
theorem q1699 : (Jvm.Cond.methodLinkNest "FranchiseLedger$Area" (32 : Nat) ({ cls := "FranchiseLedger", name := "row", desc := "(I)I" } : Jvm.MethodName) "FranchiseLedger") ∈ lw_tbl := lw_at lw_m7 131 rfl
theorem q3276 : (Jvm.Cond.castable "FranchiseLedger$Area" "java/lang/Object") ∈ lw_tbl := lw_at lw_m14 28 rfl
theorem in_X13 : ∀ w ∈ wsX130, w ∈ lw_all := lw_in wsX130 [1678, 1680, 1682, 1684] (by decide +kernel) (by decide +kernel)
/-! FranchiseLedger$Outlet -/
set_option maxRecDepth 100000
def RX14 : String := "FranchiseLedger$Outlet"
def TX14 : u_T := fun k => match k with
  | 0 => ("FranchiseLedger$Outlet", "cell", "I", true)
  | 1 => ("FranchiseLedger$Outlet", "owner", "I", false)
  | _ => ("FranchiseLedger$Outlet", "sales", "J", false)
def tyX14 : Nat → FieldType := fun k => match k with
  | 0 => .int
  | 1 => .int
  | _ => .long
abbrev wsX140 : List Cond := u_ws RX14 TX14 3
theorem nmX14 : ∀ a, a < 3 → ∀ b, b < 3 → a ≠ b → (TX14 a).2.1 ≠ (TX14 b).2.1 := by decide +kernel
theorem tyX14_ok : ∀ k, k < 3 → parseFieldDescriptor (TX14 k).2.2.1 = some (tyX14 k) := by decide +kernel
abbrev cX14_init : ByteArray := prog_6_method_2_code
def yX14_init : MethodName := ⟨RX14, "<init>", "(IIJ)V"⟩
def dkwX14_init_0 : List UInt8 := [42, 183, 0, 9, 42, 27, 181, 0, 14, 42, 28, 181, 0, 18, 42, 33, 181, 0, 21, 177]
abbrev dktX14_init_0 : List UInt8 := dkwX14_init_0 ++ []
theorem dksX14_init_0 : cX14_init.data.toList.drop 0 = dktX14_init_0 := by decide +kernel
theorem dX14_init_0 : decode cX14_init 0 = .ok (.aload_n 0, 1) := dk_42 (dk_at dksX14_init_0 0 rfl rfl)
theorem dX14_init_1 : decode cX14_init 1 = .ok (.invokespecial 9, 3) := dk_183 0 9 (dk_at dksX14_init_0 1 rfl rfl)
theorem dX14_init_4 : decode cX14_init 4 = .ok (.aload_n 0, 1) := dk_42 (dk_at dksX14_init_0 4 rfl rfl)
theorem dX14_init_5 : decode cX14_init 5 = .ok (.iload_n 1, 1) := dk_27 (dk_at dksX14_init_0 5 rfl rfl)
theorem dX14_init_6 : decode cX14_init 6 = .ok (.putfield 14, 3) := dk_181 0 14 (dk_at dksX14_init_0 6 rfl rfl)
theorem dX14_init_9 : decode cX14_init 9 = .ok (.aload_n 0, 1) := dk_42 (dk_at dksX14_init_0 9 rfl rfl)
theorem dX14_init_10 : decode cX14_init 10 = .ok (.iload_n 2, 1) := dk_28 (dk_at dksX14_init_0 10 rfl rfl)
theorem dX14_init_11 : decode cX14_init 11 = .ok (.putfield 18, 3) := dk_181 0 18 (dk_at dksX14_init_0 11 rfl rfl)
theorem dX14_init_14 : decode cX14_init 14 = .ok (.aload_n 0, 1) := dk_42 (dk_at dksX14_init_0 14 rfl rfl)
theorem dX14_init_15 : decode cX14_init 15 = .ok (.lload_n 3, 1) := dk_33 (dk_at dksX14_init_0 15 rfl rfl)
theorem dX14_init_16 : decode cX14_init 16 = .ok (.putfield 21, 3) := dk_181 0 21 (dk_at dksX14_init_0 16 rfl rfl)
theorem dX14_init_19 : decode cX14_init 19 = .ok (.return_, 1) := dk_177 (dk_at dksX14_init_0 19 rfl rfl)
abbrev cX14_isOpen : ByteArray := prog_6_method_3_code
def yX14_isOpen : MethodName := ⟨RX14, "isOpen", "()Z"⟩
def dkwX14_isOpen_0 : List UInt8 := [42, 180, 0, 18, 2, 159, 0, 7, 4, 167, 0, 4, 3, 172]
abbrev dktX14_isOpen_0 : List UInt8 := dkwX14_isOpen_0 ++ []
theorem dksX14_isOpen_0 : cX14_isOpen.data.toList.drop 0 = dktX14_isOpen_0 := by decide +kernel
theorem dX14_isOpen_0 : decode cX14_isOpen 0 = .ok (.aload_n 0, 1) := dk_42 (dk_at dksX14_isOpen_0 0 rfl rfl)
theorem dX14_isOpen_1 : decode cX14_isOpen 1 = .ok (.getfield 18, 3) := dk_180 0 18 (dk_at dksX14_isOpen_0 1 rfl rfl)
theorem dX14_isOpen_4 : decode cX14_isOpen 4 = .ok (.iconst (-1), 1) := dk_2 (dk_at dksX14_isOpen_0 4 rfl rfl)
theorem dX14_isOpen_5 : decode cX14_isOpen 5 = .ok (.if_icmp .eq 7, 3) := dk_159 0 7 (dk_at dksX14_isOpen_0 5 rfl rfl)
theorem dX14_isOpen_8 : decode cX14_isOpen 8 = .ok (.iconst 1, 1) := dk_4 (dk_at dksX14_isOpen_0 8 rfl rfl)
theorem dX14_isOpen_9 : decode cX14_isOpen 9 = .ok (.goto 4, 3) := dk_167 0 4 (dk_at dksX14_isOpen_0 9 rfl rfl)
theorem dX14_isOpen_12 : decode cX14_isOpen 12 = .ok (.iconst 0, 1) := dk_3 (dk_at dksX14_isOpen_0 12 rfl rfl)
theorem dX14_isOpen_13 : decode cX14_isOpen 13 = .ok (.ireturn, 1) := dk_172 (dk_at dksX14_isOpen_0 13 rfl rfl)
abbrev cX14_init_2 : ByteArray := prog_6_method_1_code
def yX14_init_2 : MethodName := ⟨RX14, "<init>", "(II)V"⟩
def dkwX14_init_2_0 : List UInt8 := [42, 27, 28, 9, 183, 0, 3, 177]
abbrev dktX14_init_2_0 : List UInt8 := dkwX14_init_2_0 ++ []
theorem dksX14_init_2_0 : cX14_init_2.data.toList.drop 0 = dktX14_init_2_0 := by decide +kernel
theorem dX14_init_2_0 : decode cX14_init_2 0 = .ok (.aload_n 0, 1) := dk_42 (dk_at dksX14_init_2_0 0 rfl rfl)
theorem dX14_init_2_1 : decode cX14_init_2 1 = .ok (.iload_n 1, 1) := dk_27 (dk_at dksX14_init_2_0 1 rfl rfl)
theorem dX14_init_2_2 : decode cX14_init_2 2 = .ok (.iload_n 2, 1) := dk_28 (dk_at dksX14_init_2_0 2 rfl rfl)
theorem dX14_init_2_3 : decode cX14_init_2 3 = .ok (.lconst 0, 1) := dk_9 (dk_at dksX14_init_2_0 3 rfl rfl)
theorem dX14_init_2_4 : decode cX14_init_2 4 = .ok (.invokespecial 3, 3) := dk_183 0 3 (dk_at dksX14_init_2_0 4 rfl rfl)
theorem dX14_init_2_7 : decode cX14_init_2 7 = .ok (.return_, 1) := dk_177 (dk_at dksX14_init_2_0 7 rfl rfl)
theorem q170 : (Jvm.Cond.initialized "FranchiseLedger$Outlet") ∈ lw_all := lw_g (lw_at lw_m1 42 rfl) rfl
theorem q998 : (Jvm.Cond.selects "FranchiseLedger$Outlet" ({ cls := "java/lang/Object", name := "getClass", desc := "()Ljava/lang/Class;" } : Jvm.MethodName) ({ cls := "java/lang/Object", name := "getClass", desc := "()Ljava/lang/Class;" } : Jvm.MethodName)) ∈ lw_all := lw_g (lw_at lw_m4 150 rfl) rfl
theorem q1056 : (Jvm.Cond.instantiable "FranchiseLedger$Outlet" (3 : Nat)) ∈ lw_all := lw_g (lw_at lw_m4 208 rfl) rfl
theorem q1058 : (Jvm.Cond.instanceMethod ({ cls := "FranchiseLedger$Outlet", name := "<init>", desc := "(IIJ)V" } : Jvm.MethodName)) ∈ lw_all := lw_g (lw_at lw_m4 210 rfl) rfl
theorem q1059 : (Jvm.Cond.code ({ cls := "FranchiseLedger$Outlet", name := "<init>", desc := "(IIJ)V" } : Jvm.MethodName) prog_6_method_2_code (5 : Nat) (Option.none : Option Jvm.ClassFile.FieldType)) ∈ lw_all := lw_g (lw_at lw_m4 211 rfl) rfl
theorem q1060 : (Jvm.Cond.methodLink "FranchiseLedger$Outlet" (9 : Nat) ({ cls := "java/lang/Object", name := "<init>", desc := "()V" } : Jvm.MethodName)) ∈ lw_all := lw_g (lw_at lw_m4 212 rfl) rfl
theorem q1061 : (Jvm.Cond.fieldLink "FranchiseLedger$Outlet" (14 : Nat) "FranchiseLedger$Outlet" "cell" "I") ∈ lw_all := lw_g (lw_at lw_m4 213 rfl) rfl
theorem q1064 : (Jvm.Cond.fieldLink "FranchiseLedger$Outlet" (18 : Nat) "FranchiseLedger$Outlet" "owner" "I") ∈ lw_all := lw_g (lw_at lw_m4 216 rfl) rfl
theorem q1067 : (Jvm.Cond.fieldLink "FranchiseLedger$Outlet" (21 : Nat) "FranchiseLedger$Outlet" "sales" "J") ∈ lw_all := lw_g (lw_at lw_m4 219 rfl) rfl
theorem q1070 : (Jvm.Cond.laysFinal "FranchiseLedger$Outlet" "FranchiseLedger$Outlet" "cell" "I") ∈ lw_all := lw_g (lw_at lw_m4 222 rfl) rfl
theorem q1071 : (Jvm.Cond.soleField "FranchiseLedger$Outlet" "cell") ∈ lw_all := lw_g (lw_at lw_m4 223 rfl) rfl
theorem q1072 : (Jvm.Cond.lays "FranchiseLedger$Outlet" "FranchiseLedger$Outlet" "owner" "I") ∈ lw_all := lw_g (lw_at lw_m4 224 rfl) rfl
theorem q1073 : (Jvm.Cond.soleField "FranchiseLedger$Outlet" "owner") ∈ lw_all := lw_g (lw_at lw_m4 225 rfl) rfl
theorem q1074 : (Jvm.Cond.lays "FranchiseLedger$Outlet" "FranchiseLedger$Outlet" "sales" "J") ∈ lw_all := lw_g (lw_at lw_m4 226 rfl) rfl
theorem q1075 : (Jvm.Cond.soleField "FranchiseLedger$Outlet" "sales") ∈ lw_all := lw_g (lw_at lw_m4 227 rfl) rfl
theorem q1076 : (Jvm.Cond.superclass "FranchiseLedger$Outlet" "java/lang/Object") ∈ lw_all := lw_g (lw_at lw_m4 228 rfl) rfl
theorem q1714 : (Jvm.Cond.instanceMethod ({ cls := "FranchiseLedger$Outlet", name := "isOpen", desc := "()Z" } : Jvm.MethodName)) ∈ lw_all := lw_g (lw_at lw_m7 146 rfl) rfl
theorem q1715 : (Jvm.Cond.selects "FranchiseLedger$Outlet" ({ cls := "FranchiseLedger$Outlet", name := "isOpen", desc := "()Z" } : Jvm.MethodName) ({ cls := "FranchiseLedger$Outlet", name := "isOpen", desc := "()Z" } : Jvm.MethodName)) ∈ lw_all := lw_g (lw_at lw_m7 147 rfl) rfl
theorem q1716 : (Jvm.Cond.code ({ cls := "FranchiseLedger$Outlet", name := "isOpen", desc := "()Z" } : Jvm.MethodName) prog_6_method_3_code (1 : Nat) (Option.some Jvm.ClassFile.FieldType.boolean)) ∈ lw_all := lw_g (lw_at lw_m7 148 rfl) rfl
theorem q1719 : (Jvm.Cond.instanceMethod ({ cls := "FranchiseLedger$Outlet", name := "<init>", desc := "(II)V" } : Jvm.MethodName)) ∈ lw_all := lw_g (lw_at lw_m7 151 rfl) rfl
theorem q1720 : (Jvm.Cond.code ({ cls := "FranchiseLedger$Outlet", name := "<init>", desc := "(II)V" } : Jvm.MethodName) prog_6_method_1_code (3 : Nat) (Option.none : Option Jvm.ClassFile.FieldType)) ∈ lw_all := lw_g (lw_at lw_m7 152 rfl) rfl
theorem q1721 : (Jvm.Cond.methodLink "FranchiseLedger$Outlet" (3 : Nat) ({ cls := "FranchiseLedger$Outlet", name := "<init>", desc := "(IIJ)V" } : Jvm.MethodName)) ∈ lw_all := lw_g (lw_at lw_m7 153 rfl) rfl
theorem q3277 : (Jvm.Cond.castable "FranchiseLedger$Outlet" "java/lang/Object") ∈ lw_tbl := lw_at lw_m14 29 rfl
theorem in_X14 : ∀ w ∈ wsX140, w ∈ lw_all := lw_in wsX140 [1070, 1072, 1074] (by decide +kernel) (by decide +kernel)
/-! FranchiseLedger$Posting -/
set_option maxRecDepth 100000
def RX15 : String := "FranchiseLedger$Posting"
def TX15 : u_T := fun k => match k with
  | 0 => ("FranchiseLedger$Posting", "kind", "I", true)
  | 1 => ("FranchiseLedger$Posting", "subject", "I", true)
  | 2 => ("FranchiseLedger$Posting", "x", "I", true)
  | 3 => ("FranchiseLedger$Posting", "y", "I", true)
  | _ => ("FranchiseLedger$Posting", "amount", "J", true)
def tyX15 : Nat → FieldType := fun k => match k with
  | 0 => .int
  | 1 => .int
  | 2 => .int
  | 3 => .int
  | _ => .long
abbrev wsX150 : List Cond := u_ws RX15 TX15 5
theorem nmX15 : ∀ a, a < 5 → ∀ b, b < 5 → a ≠ b → (TX15 a).2.1 ≠ (TX15 b).2.1 := by decide +kernel
theorem tyX15_ok : ∀ k, k < 5 → parseFieldDescriptor (TX15 k).2.2.1 = some (tyX15 k) := by decide +kernel
abbrev cX15_init : ByteArray := prog_8_method_1_code
def yX15_init : MethodName := ⟨RX15, "<init>", "(IIIIJ)V"⟩
def dkwX15_init_1 : List UInt8 := [181, 0, 19, 42, 22, 5, 181, 0, 22, 177]
abbrev dktX15_init_1 : List UInt8 := dkwX15_init_1 ++ []
def dkwX15_init_0 : List UInt8 := [42, 183, 0, 1, 42, 27, 181, 0, 7, 42, 28, 181, 0, 13, 42, 29, 181, 0, 16, 42, 21, 4]
abbrev dktX15_init_0 : List UInt8 := dkwX15_init_0 ++ dktX15_init_1
theorem dksX15_init_0 : cX15_init.data.toList.drop 0 = dktX15_init_0 := by decide +kernel
theorem dksX15_init_1 : cX15_init.data.toList.drop 22 = dktX15_init_1 := dk_seg dksX15_init_0 22 rfl rfl
theorem dX15_init_0 : decode cX15_init 0 = .ok (.aload_n 0, 1) := dk_42 (dk_at dksX15_init_0 0 rfl rfl)
theorem dX15_init_1 : decode cX15_init 1 = .ok (.invokespecial 1, 3) := dk_183 0 1 (dk_at dksX15_init_0 1 rfl rfl)
theorem dX15_init_4 : decode cX15_init 4 = .ok (.aload_n 0, 1) := dk_42 (dk_at dksX15_init_0 4 rfl rfl)
theorem dX15_init_5 : decode cX15_init 5 = .ok (.iload_n 1, 1) := dk_27 (dk_at dksX15_init_0 5 rfl rfl)
theorem dX15_init_6 : decode cX15_init 6 = .ok (.putfield 7, 3) := dk_181 0 7 (dk_at dksX15_init_0 6 rfl rfl)
theorem dX15_init_9 : decode cX15_init 9 = .ok (.aload_n 0, 1) := dk_42 (dk_at dksX15_init_0 9 rfl rfl)
theorem dX15_init_10 : decode cX15_init 10 = .ok (.iload_n 2, 1) := dk_28 (dk_at dksX15_init_0 10 rfl rfl)
theorem dX15_init_11 : decode cX15_init 11 = .ok (.putfield 13, 3) := dk_181 0 13 (dk_at dksX15_init_0 11 rfl rfl)
theorem dX15_init_14 : decode cX15_init 14 = .ok (.aload_n 0, 1) := dk_42 (dk_at dksX15_init_0 14 rfl rfl)
theorem dX15_init_15 : decode cX15_init 15 = .ok (.iload_n 3, 1) := dk_29 (dk_at dksX15_init_0 15 rfl rfl)
theorem dX15_init_16 : decode cX15_init 16 = .ok (.putfield 16, 3) := dk_181 0 16 (dk_at dksX15_init_0 16 rfl rfl)
theorem dX15_init_19 : decode cX15_init 19 = .ok (.aload_n 0, 1) := dk_42 (dk_at dksX15_init_0 19 rfl rfl)
theorem dX15_init_20 : decode cX15_init 20 = .ok (.iload 4, 2) := dk_21 4 (dk_at dksX15_init_0 20 rfl rfl)
theorem dX15_init_22 : decode cX15_init 22 = .ok (.putfield 19, 3) := dk_181 0 19 (dk_at dksX15_init_1 0 rfl rfl)
theorem dX15_init_25 : decode cX15_init 25 = .ok (.aload_n 0, 1) := dk_42 (dk_at dksX15_init_1 3 rfl rfl)
theorem dX15_init_26 : decode cX15_init 26 = .ok (.lload 5, 2) := dk_22 5 (dk_at dksX15_init_1 4 rfl rfl)
theorem dX15_init_28 : decode cX15_init 28 = .ok (.putfield 22, 3) := dk_181 0 22 (dk_at dksX15_init_1 6 rfl rfl)
theorem dX15_init_31 : decode cX15_init 31 = .ok (.return_, 1) := dk_177 (dk_at dksX15_init_1 9 rfl rfl)
abbrev cX15_kind : ByteArray := prog_8_method_5_code
def yX15_kind : MethodName := ⟨RX15, "kind", "()I"⟩
theorem dX15_kind_0 : decode cX15_kind 0 = .ok (.aload_n 0, 1) := by decide +kernel
theorem dX15_kind_1 : decode cX15_kind 1 = .ok (.getfield 7, 3) := by decide +kernel
theorem dX15_kind_4 : decode cX15_kind 4 = .ok (.ireturn, 1) := by decide +kernel
abbrev cX15_subject : ByteArray := prog_8_method_6_code
def yX15_subject : MethodName := ⟨RX15, "subject", "()I"⟩
theorem dX15_subject_0 : decode cX15_subject 0 = .ok (.aload_n 0, 1) := by decide +kernel
theorem dX15_subject_1 : decode cX15_subject 1 = .ok (.getfield 13, 3) := by decide +kernel
theorem dX15_subject_4 : decode cX15_subject 4 = .ok (.ireturn, 1) := by decide +kernel
abbrev cX15_amount : ByteArray := prog_8_method_9_code
def yX15_amount : MethodName := ⟨RX15, "amount", "()J"⟩
theorem dX15_amount_0 : decode cX15_amount 0 = .ok (.aload_n 0, 1) := by decide +kernel
theorem dX15_amount_1 : decode cX15_amount 1 = .ok (.getfield 22, 3) := by decide +kernel
theorem dX15_amount_4 : decode cX15_amount 4 = .ok (.lreturn, 1) := by decide +kernel
abbrev cX15_x : ByteArray := prog_8_method_7_code
def yX15_x : MethodName := ⟨RX15, "x", "()I"⟩
theorem dX15_x_0 : decode cX15_x 0 = .ok (.aload_n 0, 1) := by decide +kernel
theorem dX15_x_1 : decode cX15_x 1 = .ok (.getfield 16, 3) := by decide +kernel
theorem dX15_x_4 : decode cX15_x 4 = .ok (.ireturn, 1) := by decide +kernel
abbrev cX15_y : ByteArray := prog_8_method_8_code
def yX15_y : MethodName := ⟨RX15, "y", "()I"⟩
theorem dX15_y_0 : decode cX15_y 0 = .ok (.aload_n 0, 1) := by decide +kernel
theorem dX15_y_1 : decode cX15_y 1 = .ok (.getfield 19, 3) := by decide +kernel
theorem dX15_y_4 : decode cX15_y 4 = .ok (.ireturn, 1) := by decide +kernel
theorem q171 : (Jvm.Cond.initialized "FranchiseLedger$Posting") ∈ lw_all := lw_g (lw_at lw_m1 43 rfl) rfl
theorem q1000 : (Jvm.Cond.selects "FranchiseLedger$Posting" ({ cls := "java/lang/Object", name := "getClass", desc := "()Ljava/lang/Class;" } : Jvm.MethodName) ({ cls := "java/lang/Object", name := "getClass", desc := "()Ljava/lang/Class;" } : Jvm.MethodName)) ∈ lw_all := lw_g (lw_at lw_m4 152 rfl) rfl
theorem q1529 : (Jvm.Cond.instantiable "FranchiseLedger$Posting" (5 : Nat)) ∈ lw_all := lw_g (lw_at lw_m6 201 rfl) rfl
theorem q1537 : (Jvm.Cond.instanceMethod ({ cls := "FranchiseLedger$Posting", name := "<init>", desc := "(IIIIJ)V" } : Jvm.MethodName)) ∈ lw_all := lw_g (lw_at lw_m6 209 rfl) rfl
theorem q1538 : (Jvm.Cond.code ({ cls := "FranchiseLedger$Posting", name := "<init>", desc := "(IIIIJ)V" } : Jvm.MethodName) prog_8_method_1_code (7 : Nat) (Option.none : Option Jvm.ClassFile.FieldType)) ∈ lw_all := lw_g (lw_at lw_m6 210 rfl) rfl
theorem q1539 : (Jvm.Cond.methodLink "FranchiseLedger$Posting" (1 : Nat) ({ cls := "java/lang/Record", name := "<init>", desc := "()V" } : Jvm.MethodName)) ∈ lw_all := lw_g (lw_at lw_m6 211 rfl) rfl
theorem q1540 : (Jvm.Cond.fieldLink "FranchiseLedger$Posting" (7 : Nat) "FranchiseLedger$Posting" "kind" "I") ∈ lw_all := lw_g (lw_at lw_m6 212 rfl) rfl
theorem q1541 : (Jvm.Cond.fieldLink "FranchiseLedger$Posting" (13 : Nat) "FranchiseLedger$Posting" "subject" "I") ∈ lw_all := lw_g (lw_at lw_m6 213 rfl) rfl
theorem q1542 : (Jvm.Cond.fieldLink "FranchiseLedger$Posting" (16 : Nat) "FranchiseLedger$Posting" "x" "I") ∈ lw_all := lw_g (lw_at lw_m6 214 rfl) rfl
theorem q1543 : (Jvm.Cond.fieldLink "FranchiseLedger$Posting" (19 : Nat) "FranchiseLedger$Posting" "y" "I") ∈ lw_all := lw_g (lw_at lw_m6 215 rfl) rfl
theorem q1544 : (Jvm.Cond.fieldLink "FranchiseLedger$Posting" (22 : Nat) "FranchiseLedger$Posting" "amount" "J") ∈ lw_all := lw_g (lw_at lw_m6 216 rfl) rfl
theorem q1545 : (Jvm.Cond.laysFinal "FranchiseLedger$Posting" "FranchiseLedger$Posting" "kind" "I") ∈ lw_all := lw_g (lw_at lw_m6 217 rfl) rfl
theorem q1546 : (Jvm.Cond.soleField "FranchiseLedger$Posting" "kind") ∈ lw_all := lw_g (lw_at lw_m6 218 rfl) rfl
theorem q1547 : (Jvm.Cond.laysFinal "FranchiseLedger$Posting" "FranchiseLedger$Posting" "subject" "I") ∈ lw_all := lw_g (lw_at lw_m6 219 rfl) rfl
theorem q1548 : (Jvm.Cond.soleField "FranchiseLedger$Posting" "subject") ∈ lw_all := lw_g (lw_at lw_m6 220 rfl) rfl
theorem q1549 : (Jvm.Cond.laysFinal "FranchiseLedger$Posting" "FranchiseLedger$Posting" "x" "I") ∈ lw_all := lw_g (lw_at lw_m6 221 rfl) rfl
theorem q1550 : (Jvm.Cond.soleField "FranchiseLedger$Posting" "x") ∈ lw_all := lw_g (lw_at lw_m6 222 rfl) rfl
theorem q1551 : (Jvm.Cond.laysFinal "FranchiseLedger$Posting" "FranchiseLedger$Posting" "y" "I") ∈ lw_all := lw_g (lw_at lw_m6 223 rfl) rfl
theorem q1552 : (Jvm.Cond.soleField "FranchiseLedger$Posting" "y") ∈ lw_all := lw_g (lw_at lw_m6 224 rfl) rfl
theorem q1553 : (Jvm.Cond.laysFinal "FranchiseLedger$Posting" "FranchiseLedger$Posting" "amount" "J") ∈ lw_all := lw_g (lw_at lw_m6 225 rfl) rfl
theorem q1554 : (Jvm.Cond.soleField "FranchiseLedger$Posting" "amount") ∈ lw_all := lw_g (lw_at lw_m6 226 rfl) rfl
theorem q1555 : (Jvm.Cond.superclass "FranchiseLedger$Posting" "java/lang/Record") ∈ lw_all := lw_g (lw_at lw_m6 227 rfl) rfl
theorem q1808 : (Jvm.Cond.instanceMethod ({ cls := "FranchiseLedger$Posting", name := "kind", desc := "()I" } : Jvm.MethodName)) ∈ lw_all := lw_g (lw_at lw_m8 0 rfl) rfl
theorem q1809 : (Jvm.Cond.selects "FranchiseLedger$Posting" ({ cls := "FranchiseLedger$Posting", name := "kind", desc := "()I" } : Jvm.MethodName) ({ cls := "FranchiseLedger$Posting", name := "kind", desc := "()I" } : Jvm.MethodName)) ∈ lw_all := lw_g (lw_at lw_m8 1 rfl) rfl
theorem q1810 : (Jvm.Cond.code ({ cls := "FranchiseLedger$Posting", name := "kind", desc := "()I" } : Jvm.MethodName) prog_8_method_5_code (1 : Nat) (Option.some Jvm.ClassFile.FieldType.int)) ∈ lw_all := lw_g (lw_at lw_m8 2 rfl) rfl
theorem q1812 : (Jvm.Cond.instanceMethod ({ cls := "FranchiseLedger$Posting", name := "subject", desc := "()I" } : Jvm.MethodName)) ∈ lw_all := lw_g (lw_at lw_m8 4 rfl) rfl
theorem q1813 : (Jvm.Cond.selects "FranchiseLedger$Posting" ({ cls := "FranchiseLedger$Posting", name := "subject", desc := "()I" } : Jvm.MethodName) ({ cls := "FranchiseLedger$Posting", name := "subject", desc := "()I" } : Jvm.MethodName)) ∈ lw_all := lw_g (lw_at lw_m8 5 rfl) rfl
theorem q1814 : (Jvm.Cond.code ({ cls := "FranchiseLedger$Posting", name := "subject", desc := "()I" } : Jvm.MethodName) prog_8_method_6_code (1 : Nat) (Option.some Jvm.ClassFile.FieldType.int)) ∈ lw_all := lw_g (lw_at lw_m8 6 rfl) rfl
theorem q1816 : (Jvm.Cond.instanceMethod ({ cls := "FranchiseLedger$Posting", name := "amount", desc := "()J" } : Jvm.MethodName)) ∈ lw_all := lw_g (lw_at lw_m8 8 rfl) rfl
theorem q1817 : (Jvm.Cond.selects "FranchiseLedger$Posting" ({ cls := "FranchiseLedger$Posting", name := "amount", desc := "()J" } : Jvm.MethodName) ({ cls := "FranchiseLedger$Posting", name := "amount", desc := "()J" } : Jvm.MethodName)) ∈ lw_all := lw_g (lw_at lw_m8 9 rfl) rfl
theorem q1818 : (Jvm.Cond.code ({ cls := "FranchiseLedger$Posting", name := "amount", desc := "()J" } : Jvm.MethodName) prog_8_method_9_code (1 : Nat) (Option.some Jvm.ClassFile.FieldType.long)) ∈ lw_all := lw_g (lw_at lw_m8 10 rfl) rfl
theorem q1857 : (Jvm.Cond.instanceMethod ({ cls := "FranchiseLedger$Posting", name := "x", desc := "()I" } : Jvm.MethodName)) ∈ lw_all := lw_g (lw_at lw_m8 49 rfl) rfl
theorem q1858 : (Jvm.Cond.selects "FranchiseLedger$Posting" ({ cls := "FranchiseLedger$Posting", name := "x", desc := "()I" } : Jvm.MethodName) ({ cls := "FranchiseLedger$Posting", name := "x", desc := "()I" } : Jvm.MethodName)) ∈ lw_all := lw_g (lw_at lw_m8 50 rfl) rfl
theorem q1859 : (Jvm.Cond.code ({ cls := "FranchiseLedger$Posting", name := "x", desc := "()I" } : Jvm.MethodName) prog_8_method_7_code (1 : Nat) (Option.some Jvm.ClassFile.FieldType.int)) ∈ lw_all := lw_g (lw_at lw_m8 51 rfl) rfl
theorem q1861 : (Jvm.Cond.instanceMethod ({ cls := "FranchiseLedger$Posting", name := "y", desc := "()I" } : Jvm.MethodName)) ∈ lw_all := lw_g (lw_at lw_m8 53 rfl) rfl
theorem q1862 : (Jvm.Cond.selects "FranchiseLedger$Posting" ({ cls := "FranchiseLedger$Posting", name := "y", desc := "()I" } : Jvm.MethodName) ({ cls := "FranchiseLedger$Posting", name := "y", desc := "()I" } : Jvm.MethodName)) ∈ lw_all := lw_g (lw_at lw_m8 54 rfl) rfl
theorem q1863 : (Jvm.Cond.code ({ cls := "FranchiseLedger$Posting", name := "y", desc := "()I" } : Jvm.MethodName) prog_8_method_8_code (1 : Nat) (Option.some Jvm.ClassFile.FieldType.int)) ∈ lw_all := lw_g (lw_at lw_m8 55 rfl) rfl
theorem q3278 : (Jvm.Cond.castable "FranchiseLedger$Posting" "java/lang/Object") ∈ lw_tbl := lw_at lw_m14 30 rfl
theorem in_X15 : ∀ w ∈ wsX150, w ∈ lw_all := lw_in wsX150 [1545, 1547, 1549, 1551, 1553] (by decide +kernel) (by decide +kernel)
/-! FranchiseLedger$Rated -/
set_option maxRecDepth 100000
def RX16 : String := "FranchiseLedger$Rated"
abbrev cX16_rounded : ByteArray := prog_10_method_2_code
def yX16_rounded : MethodName := ⟨RX16, "rounded", "(J)J"⟩
def dkwX16_rounded_0 : List UInt8 := [30, 20, 0, 3, 97, 20, 0, 5, 109, 173]
abbrev dktX16_rounded_0 : List UInt8 := dkwX16_rounded_0 ++ []
theorem dksX16_rounded_0 : cX16_rounded.data.toList.drop 0 = dktX16_rounded_0 := by decide +kernel
theorem dX16_rounded_0 : decode cX16_rounded 0 = .ok (.lload_n 0, 1) := dk_30 (dk_at dksX16_rounded_0 0 rfl rfl)
theorem dX16_rounded_1 : decode cX16_rounded 1 = .ok (.ldc2_w 3, 3) := dk_20 0 3 (dk_at dksX16_rounded_0 1 rfl rfl)
theorem dX16_rounded_4 : decode cX16_rounded 4 = .ok (.ladd, 1) := dk_97 (dk_at dksX16_rounded_0 4 rfl rfl)
theorem dX16_rounded_5 : decode cX16_rounded 5 = .ok (.ldc2_w 5, 3) := dk_20 0 5 (dk_at dksX16_rounded_0 5 rfl rfl)
theorem dX16_rounded_8 : decode cX16_rounded 8 = .ok (.ldiv, 1) := dk_109 (dk_at dksX16_rounded_0 8 rfl rfl)
theorem dX16_rounded_9 : decode cX16_rounded 9 = .ok (.lreturn, 1) := dk_173 (dk_at dksX16_rounded_0 9 rfl rfl)
abbrev cX16_of : ByteArray := prog_10_method_3_code
def yX16_of : MethodName := ⟨RX16, "of", "(J)J"⟩
def dkwX16_of_0 : List UInt8 := [31, 42, 185, 0, 7, 1, 0, 133, 105, 184, 0, 13, 173]
abbrev dktX16_of_0 : List UInt8 := dkwX16_of_0 ++ []
theorem dksX16_of_0 : cX16_of.data.toList.drop 0 = dktX16_of_0 := by decide +kernel
theorem dX16_of_0 : decode cX16_of 0 = .ok (.lload_n 1, 1) := dk_31 (dk_at dksX16_of_0 0 rfl rfl)
theorem dX16_of_1 : decode cX16_of 1 = .ok (.aload_n 0, 1) := dk_42 (dk_at dksX16_of_0 1 rfl rfl)
theorem dX16_of_2 : decode cX16_of 2 = .ok (.invokeinterface 7 1, 5) := by decide +kernel
theorem dX16_of_7 : decode cX16_of 7 = .ok (.i2l, 1) := dk_133 (dk_at dksX16_of_0 7 rfl rfl)
theorem dX16_of_8 : decode cX16_of 8 = .ok (.lmul, 1) := dk_105 (dk_at dksX16_of_0 8 rfl rfl)
theorem dX16_of_9 : decode cX16_of 9 = .ok (.invokestatic 13, 3) := dk_184 0 13 (dk_at dksX16_of_0 9 rfl rfl)
theorem dX16_of_12 : decode cX16_of 12 = .ok (.lreturn, 1) := dk_173 (dk_at dksX16_of_0 12 rfl rfl)
theorem q174 : (Jvm.Cond.initialized "FranchiseLedger$Rated") ∈ lw_all := lw_g (lw_at lw_m1 46 rfl) rfl
theorem q1963 : (Jvm.Cond.static ({ cls := "FranchiseLedger$Rated", name := "rounded", desc := "(J)J" } : Jvm.MethodName)) ∈ lw_all := lw_g (lw_at lw_m8 155 rfl) rfl
theorem q1964 : (Jvm.Cond.code ({ cls := "FranchiseLedger$Rated", name := "rounded", desc := "(J)J" } : Jvm.MethodName) prog_10_method_2_code (2 : Nat) (Option.some Jvm.ClassFile.FieldType.long)) ∈ lw_all := lw_g (lw_at lw_m8 156 rfl) rfl
theorem q1965 : (Jvm.Cond.constantLong "FranchiseLedger$Rated" (3 : Nat) (5000 : Int64)) ∈ lw_all := lw_g (lw_at lw_m8 157 rfl) rfl
theorem q1966 : (Jvm.Cond.constantLong "FranchiseLedger$Rated" (5 : Nat) (10000 : Int64)) ∈ lw_all := lw_g (lw_at lw_m8 158 rfl) rfl
theorem q1967 : (Jvm.Cond.declares ({ cls := "FranchiseLedger$Rated", name := "of", desc := "(J)J" } : Jvm.MethodName)) ∈ lw_tbl := lw_at lw_m8 159 rfl
theorem q1969 : (Jvm.Cond.instanceMethod ({ cls := "FranchiseLedger$Rated", name := "of", desc := "(J)J" } : Jvm.MethodName)) ∈ lw_all := lw_g (lw_at lw_m8 161 rfl) rfl
theorem q1970 : (Jvm.Cond.publicMethod ({ cls := "FranchiseLedger$Rated", name := "of", desc := "(J)J" } : Jvm.MethodName)) ∈ lw_tbl := lw_at lw_m8 162 rfl
theorem q1971 : (Jvm.Cond.code ({ cls := "FranchiseLedger$Rated", name := "of", desc := "(J)J" } : Jvm.MethodName) prog_10_method_3_code (3 : Nat) (Option.some Jvm.ClassFile.FieldType.long)) ∈ lw_all := lw_g (lw_at lw_m8 163 rfl) rfl
theorem q1972 : (Jvm.Cond.interfaceEntry "FranchiseLedger$Rated" (7 : Nat)) ∈ lw_tbl := lw_at lw_m8 164 rfl
theorem q1973 : (Jvm.Cond.methodLink "FranchiseLedger$Rated" (7 : Nat) ({ cls := "FranchiseLedger$Rated", name := "rate", desc := "()I" } : Jvm.MethodName)) ∈ lw_all := lw_g (lw_at lw_m8 165 rfl) rfl
theorem q1974 : (Jvm.Cond.interfaceMethod "FranchiseLedger$Rated" "FranchiseLedger$Rated" "rate" "()I") ∈ lw_tbl := lw_at lw_m8 166 rfl
theorem q1975 : (Jvm.Cond.declares ({ cls := "FranchiseLedger$Rated", name := "rate", desc := "()I" } : Jvm.MethodName)) ∈ lw_tbl := lw_at lw_m8 167 rfl
theorem q1986 : (Jvm.Cond.methodLink "FranchiseLedger$Rated" (13 : Nat) ({ cls := "FranchiseLedger$Rated", name := "rounded", desc := "(J)J" } : Jvm.MethodName)) ∈ lw_all := lw_g (lw_at lw_m8 178 rfl) rfl
